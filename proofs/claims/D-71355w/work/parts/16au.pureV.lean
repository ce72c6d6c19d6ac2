set_option maxRecDepth 100000
set_option linter.unusedSimpArgs false
set_option linter.unusedVariables false

/-! PURE V: an island takes another; images -/
theorem cp_lt_z (f g : Nat → Int32) {n k : Nat} (h : k < n) : cp_ f g n k = f k := if_pos h
theorem x1_tkA_z (σ : Me_) (p o : Nat) (hd : p + 35 ≤ o ∨ o + 35 ≤ p) : ∃ τ, (∀ kk : Me_ → Option Me_, (nm_ (α := Me_) (me_arr σ (p + 1) (cp_ (σ.1 (o + 1)) (σ.1 (p + 1)) 3)) fun σ_1 =>
    nm_ (α := Me_) (me_set σ_1 p 1 (σ_1.1 o 1)) fun σ_2 =>
    nm_ (α := Me_) (me_arr σ_2 (p + 2) (cp_ (σ_2.1 (o + 2)) (σ_2.1 (p + 2)) 8)) fun σ_3 =>
    nm_ (α := Me_) (me_arr σ_3 (p + 3) (cp_ (σ_3.1 (o + 3)) (σ_3.1 (p + 3)) 8)) fun σ_4 =>
    nm_ (α := Me_) (me_set σ_4 p 4 (σ_4.1 o 4)) fun σ_5 =>
    nm_ (α := Me_) (me_arr σ_5 (p + 4) (cp_ (σ_5.1 (o + 4)) (σ_5.1 (p + 4)) 20)) fun σ_6 =>
    nm_ (α := Me_) (me_set σ_6 p 6 (σ_6.1 o 6)) fun σ_7 =>
    nm_ (α := Me_) (me_arr σ_7 (p + 5) (cp_ (σ_7.1 (o + 5)) (σ_7.1 (p + 5)) 24)) fun σ_8 =>
    nm_ (α := Me_) (me_set σ_8 p 8 (σ_8.1 o 8)) fun σ_9 =>
    nm_ (α := Me_) (me_arr σ_9 (p + 6) (cp_ (σ_9.1 (o + 6)) (σ_9.1 (p + 6)) 24)) fun σ_10 =>
    nm_ (α := Me_) (me_set σ_10 p 10 (σ_10.1 o 10)) fun σ_11 => kk σ_11) = kk τ) ∧ τ.2 = σ.2 ∧ (∀ j, (j < p ∨ p + 7 ≤ j) → τ.1 j = σ.1 j) ∧ (∀ k, k = 1 ∨ k = 4 ∨ k = 6 ∨ k = 8 ∨ k = 10 → τ.1 p k = σ.1 o k) ∧ (∀ k, k < 3 → τ.1 (p + 1) k = σ.1 (o + 1) k) ∧ (∀ k, k < 8 → τ.1 (p + 2) k = σ.1 (o + 2) k) ∧ (∀ k, k < 8 → τ.1 (p + 3) k = σ.1 (o + 3) k) ∧ (∀ k, k < 20 → τ.1 (p + 4) k = σ.1 (o + 4) k) ∧ (∀ k, k < 24 → τ.1 (p + 5) k = σ.1 (o + 5) k) ∧ (∀ k, k < 24 → τ.1 (p + 6) k = σ.1 (o + 6) k) := by
  refine ⟨me_arr (me_arr (me_arr (me_arr (me_arr (me_arr (me_arr σ (p + 1) (cp_ (σ.1 (o + 1)) (σ.1 (p + 1)) 3)) (p + 2) (cp_ (σ.1 (o + 2)) (σ.1 (p + 2)) 8)) (p + 3) (cp_ (σ.1 (o + 3)) (σ.1 (p + 3)) 8)) (p + 4) (cp_ (σ.1 (o + 4)) (σ.1 (p + 4)) 20)) (p + 5) (cp_ (σ.1 (o + 5)) (σ.1 (p + 5)) 24)) (p + 6) (cp_ (σ.1 (o + 6)) (σ.1 (p + 6)) 24)) p (upd (upd (upd (upd (upd (σ.1 p) 1 (σ.1 o 1)) 4 (σ.1 o 4)) 6 (σ.1 o 6)) 8 (σ.1 o 8)) 10 (σ.1 o 10)), ?_, rfl, ?_, ?_, ?_, ?_, ?_, ?_, ?_, ?_⟩
  · intro kk
    simp (disch := omega) only [nm_eq_z, ms_arr_z, ma_same_z, ma_ne_z]
    congr 1
    refine Prod.ext ?_ rfl
    funext j
    by_cases h0 : j = p
    · subst h0; simp (disch := omega) only [ma_same_z, ma_ne_z]
    · by_cases h1 : j = p + 1
      · subst h1; simp (disch := omega) only [ma_same_z, ma_ne_z]
      · by_cases h2 : j = p + 2
        · subst h2; simp (disch := omega) only [ma_same_z, ma_ne_z]
        · by_cases h3 : j = p + 3
          · subst h3; simp (disch := omega) only [ma_same_z, ma_ne_z]
          · by_cases h4 : j = p + 4
            · subst h4; simp (disch := omega) only [ma_same_z, ma_ne_z]
            · by_cases h5 : j = p + 5
              · subst h5; simp (disch := omega) only [ma_same_z, ma_ne_z]
              · by_cases h6 : j = p + 6
                · subst h6; simp (disch := omega) only [ma_same_z, ma_ne_z]
                · simp (disch := omega) only [ma_ne_z]
  · intro j hj; simp (disch := omega) only [ma_ne_z]
  · intro k hk
    simp (disch := omega) only [ma_same_z]
    rcases hk with q | q | q | q | q <;> subst q <;> rfl
  · intro k hk; simp (disch := omega) only [ma_same_z, ma_ne_z]; exact cp_lt_z _ _ hk
  · intro k hk; simp (disch := omega) only [ma_same_z, ma_ne_z]; exact cp_lt_z _ _ hk
  · intro k hk; simp (disch := omega) only [ma_same_z, ma_ne_z]; exact cp_lt_z _ _ hk
  · intro k hk; simp (disch := omega) only [ma_same_z, ma_ne_z]; exact cp_lt_z _ _ hk
  · intro k hk; simp (disch := omega) only [ma_same_z, ma_ne_z]; exact cp_lt_z _ _ hk
  · intro k hk; simp (disch := omega) only [ma_same_z, ma_ne_z]; exact cp_lt_z _ _ hk
theorem x1_takes_z {σ : Me_} {p o : Nat} (hd : p + 35 ≤ o ∨ o + 35 ≤ p) {R : Nat → Int32} {n f a c e w : Nat} (z : Fu_z σ o R n f a c e w) : ∃ τ, F_X1_takes σ p o = some τ ∧ τ.2 = σ.2 ∧ (∀ j, (j < p ∨ p + 35 ≤ j) → τ.1 j = σ.1 j) ∧ Fu_z τ p R n f a c e w := by
  obtain ⟨τ, e1, e2, e3, e4, k1, k2, k3, k4, k5, k6⟩ := x1_tkA_z σ p o hd
  obtain ⟨τ1, a1, a2, a3, a4, a5⟩ := x2_tk_z τ (p + 7) (o + 7) (by omega)
  have hn8 := z.iv.n8; have hf3 := z.iv.f3; have ha5 := z.a5; have hc6 := z.c6; have he6 := z.e6; have hw8 := z.w8
  have sr := z.sr
  unfold F_X1_takes
  rw [e1, a1, bd_some_z]
  simp only [nm_eq_z]
  have o13 : ∀ s : Me_, (∀ j, (j < p + 12 ∨ p + 35 ≤ j) → s.1 j = τ1.1 j) → s.1 o 13 = nI w := fun s hs => by
    rw [hs o (by omega), a3 o (by omega) (by omega), e3 o (by omega)]; exact z.q5
  have L := loopI_z (F_X1_takes_L151 p o (fun σ_13 => some (me_set σ_13 p 13 (σ_13.1 o 13)))) (fun k s => s.2 = σ.2 ∧ (∀ j, (j < p + 12 ∨ p + 35 ≤ j) → s.1 j = τ1.1 j) ∧ (∀ u, u < k → ∀ m, m < 8 → s.1 (p + (12 + 3 * u)) m = σ.1 (o + (12 + 3 * u)) m) ∧ (∀ u, u < k → ∀ m, m < 3 → s.1 (p + (13 + 3 * u)) m = σ.1 (o + (13 + 3 * u)) m)) w (fun s => some (me_set s p 13 (s.1 o 13))) ?_ ?_ FU_ 0 τ1 (Nat.zero_le _) (fu_lt_z (by omega)) ⟨by rw [a2, e2], fun _ _ => rfl, fun u hu => absurd hu (Nat.not_lt_zero _), fun u hu => absurd hu (Nat.not_lt_zero _)⟩
  · obtain ⟨s, ⟨p1, p2, p3, p4⟩, es⟩ := L
    rw [show (0 : Int32) = nI 0 from rfl, es, o13 s p2]
    have lo : ∀ j, j < p + 7 → (me_set s p 13 (nI w)).1 j = if j = p then upd (τ.1 p) 13 (nI w) else τ.1 j := fun j hj => by
      by_cases q : j = p
      · subst q; rw [if_pos rfl, ms_same_z, p2 j (by omega), a3 j (by omega) (by omega)]
      · rw [if_neg q, ms_ne_z _ _ _ q, p2 j (by omega), a3 j (by omega) (by omega)]
    have lp : ∀ k, k ≠ 13 → (me_set s p 13 (nI w)).1 p k = τ.1 p k := fun k hk => by rw [lo p (by omega), if_pos rfl, upd_ne_z _ _ hk]
    have l8 : ∀ m, m < 8 → (me_set s p 13 (nI w)).1 (p + 7 + 1) m = σ.1 (o + 7 + 1) m := fun m hm => by
      rw [ms_ne_z _ _ _ (by omega), p2 _ (by omega), a4 m hm, e3 _ (by omega)]
    have l9 : ∀ m, m < 3 → (me_set s p 13 (nI w)).1 (p + 7 + 2) m = σ.1 (o + 7 + 2) m := fun m hm => by
      rw [ms_ne_z _ _ _ (by omega), p2 _ (by omega), a5 m hm, e3 _ (by omega)]
    refine ⟨_, rfl, by rw [ms_2_z, p1], ?_, ?_⟩
    · intro j hj; rw [ms_ne_z _ _ _ (by omega), p2 j (by omega), a3 j (by omega) (by omega), e3 j (by omega)]
    · refine ⟨z.iv, ⟨?_, ?_, ?_, ?_, ?_, ?_, ?_⟩, ha5, hc6, he6, hw8, z.r2, z.r3, z.r4, z.r5, ?_, ?_, ?_, ?_, ?_, ?_, ?_, z.sv, z.nv, z.mv, ?_, ?_, z.pz⟩
      · rw [lp _ (by omega), e4 4 (by omega)]; exact sr.e4
      · rw [lp _ (by omega), e4 1 (by omega)]; exact sr.e1
      · intro m hm; rw [l8 m (by omega)]; exact sr.pl m hm
      · intro m hm; rw [l9 m (by omega)]; exact sr.cl m hm
      · intro m hm; rw [lo _ (by omega), if_neg (by omega), k1 m (by omega)]; exact sr.so m hm
      · intro m hm; rw [lo _ (by omega), if_neg (by omega), k2 m (by omega)]; exact sr.kd m hm
      · intro m hm; rw [lo _ (by omega), if_neg (by omega), k3 m (by omega)]; exact sr.sk m hm
      · rw [lp _ (by omega), e4 6 (by omega)]; exact z.q2
      · rw [lp _ (by omega), e4 8 (by omega)]; exact z.q3
      · rw [lp _ (by omega), e4 10 (by omega)]; exact z.q4
      · rw [ms_same_z, upd_same_z]
      · intro i hi; rw [lo _ (by omega), if_neg (by omega), k4 i (by omega)]; exact z.se i hi
      · intro i hi; rw [lo _ (by omega), if_neg (by omega), k5 i (by omega)]; exact z.no i hi
      · intro i hi; rw [lo _ (by omega), if_neg (by omega), k6 i (by omega)]; exact z.ma i hi
      · intro j hj m hm; obtain ⟨x, hx, ex, eq⟩ := z.pa j hj m hm
        exact ⟨x, hx, ex, by rw [ms_ne_z _ _ _ (by omega), p3 j hj m (by omega), eq]⟩
      · intro j hj m hm; obtain ⟨x, hx, ex, eq⟩ := z.pc j hj m hm
        exact ⟨x, hx, ex, by rw [ms_ne_z _ _ _ (by omega), p4 j hj m (by omega), eq]⟩
  · intro q s ⟨p1, p2, p3, p4⟩
    rw [F_X1_takes_L151, o13 s p2, if_pos (by rw [nI_le_z (by omega) (by omega)]; omega)]
  · intro k q s hk ⟨p1, p2, p3, p4⟩
    obtain ⟨s', b1, b2, b3, b4, b5⟩ := x2_tk_z s (p + 10 + 1 + 3 * k) (o + 10 + 1 + 3 * k) (by omega)
    have hb : inb_ (nI k) 8 = true := by rw [nI_inb_z (by omega)]; omega
    refine ⟨s', ⟨by rw [b2, p1], ?_, ?_, ?_⟩, ?_⟩
    · intro j hj; rw [b3 j (by omega) (by omega)]; exact p2 j hj
    · intro u hu m hm
      by_cases q : u = k
      · subst q
        rw [show p + (12 + 3 * u) = p + 10 + 1 + 3 * u + 1 by omega, b4 m hm, show o + 10 + 1 + 3 * u + 1 = o + (12 + 3 * u) by omega, p2 _ (by omega), a3 _ (by omega) (by omega), e3 _ (by omega)]
      · rw [b3 _ (by omega) (by omega)]; exact p3 u (by omega) m hm
    · intro u hu m hm
      by_cases q : u = k
      · subst q
        rw [show p + (13 + 3 * u) = p + 10 + 1 + 3 * u + 2 by omega, b5 m hm, show o + 10 + 1 + 3 * u + 2 = o + (13 + 3 * u) by omega, p2 _ (by omega), a3 _ (by omega) (by omega), e3 _ (by omega)]
      · rw [b3 _ (by omega) (by omega)]; exact p4 u (by omega) m hm
    · rw [F_X1_takes_L151, o13 s p2, if_neg (by rw [nI_le_z (by omega) (by omega)]; omega), if_pos hb, if_pos hb, nI_nat_z (by omega), b1, bd_some_z, nm_eq_z, nI_s_z]
