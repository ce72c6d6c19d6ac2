set_option maxRecDepth 100000
set_option linter.unusedSimpArgs false
set_option linter.unusedVariables false

/-! PURE J: what is remembered -/
def shf_z (T : Nat → Int32) (k : Nat) : Nat → Int32 := fun i => if 104 ≤ i ∧ i < 104 + k then T (i + 11) else T i
def pst_z (T : Nat → Int32) (w k : Nat) : Nat → Int32 := fun i => if 104 + 11 * w ≤ i ∧ i < 104 + 11 * w + k then T (i - (104 + 11 * w) + 6) else T i
theorem shf_zero_z (T : Nat → Int32) : shf_z T 0 = T := by funext i; exact if_neg (by omega)
theorem shf_upd_z (T : Nat → Int32) (k : Nat) : upd (shf_z T k) (104 + k) (shf_z T k (115 + k)) = shf_z T (k + 1) := by
  funext j; unfold upd shf_z
  by_cases h : j = 104 + k
  · rw [if_pos h, if_neg (by omega), if_pos (by omega), h]; congr 1; omega
  · rw [if_neg h]; by_cases q : 104 ≤ j ∧ j < 104 + k
    · rw [if_pos q, if_pos (by omega)]
    · rw [if_neg q, if_neg (by omega)]
theorem pst_zero_z (T : Nat → Int32) (w : Nat) : pst_z T w 0 = T := by funext i; exact if_neg (by omega)
theorem pst_upd_z (T : Nat → Int32) (w k : Nat) (hk : k < 11) : upd (pst_z T w k) (104 + 11 * w + k) (pst_z T w k (6 + k)) = pst_z T w (k + 1) := by
  funext j; unfold upd pst_z
  by_cases h : j = 104 + 11 * w + k
  · rw [if_pos h, if_neg (by omega), if_pos (by omega), h]; congr 1; omega
  · rw [if_neg h]; by_cases q : 104 + 11 * w ≤ j ∧ j < 104 + 11 * w + k
    · rw [if_pos q, if_pos (by omega)]
    · rw [if_neg q, if_neg (by omega)]
theorem pst_lo_z (T : Nat → Int32) (w k i : Nat) (h : i < 104) : pst_z T w k i = T i := if_neg (by omega)
theorem pst_in_z (T : Nat → Int32) (w i : Nat) (h : i < 11) : pst_z T w 11 (104 + (11 * w + i)) = T (6 + i) := by
  unfold pst_z; rw [if_pos (by omega)]; congr 1; omega
theorem pst_bf_z (T : Nat → Int32) (w j i : Nat) (h : i < 11) (hj : j < w) : pst_z T w 11 (104 + (11 * j + i)) = T (104 + (11 * j + i)) := if_neg (by omega)
theorem shf_lo_z (T : Nat → Int32) (k i : Nat) (h : i < 104) : shf_z T k i = T i := if_neg (by omega)
theorem shf_in_z (T : Nat → Int32) (j i : Nat) (h : i < 11) (hj : j < 7) : shf_z T 77 (104 + (11 * j + i)) = T (104 + (11 * (j + 1) + i)) := by
  unfold shf_z; rw [if_pos (by omega)]; congr 1; omega
def svr_z (T : Nat → Int32) (w : Nat) : Nat → Int32 := if w = 8 then upd (pst_z (upd (shf_z T 77) 5 7) 7 11) 5 8 else upd (pst_z T w 11) 5 (nI (w + 1))
theorem x6_save53_z (σ : Me_) (T : Nat → Int32) (w : Nat) (hT : σ.1 91 = T) (h5 : T 5 = nI w) (hw : w < 8) (kk : Me_ → Option Me_) : F_X6_save_L53 kk FU_ 0 σ = kk (me_arr σ 91 (pst_z T w 11)) := by
  have := loop2_z (F_X6_save_L53 kk) (fun k => nI k) (fun k => me_arr σ 91 (pst_z T w k)) (kk (me_arr σ 91 (pst_z T w 11))) 11 ?_ ?_ FU_ 0 (Nat.zero_le _) (fu_lt_z (by omega))
  · rw [pst_zero_z, ← hT, ma_self_z] at this; rw [← hT]; exact this
  · intro q
    simp (disch := omega) only [F_X6_save_L53, nI_lit_z, nI_le_z]
    rw [if_pos (by omega)]
  · intro k q hk
    have e1 : (6 : Int32) + nI k = nI (6 + k) := nI_add_z 6 k
    have e2 : (11 : Int32) * nI w = nI (11 * w) := nI_mul_z 11 w
    have e3 : (104 : Int32) + nI (11 * w) = nI (104 + 11 * w) := nI_add_z 104 _
    have e4 : (11 : Int32) = nI 11 := rfl
    have l5 : pst_z T w k 5 = nI w := by rw [pst_lo_z _ _ _ _ (by omega)]; exact h5
    simp (disch := omega) only [F_X6_save_L53, nm_eq_z, ms_arr_z, ma_same_z, ma_ma_z, l5, e1, e2, e3, nI_add_z, nI_inb_z, nI_nat_z, nI_s_z]
    rw [e4, if_neg (by rw [nI_le_z (by omega) (by omega)]; omega), if_pos (by omega), if_pos (by omega), pst_upd_z _ _ _ hk]
theorem x6_save_z {σ : Me_} {T : Nat → Int32} {w : Nat} (hT : σ.1 91 = T) (h5 : T 5 = nI w) (hw : w ≤ 8) : F_X6_save σ = some (me_arr σ 91 (svr_z T w)) := by
  unfold F_X6_save svr_z
  by_cases h : w = 8
  · subst h
    have e8 : nI 8 = 8 := rfl
    simp only [nm_eq_z, hT, h5, e8, if_true]
    have := loop2_z (F_X6_save_L13 (fun σ_6 => F_X6_save_L53 (fun σ_2 => some (me_set σ_2 91 5 (σ_2.1 91 5 + 1))) FU_ 0 (me_set σ_6 91 5 7))) (fun k => nI k) (fun k => me_arr σ 91 (shf_z T k)) (some (me_arr σ 91 (upd (pst_z (upd (shf_z T 77) 5 7) 7 11) 5 8))) 77 ?_ ?_ FU_ 0 (Nat.zero_le _) (fu_lt_z (by omega))
    · rw [shf_zero_z, ← hT, ma_self_z] at this; rw [← hT]; exact this
    · intro q
      simp (disch := omega) only [F_X6_save_L13, nI_lit_z, nI_le_z]
      rw [if_pos (by omega)]
      rw [show nI 0 = 0 from rfl, x6_save53_z _ (upd (shf_z T 77) 5 (nI 7)) 7 (by rw [ms_same_z, ma_same_z]) (by rw [upd_same_z]) (by omega)]
      simp only [ms_arr_z, ma_same_z, ma_ma_z, pst_lo_z _ _ _ 5 (show 5 < 104 by omega), upd_same_z, nI_add_z]
    · intro k q hk
      have e1 : (115 : Int32) + nI k = nI (115 + k) := nI_add_z 115 k
      have e2 : (104 : Int32) + nI k = nI (104 + k) := nI_add_z 104 k
      have e4 : (77 : Int32) = nI 77 := rfl
      simp (disch := omega) only [F_X6_save_L13, nm_eq_z, ms_arr_z, ma_same_z, ma_ma_z, e1, e2, nI_inb_z, nI_nat_z, nI_s_z]
      rw [e4, if_neg (by rw [nI_le_z (by omega) (by omega)]; omega), if_pos (by omega), if_pos (by omega), shf_upd_z]
  · have h8 : ¬ nI w = 8 := by rw [nI_lit_z, nI_inj_z (by omega) (by omega)]; exact h
    simp only [nm_eq_z, hT, h5, h8, h, if_false]
    rw [x6_save53_z σ T w hT h5 (by omega)]
    simp only [ms_arr_z, ma_same_z, ma_ma_z, pst_lo_z _ _ _ 5 (show 5 < 104 by omega), h5, nI_s_z]
/-- a loop with what holds -/
theorem loopI_z {A ρ : Type} (L : Nat → Int32 → A → Option ρ) (P : Nat → A → Prop) (n : Nat) (res : A → Option ρ) (hend : ∀ q s, P n s → L (q + 1) (nI n) s = res s) (hstep : ∀ k q s, k < n → P k s → ∃ s', P (k + 1) s' ∧ L (q + 1) (nI k) s = L q (nI (k + 1)) s') : ∀ q k s, k ≤ n → n - k < q → P k s → ∃ s', P n s' ∧ L q (nI k) s = res s' := by
  intro q
  induction q with
  | zero => intro k s _ h _; omega
  | succ q ih =>
    intro k s hk hf hp
    by_cases h : k = n
    · subst h; exact ⟨s, hp, hend q s hp⟩
    · obtain ⟨s', hp', e⟩ := hstep k q s (by omega) hp
      obtain ⟨t, ht, et⟩ := ih (k + 1) s' (by omega) (by omega) hp'
      exact ⟨t, ht, by rw [e, et]⟩
theorem x2_takes_z (σ : Me_) (o1 o2 : Nat) : F_X2_takes σ o1 o2 = some (me_arr (me_arr σ (o1 + 1) (cp_ (σ.1 (o2 + 1)) (σ.1 (o1 + 1)) 8)) (o1 + 2) (cp_ ((me_arr σ (o1 + 1) (cp_ (σ.1 (o2 + 1)) (σ.1 (o1 + 1)) 8)).1 (o2 + 2)) ((me_arr σ (o1 + 1) (cp_ (σ.1 (o2 + 1)) (σ.1 (o1 + 1)) 8)).1 (o1 + 2)) 3)) := rfl
/-- a state takes another -/
theorem x2_tk_z (σ : Me_) (o1 o2 : Nat) (h : o1 + 3 ≤ o2 ∨ o2 + 3 ≤ o1) : ∃ τ, F_X2_takes σ o1 o2 = some τ ∧ τ.2 = σ.2 ∧ (∀ j, j ≠ o1 + 1 → j ≠ o1 + 2 → τ.1 j = σ.1 j) ∧ (∀ m, m < 8 → τ.1 (o1 + 1) m = σ.1 (o2 + 1) m) ∧ (∀ m, m < 3 → τ.1 (o1 + 2) m = σ.1 (o2 + 2) m) := by
  refine ⟨_, x2_takes_z σ o1 o2, rfl, ?_, ?_, ?_⟩
  · intro j h1 h2; rw [ma_ne_z _ _ h2, ma_ne_z _ _ h1]
  · intro m hm; rw [ma_ne_z _ _ (by omega), ma_same_z]; exact if_pos hm
  · intro m hm; rw [ma_same_z]
    show (if m < 3 then _ else _) = _
    rw [if_pos hm, ma_ne_z _ _ (by omega)]
theorem fu_keep_z {σ τ : Me_} {R R' : Nat → Int32} {n f a c e w w' : Nat} (z : Fu_z σ 1 R n f a c e w) (o : ∀ j, 2 ≤ j → j < 12 → τ.1 j = σ.1 j) (o1 : ∀ k, k ≠ 13 → τ.1 1 k = σ.1 1 k) (oR : ∀ i, i < 104 → i ≠ 5 → R' i = R i) (hw : w' ≤ 8) (h5 : R' 5 = nI w') (k5 : τ.1 1 13 = nI w') (pa : ∀ j, j < w' → ∀ m, m < n → ∃ p, p ≤ f ∧ R' (104 + (11 * j + m)) = nI p ∧ τ.1 (1 + (12 + 3 * j)) m = nI p - 1) (pc : ∀ j, j < w' → ∀ h, h < f → ∃ x, x ≤ 99 ∧ R' (112 + (11 * j + h)) = nI x ∧ τ.1 (1 + (13 + 3 * j)) h = nI x) (pz : ∀ j, j < w' → ∀ h, h < 3 → f ≤ h → R' (112 + (11 * j + h)) = 0) : Fu_z τ 1 R' n f a c e w' := by
  have hn8 := z.iv.n8; have hf3 := z.iv.f3; have ha5 := z.a5; have hc6 := z.c6; have he6 := z.e6; have hw8 := z.w8
  have iv := z.iv
  have sr := z.sr
  refine ⟨⟨hn8, hf3, ?_, ?_, ?_, ?_, ?_, ?_, ?_, ?_⟩, ⟨?_, ?_, ?_, ?_, ?_, ?_, ?_⟩, ha5, hc6, he6, hw, ?_, ?_, ?_, h5, ?_, ?_, ?_, k5, ?_, ?_, ?_, ?_, ?_, ?_, pa, pc, pz⟩
  · rw [oR _ (by omega) (by omega)]; exact iv.t0
  · rw [oR _ (by omega) (by omega)]; exact iv.t1
  · intro m hm; rw [oR _ (by omega) (by omega)]; exact iv.pl m hm
  · intro m hm; rw [oR _ (by omega) (by omega)]; exact iv.cl m hm
  · intro m hm hq; rw [oR _ (by omega) (by omega)]; exact iv.cz m hm hq
  · intro m hm; rw [oR _ (by omega) (by omega)]; exact iv.so m hm
  · intro m hm; rw [oR _ (by omega) (by omega)]; exact iv.kd m hm
  · intro m hm; rw [oR _ (by omega) (by omega)]; exact iv.sk m hm
  · rw [o1 _ (by omega)]; exact sr.e4
  · rw [o1 _ (by omega)]; exact sr.e1
  · intro m hm; rw [o _ (by omega) (by omega), oR _ (by omega) (by omega)]; exact sr.pl m hm
  · intro m hm; rw [o _ (by omega) (by omega), oR _ (by omega) (by omega)]; exact sr.cl m hm
  · intro m hm; rw [o _ (by omega) (by omega), oR _ (by omega) (by omega)]; exact sr.so m hm
  · intro m hm; rw [o _ (by omega) (by omega), oR _ (by omega) (by omega)]; exact sr.kd m hm
  · intro m hm; rw [o _ (by omega) (by omega), oR _ (by omega) (by omega)]; exact sr.sk m hm
  · rw [oR _ (by omega) (by omega)]; exact z.r2
  · rw [oR _ (by omega) (by omega)]; exact z.r3
  · rw [oR _ (by omega) (by omega)]; exact z.r4
  · rw [o1 _ (by omega)]; exact z.q2
  · rw [o1 _ (by omega)]; exact z.q3
  · rw [o1 _ (by omega)]; exact z.q4
  · intro m hm; rw [o _ (by omega) (by omega), oR _ (by omega) (by omega)]; exact z.se m (by omega)
  · intro m hm; rw [o _ (by omega) (by omega), oR _ (by omega) (by omega)]; exact z.no m (by omega)
  · intro m hm; rw [o _ (by omega) (by omega), oR _ (by omega) (by omega)]; exact z.ma m (by omega)
  · intro m hm; rw [oR _ (by omega) (by omega)]; exact z.sv m (by omega)
  · intro m hm; rw [oR _ (by omega) (by omega), oR _ (by omega) (by omega)]; exact z.nv m (by omega)
  · intro m hm; rw [oR _ (by omega) (by omega), oR _ (by omega) (by omega)]; exact z.mv m (by omega)
theorem x1_rem_z {σ : Me_} {R : Nat → Int32} {n f a c e w : Nat} (z : Fu_z σ 1 R n f a c e w) : ∃ σ1, F_X1_remembers σ 1 = some σ1 ∧ σ1.2 = σ.2 ∧ (∀ j, j ≠ 1 → (j < 12 ∨ 36 ≤ j) → σ1.1 j = σ.1 j) ∧ Fu_z σ1 1 (svr_z R w) n f a c e (if w = 8 then 8 else w + 1) := by
  have hn8 := z.iv.n8; have hf3 := z.iv.f3; have hw8 := z.w8
  have iv := z.iv
  have sr := z.sr
  -- the last step
  have last : ∀ (σ' : Me_) (v : Nat) (_ : v < 8) (_ : σ'.1 1 13 = nI v), ∃ τ, (if inb_ (σ'.1 1 13) 8 = true then Option.bind (F_X2_takes σ' (1 + 10 + 1 + 3 * (σ'.1 1 13).toNatClampNeg) (1 + 7)) fun σ_2 => some (me_set σ_2 1 13 (σ_2.1 1 13 + 1)) else none) = some τ ∧ τ.2 = σ'.2 ∧ (∀ j, j ≠ 1 → j ≠ 13 + 3 * v → j ≠ 14 + 3 * v → τ.1 j = σ'.1 j) ∧ τ.1 1 = upd (σ'.1 1) 13 (nI (v + 1)) ∧ (∀ m, m < 8 → τ.1 (13 + 3 * v) m = σ'.1 9 m) ∧ (∀ m, m < 3 → τ.1 (14 + 3 * v) m = σ'.1 10 m) := by
    intro σ' v hv e13
    obtain ⟨τ, e1, e2, e3, e4, e5⟩ := x2_tk_z σ' (1 + 10 + 1 + 3 * v) (1 + 7) (by omega)
    refine ⟨me_set τ 1 13 (nI (v + 1)), ?_, e2, ?_, ?_, ?_, ?_⟩
    · rw [e13, nI_nat_z (by omega), if_pos (by rw [nI_inb_z (by omega)]; omega), e1, bd_some_z, e3 1 (by omega) (by omega), e13, nI_s_z]
    · intro j h1 h2 h3; rw [ms_ne_z _ _ _ h1]; exact e3 j (by omega) (by omega)
    · rw [ms_same_z, e3 1 (by omega) (by omega)]
    · intro m hm; rw [ms_ne_z _ _ _ (by omega), show 13 + 3 * v = 1 + 10 + 1 + 3 * v + 1 by omega]; exact e4 m hm
    · intro m hm; rw [ms_ne_z _ _ _ (by omega), show 14 + 3 * v = 1 + 10 + 1 + 3 * v + 2 by omega]; exact e5 m hm
  unfold F_X1_remembers
  simp only [nm_eq_z]
  by_cases h : w = 8
  · subst h
    have e8 : σ.1 1 13 = 8 := z.q5
    rw [if_pos e8]
    have Lp := loopI_z (F_X1_remembers_L11 1 (fun σ_4 => if inb_ ((me_set σ_4 1 13 (σ_4.1 1 13 - 1)).1 1 13) 8 = true then Option.bind (F_X2_takes (me_set σ_4 1 13 (σ_4.1 1 13 - 1)) (1 + 10 + 1 + 3 * ((me_set σ_4 1 13 (σ_4.1 1 13 - 1)).1 1 13).toNatClampNeg) (1 + 7)) fun σ_2 => some (me_set σ_2 1 13 (σ_2.1 1 13 + 1)) else none)) (fun k s => 1 ≤ k ∧ s.2 = σ.2 ∧ (∀ j, (j < 12 ∨ 36 ≤ j) → s.1 j = σ.1 j) ∧ (∀ u, u < 8 → ∀ m, m < 8 → s.1 (13 + 3 * u) m = if u + 1 < k then σ.1 (13 + 3 * (u + 1)) m else σ.1 (13 + 3 * u) m) ∧ (∀ u, u < 8 → ∀ m, m < 3 → s.1 (14 + 3 * u) m = if u + 1 < k then σ.1 (14 + 3 * (u + 1)) m else σ.1 (14 + 3 * u) m)) 8 (fun σ_4 => if inb_ ((me_set σ_4 1 13 (σ_4.1 1 13 - 1)).1 1 13) 8 = true then Option.bind (F_X2_takes (me_set σ_4 1 13 (σ_4.1 1 13 - 1)) (1 + 10 + 1 + 3 * ((me_set σ_4 1 13 (σ_4.1 1 13 - 1)).1 1 13).toNatClampNeg) (1 + 7)) fun σ_2 => some (me_set σ_2 1 13 (σ_2.1 1 13 + 1)) else none) ?_ ?_ FU_ 1 σ (by omega) (fu_lt_z (by omega)) ⟨by omega, rfl, fun _ _ => rfl, fun u _ m _ => by rw [if_neg (by omega)], fun u _ m _ => by rw [if_neg (by omega)]⟩
    · obtain ⟨s', ⟨_, p1, p2, p3, p4⟩, es⟩ := Lp
      have e1 : nI 1 = 1 := rfl
      rw [e1] at es
      rw [es]
      have q13 : (me_set s' 1 13 (s'.1 1 13 - 1)).1 1 13 = nI 7 := by rw [ms_same_z, upd_same_z, p2 1 (by omega), z.q5]; decide
      obtain ⟨τ, f1, f2, f3, f4, f5, f6⟩ := last (me_set s' 1 13 (s'.1 1 13 - 1)) 7 (by omega) q13
      refine ⟨τ, f1, by rw [f2, ms_2_z, p1], ?_, ?_⟩
      · intro j h1 h2; rw [f3 j h1 (by omega) (by omega), ms_ne_z _ _ _ h1]; exact p2 j h2
      · have o : ∀ j, 2 ≤ j → j < 12 → τ.1 j = σ.1 j := fun j h1 h2 => by rw [f3 j (by omega) (by omega) (by omega), ms_ne_z _ _ _ (by omega)]; exact p2 j (by omega)
        have o1 : ∀ k, k ≠ 13 → τ.1 1 k = σ.1 1 k := fun k hk => by rw [f4, upd_ne_z _ _ hk, ms_same_z, upd_ne_z _ _ hk, p2 1 (by omega)]
        have oR : ∀ i, i < 104 → i ≠ 5 → svr_z R 8 i = R i := fun i h1 h2 => by
          unfold svr_z; rw [if_pos rfl, upd_ne_z _ _ h2, pst_lo_z _ _ _ _ h1, upd_ne_z _ _ h2, shf_lo_z _ _ _ h1]
        have oP : ∀ j, j < 7 → ∀ i, i < 11 → svr_z R 8 (104 + (11 * j + i)) = R (104 + (11 * (j + 1) + i)) := fun j hj i hi => by
          unfold svr_z; rw [if_pos rfl, upd_ne_z _ _ (by omega), pst_bf_z _ _ _ _ hi hj, upd_ne_z _ _ (by omega), shf_in_z _ _ _ hi hj]
        have o7 : ∀ i, i < 11 → svr_z R 8 (104 + (11 * 7 + i)) = R (6 + i) := fun i hi => by
          unfold svr_z; rw [if_pos rfl, upd_ne_z _ _ (by omega), pst_in_z _ _ _ hi, upd_ne_z _ _ (by omega), shf_lo_z _ _ _ (by omega)]
        have t1' : ∀ u, u < 7 → ∀ m, m < 8 → τ.1 (1 + (12 + 3 * u)) m = σ.1 (1 + (12 + 3 * (u + 1))) m := fun u hu m hm => by
          rw [show 1 + (12 + 3 * u) = 13 + 3 * u by omega, f3 _ (by omega) (by omega) (by omega), ms_ne_z _ _ _ (by omega), p3 u (by omega) m hm, if_pos (by omega), show 1 + (12 + 3 * (u + 1)) = 13 + 3 * (u + 1) by omega]
        have t2' : ∀ u, u < 7 → ∀ m, m < 3 → τ.1 (1 + (13 + 3 * u)) m = σ.1 (1 + (13 + 3 * (u + 1))) m := fun u hu m hm => by
          rw [show 1 + (13 + 3 * u) = 14 + 3 * u by omega, f3 _ (by omega) (by omega) (by omega), ms_ne_z _ _ _ (by omega), p4 u (by omega) m hm, if_pos (by omega), show 1 + (13 + 3 * (u + 1)) = 14 + 3 * (u + 1) by omega]
        have t3' : ∀ m, m < 8 → τ.1 (1 + (12 + 3 * 7)) m = σ.1 9 m := fun m hm => by
          rw [show 1 + (12 + 3 * 7) = 13 + 3 * 7 by omega, f5 m hm, ms_ne_z _ _ _ (by omega), p2 9 (by omega)]
        have t4' : ∀ m, m < 3 → τ.1 (1 + (13 + 3 * 7)) m = σ.1 10 m := fun m hm => by
          rw [show 1 + (13 + 3 * 7) = 14 + 3 * 7 by omega, f6 m hm, ms_ne_z _ _ _ (by omega), p2 10 (by omega)]
        refine fu_keep_z z o o1 oR ?_ ?_ ?_ ?_ ?_ ?_
        · rw [if_pos rfl]; omega
        · unfold svr_z; rw [if_pos rfl, upd_same_z, if_pos rfl]; rfl
        · rw [f4, upd_same_z, if_pos rfl]
        · rw [if_pos rfl]; intro j hj m hm
          by_cases q : j = 7
          · subst q; obtain ⟨p, hp, ep⟩ := iv.pl m hm
            exact ⟨p, hp, by rw [o7 _ (by omega), ep], by rw [t3' m (by omega), ← ep]; exact sr.pl m hm⟩
          · obtain ⟨p, hp, ep, eq⟩ := z.pa (j + 1) (by omega) m hm
            exact ⟨p, hp, by rw [oP j (by omega) _ (by omega), ep], by rw [t1' j (by omega) m (by omega), eq]⟩
        · rw [if_pos rfl]; intro j hj u hu
          by_cases q : j = 7
          · subst q; obtain ⟨p, hp, ep⟩ := iv.cl u hu
            exact ⟨p, hp, by rw [show 112 + (11 * 7 + u) = 104 + (11 * 7 + (8 + u)) by omega, o7 _ (by omega), ← ep]; congr 1; omega, by rw [t4' u (by omega), ← ep]; exact sr.cl u hu⟩
          · obtain ⟨p, hp, ep, eq⟩ := z.pc (j + 1) (by omega) u hu
            exact ⟨p, hp, by rw [show 112 + (11 * j + u) = 104 + (11 * j + (8 + u)) by omega, oP j (by omega) _ (by omega), ← ep]; congr 1; omega, by rw [t2' j (by omega) u (by omega), eq]⟩
        · rw [if_pos rfl]; intro j hj u hu hq
          rw [show 112 + (11 * j + u) = 104 + (11 * j + (8 + u)) by omega]
          by_cases q : j = 7
          · subst q; rw [o7 _ (by omega), ← iv.cz u hu hq]; congr 1; omega
          · rw [oP j (by omega) _ (by omega), ← z.pz (j + 1) (by omega) u hu hq]; congr 1; omega
    · intro q s hp
      simp (disch := omega) only [F_X1_remembers_L11, nI_lit_z, nI_le_z]
      rw [if_pos (by omega)]
    · intro k q s hk ⟨h1, p1, p2, p3, p4⟩
      obtain ⟨τ, e1, e2, e3, e4, e5⟩ := x2_tk_z s (1 + 10 + 1 + 3 * (k - 1)) (1 + 10 + 1 + 3 * k) (by omega)
      refine ⟨τ, ⟨by omega, by rw [e2, p1], ?_, ?_, ?_⟩, ?_⟩
      · intro j hj; rw [e3 j (by omega) (by omega)]; exact p2 j hj
      · intro u hu m hm
        by_cases q : u = k - 1
        · subst q
          rw [show 13 + 3 * (k - 1) = 1 + 10 + 1 + 3 * (k - 1) + 1 by omega, e4 m hm, show 1 + 10 + 1 + 3 * k + 1 = 13 + 3 * k by omega, p3 k (by omega) m hm, if_neg (by omega), if_pos (by omega), show k - 1 + 1 = k by omega]
        · rw [e3 _ (by omega) (by omega), p3 u hu m hm]
          by_cases q2 : u + 1 < k
          · rw [if_pos q2, if_pos (by omega)]
          · rw [if_neg q2, if_neg (by omega)]
      · intro u hu m hm
        by_cases q : u = k - 1
        · subst q
          rw [show 14 + 3 * (k - 1) = 1 + 10 + 1 + 3 * (k - 1) + 2 by omega, e5 m hm, show 1 + 10 + 1 + 3 * k + 2 = 14 + 3 * k by omega, p4 k (by omega) m hm, if_neg (by omega), if_pos (by omega), show k - 1 + 1 = k by omega]
        · rw [e3 _ (by omega) (by omega), p4 u hu m hm]
          by_cases q2 : u + 1 < k
          · rw [if_pos q2, if_pos (by omega)]
          · rw [if_neg q2, if_neg (by omega)]
      · have k1 : nI k - 1 = nI (k - 1) := nI_sub_z (b := 1) (by omega)
        have e8 : (8 : Int32) = nI 8 := rfl
        simp (disch := omega) only [F_X1_remembers_L11, nm_eq_z, k1, nI_inb_z, nI_nat_z, nI_s_z]
        rw [e8, if_neg (by rw [nI_le_z (by omega) (by omega)]; omega), if_pos (by omega), if_pos (by omega), e1, bd_some_z]
  · have e8 : ¬ σ.1 1 13 = 8 := by rw [z.q5, nI_lit_z, nI_inj_z (by omega) (by omega)]; exact h
    rw [if_neg e8]
    obtain ⟨τ, f1, f2, f3, f4, f5, f6⟩ := last σ w (by omega) z.q5
    refine ⟨τ, f1, f2, ?_, ?_⟩
    · intro j h1 h2; exact f3 j h1 (by omega) (by omega)
    · have oR : ∀ i, i < 104 → i ≠ 5 → svr_z R w i = R i := fun i h1 h2 => by
        unfold svr_z; rw [if_neg h, upd_ne_z _ _ h2, pst_lo_z _ _ _ _ h1]
      have oP : ∀ j, j < w → ∀ i, i < 11 → svr_z R w (104 + (11 * j + i)) = R (104 + (11 * j + i)) := fun j hj i hi => by
        unfold svr_z; rw [if_neg h, upd_ne_z _ _ (by omega), pst_bf_z _ _ _ _ hi hj]
      have o7 : ∀ i, i < 11 → svr_z R w (104 + (11 * w + i)) = R (6 + i) := fun i hi => by
        unfold svr_z; rw [if_neg h, upd_ne_z _ _ (by omega), pst_in_z _ _ _ hi]
      rw [if_neg h]
      refine fu_keep_z z (fun j h1 h2 => f3 j (by omega) (by omega) (by omega)) (fun k hk => by rw [f4, upd_ne_z _ _ hk]) oR (by omega) ?_ ?_ ?_ ?_ ?_
      · unfold svr_z; rw [if_neg h, upd_same_z]
      · rw [f4, upd_same_z]
      · intro j hj m hm
        by_cases q : j = w
        · subst q; obtain ⟨p, hp, ep⟩ := iv.pl m hm
          exact ⟨p, hp, by rw [o7 _ (by omega), ep], by rw [show 1 + (12 + 3 * j) = 13 + 3 * j by omega, f5 m (by omega), ← ep]; exact sr.pl m hm⟩
        · obtain ⟨p, hp, ep, eq⟩ := z.pa j (by omega) m hm
          exact ⟨p, hp, by rw [oP j (by omega) _ (by omega), ep], by rw [f3 _ (by omega) (by omega) (by omega), eq]⟩
      · intro j hj u hu
        by_cases q : j = w
        · subst q; obtain ⟨p, hp, ep⟩ := iv.cl u hu
          exact ⟨p, hp, by rw [show 112 + (11 * j + u) = 104 + (11 * j + (8 + u)) by omega, o7 _ (by omega), ← ep]; congr 1; omega, by rw [show 1 + (13 + 3 * j) = 14 + 3 * j by omega, f6 u (by omega), ← ep]; exact sr.cl u hu⟩
        · obtain ⟨p, hp, ep, eq⟩ := z.pc j (by omega) u hu
          exact ⟨p, hp, by rw [show 112 + (11 * j + u) = 104 + (11 * j + (8 + u)) by omega, oP j (by omega) _ (by omega), ← ep]; congr 1; omega, by rw [f3 _ (by omega) (by omega) (by omega), eq]⟩
      · intro j hj u hu hq
        by_cases q : j = w
        · subst q; rw [show 112 + (11 * j + u) = 104 + (11 * j + (8 + u)) by omega, o7 _ (by omega), ← iv.cz u hu hq]; congr 1; omega
        · rw [show 112 + (11 * j + u) = 104 + (11 * j + (8 + u)) by omega, oP j (by omega) _ (by omega), ← z.pz j (by omega) u hu hq]; congr 1; omega
