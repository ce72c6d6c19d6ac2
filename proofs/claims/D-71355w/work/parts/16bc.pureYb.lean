set_option maxRecDepth 100000
set_option linter.unusedSimpArgs false
set_option linter.unusedVariables false

/-! PURE Yb: crews, LeftBehind's walk -/
def Zc_z (β s : Me_) (R : Nat → Int32) (n f d : Nat) : Prop :=
  (s.2 = β.2) ∧
  (∀ j, j ≠ 73 → j ≠ 83 → j ≠ 84 → s.1 j = β.1 j) ∧
  (s.1 83 1 = nI d) ∧
  (Sr_z β 1 8 R n f) ∧
  (∀ h, h < f → β.1 74 h = R (14 + h))
theorem Zc_z.s2 {β s : Me_} {R : Nat → Int32} {n f d : Nat} (h : Zc_z β s R n f d) : s.2 = β.2 := h.1
theorem Zc_z.fr {β s : Me_} {R : Nat → Int32} {n f d : Nat} (h : Zc_z β s R n f d) : ∀ j, j ≠ 73 → j ≠ 83 → j ≠ 84 → s.1 j = β.1 j := h.2.1
theorem Zc_z.go {β s : Me_} {R : Nat → Int32} {n f d : Nat} (h : Zc_z β s R n f d) : s.1 83 1 = nI d := h.2.2.1
theorem Zc_z.sr {β s : Me_} {R : Nat → Int32} {n f d : Nat} (h : Zc_z β s R n f d) : Sr_z β 1 8 R n f := h.2.2.2.1
theorem Zc_z.cl {β s : Me_} {R : Nat → Int32} {n f d : Nat} (h : Zc_z β s R n f d) : ∀ h, h < f → β.1 74 h = R (14 + h) := h.2.2.2.2
def Cr_z (s : Me_) (R : Nat → Int32) (n : Nat) : So_z → Prop
  | none => s.1 83 2 = -1
  | some v => s.1 83 2 = nI v.1 ∧ v.1 ≤ 3 ∧ ∀ m, m < n → s.1 84 m = rvl_z R n v.2 m - 1
/-- where the trial's men are, of whom so many are chosen -/
def Pl_z (s : Me_) (R : Nat → Int32) (n k c : Nat) : Prop := (∀ i, i < k → s.1 73 i = rvl_z R k c i - 1) ∧ (∀ i, k ≤ i → i < n → R (6 + i) ≠ 0 → s.1 73 i = R (6 + i) - 1)
theorem x5_ends_z {β s : Me_} {R : Nat → Int32} {n f d c : Nat} {S : So_z} (iv : Iv_z R n f) (hd : d < 31) (z : Zc_z β s R n f d) (hC : Cr_z s R n S) (hP : Pl_z s R n n c) (hp : pv_z R f n c = true) : ∃ s', F_X5_ends s = some s' ∧ Zc_z β s' R n f d ∧ Cr_z s' R n (enS_z (vlC_z R n d c f) c S) ∧ s'.1 73 = s.1 73 := by
  have hn8 := iv.n8; have hf3 := iv.f3
  have ivC := rwC_iv_z iv hp
  have hvl := vlC_le_z R n d c f
  have o : ∀ j, j ≠ 73 → j ≠ 83 → j ≠ 84 → s.1 j = β.1 j := z.fr
  have st : Sr_z s 1 72 (rwC_z R n c) n f := by
    have sr := z.sr
    refine ⟨?_, ?_, ?_, ?_, ?_, ?_, ?_⟩
    · rw [o _ (by omega) (by omega) (by omega)]; exact sr.e4
    · rw [o _ (by omega) (by omega) (by omega)]; exact sr.e1
    · intro m hm; rw [rwC_pl_z _ _ _ hm]; exact hP.1 m hm
    · intro h hh; rw [o _ (by omega) (by omega) (by omega), rwC_o_z _ _ _ _ hn8 (by omega)]; exact z.cl h hh
    · intro m hm; rw [o _ (by omega) (by omega) (by omega), rwC_o_z _ _ _ _ hn8 (by omega)]; exact sr.so m hm
    · intro m hm; rw [o _ (by omega) (by omega) (by omega), rwC_o_z _ _ _ _ hn8 (by omega)]; exact sr.kd m hm
    · intro m hm; rw [o _ (by omega) (by omega) (by omega), rwC_o_z _ _ _ _ hn8 (by omega)]; exact sr.sk m hm
  have L : ∀ kk : Int32 → Option Me_, F_X5_ends_L4 s kk FU_ 0 0 = kk (nI (vlC_z R n d c f)) := fun kk => by
    refine loop2_z (F_X5_ends_L4 s kk) (fun k => nI (vlC_z R n d c k)) (fun k => nI k) _ f ?_ ?_ FU_ 0 (Nat.zero_le _) (fu_lt_z (by omega))
    · intro q
      rw [F_X5_ends_L4, show s.1 1 1 = nI f from st.e1, if_pos (by rw [nI_le_z (by omega) (by omega)]; omega)]
    · intro k q hk
      rw [F_X5_ends_L4, show s.1 1 1 = nI f from st.e1, if_neg (by rw [nI_le_z (by omega) (by omega)]; omega), z.go, x1_can_z ivC st hk hd, bd_some_z]
      simp only [nm_eq_z, nI_s_z]
      rw [vlC_z]
      by_cases q : canT_z (rwC_z R n c) n k d = true
      · rw [if_neg (fun t => (bI_z_z _).mp t q), if_pos q, nI_s_z]
      · rw [if_pos ((bI_z_z _).mpr q), if_neg q, i_zadd_z]; rfl
  unfold F_X5_ends
  rw [nm_eq_z, L]
  have upd1 : ∃ s', (some (me_arr (me_set s 83 2 (nI (vlC_z R n d c f))) 84 (cp_ ((me_set s 83 2 (nI (vlC_z R n d c f))).1 73) ((me_set s 83 2 (nI (vlC_z R n d c f))).1 84) 8)) : Option Me_) = some s' ∧ Zc_z β s' R n f d ∧ Cr_z s' R n (some (vlC_z R n d c f, c)) ∧ s'.1 73 = s.1 73 := by
    refine ⟨_, rfl, ⟨z.s2, ?_, ?_, z.sr, z.cl⟩, ⟨?_, by show vlC_z R n d c f ≤ 3; omega, ?_⟩, ?_⟩
    · intro j h1 h2 h3; rw [ma_ne_z _ _ h3, ms_ne_z _ _ _ h2]; exact z.fr j h1 h2 h3
    · rw [ma_ne_z _ _ (by omega), ms_same_z, upd_ne_z _ _ (by omega)]; exact z.go
    · rw [ma_ne_z _ _ (by omega), ms_same_z, upd_same_z]
    · intro m hm; rw [ma_same_z, cp_lt_z _ _ (by omega), ms_ne_z _ _ _ (by omega)]; exact hP.1 m hm
    · rw [ma_ne_z _ _ (by omega), ms_ne_z _ _ _ (by omega)]
  cases S with
  | none =>
    have h83 : s.1 83 2 = -1 := hC
    have hng : ¬ nI (vlC_z R n d c f) ≤ -1 := by rw [Int32.le_iff_toInt_le, nI_int_z (by omega), show (-1 : Int32).toInt = -1 from by decide]; omega
    rw [h83, if_neg hng, nm_eq_z, nm_eq_z]
    exact upd1
  | some v =>
    obtain ⟨h83, hv3, h84⟩ := hC
    have hle : nI (vlC_z R n d c f) ≤ nI v.1 ↔ vlC_z R n d c f ≤ v.1 := nI_le_z (by omega) (by omega)
    unfold enS_z
    simp only []
    rw [h83]
    by_cases q : vlC_z R n d c f ≤ v.1
    · rw [if_pos (hle.mpr q), if_pos q]
      exact ⟨s, rfl, z, ⟨h83, hv3, h84⟩, rfl⟩
    · rw [if_neg (fun t => q (hle.mp t)), if_neg q, nm_eq_z, nm_eq_z]
      exact upd1
theorem x5_tries_z {β : Me_} {R : Nat → Int32} {n f d : Nat} (iv : Iv_z R n f) (hd : d < 31) : ∀ j D c (s : Me_) (S : So_z), j < D → j ≤ n → Zc_z β s R n f d → Cr_z s R n S → Pl_z s R n (n - j) c → pv_z R f (n - j) c = true → ∃ s', F_X5_tries D s (nI (n - j)) = some s' ∧ Zc_z β s' R n f d ∧ Cr_z s' R n (LBf_z R n f d j c S) ∧ (∀ i, i < n - j → s'.1 73 i = s.1 73 i) ∧ (∀ i, i < n → R (6 + i) ≠ 0 → s'.1 73 i = s.1 73 i) := by
  have hn8 := iv.n8; have hf3 := iv.f3
  intro j
  induction j with
  | zero =>
    intro D c s S hD hj z hC hP hp
    obtain ⟨D, rfl⟩ : ∃ k, D = k + 1 := ⟨D - 1, by omega⟩
    rw [show n - 0 = n from rfl] at hP hp
    obtain ⟨s', a1, a2, a3, a4⟩ := x5_ends_z iv hd z hC hP hp
    refine ⟨s', ?_, a2, a3, fun i _ => by rw [a4], fun i _ _ => by rw [a4]⟩
    rw [F_X5_tries, F_X5_triesB, z.fr 1 (by omega) (by omega) (by omega), show β.1 1 4 = nI n from z.sr.e4, show n - 0 = n from rfl, if_pos rfl, a1, bd_some_z]
  | succ j ih =>
    intro D c s S hD hj z hC hP hp
    obtain ⟨D, rfl⟩ : ∃ k, D = k + 1 := ⟨D - 1, by omega⟩
    generalize hm : n - (j + 1) = m at *
    have hmn : m < n := by omega
    have hm1 : n - j = m + 1 := by omega
    have hne : ¬ nI m = nI n := by rw [nI_inj_z (by omega) (by omega)]; omega
    have pl9 : s.1 9 m = R (6 + m) - 1 := by rw [z.fr 9 (by omega) (by omega) (by omega)]; exact z.sr.pl m hmn
    rw [F_X5_tries, F_X5_triesB, z.fr 1 (by omega) (by omega) (by omega), show β.1 1 4 = nI n from z.sr.e4, if_neg hne, if_pos (by rw [nI_inb_z (by omega)]; omega), nI_nat_z (by omega), pl9, LBf_z, hm]
    rw [hm1] at ih
    by_cases q : R (6 + m) = 0
    · rw [if_pos ((i_m1_z _).mpr q), if_pos q]
      have L := loopP_z (fun q (w : Int32 × Me_) => F_X5_tries_L48 (F_X5_tries D) (nI m) q w.1 w.2) (fun k w => w.1 = nI k - 1 ∧ Zc_z β w.2 R n f d ∧ Cr_z w.2 R n (fo_z (fun g => LBf_z R n f d j (4 * c + g)) k S) ∧ (∀ i, i < m → w.2.1 73 i = s.1 73 i) ∧ (∀ i, i < n → R (6 + i) ≠ 0 → w.2.1 73 i = s.1 73 i)) (f + 1) (fun w => some w.2) ?_ ?_ FU_ 0 (-1, s) (Nat.zero_le _) (fu_lt_z (by omega)) ⟨show (-1 : Int32) = nI 0 - 1 by decide, z, hC, fun _ _ => rfl, fun _ _ _ => rfl⟩
      · obtain ⟨w, ⟨_, p2, p3, p4, p5⟩, ew⟩ := L
        exact ⟨w.2, ew, p2, p3, p4, p5⟩
      · intro q w ⟨p1, p2, _, _, _⟩
        obtain ⟨x, t⟩ := w
        simp only [] at p1 p2
        subst p1
        show F_X5_tries_L48 (F_X5_tries D) (nI m) (q + 1) (nI (f + 1) - 1) t = some t
        rw [F_X5_tries_L48, p2.fr 1 (by omega) (by omega) (by omega), show β.1 1 1 = nI f from z.sr.e1, ← nI_s_z, i_add1s_z, if_pos (i_le_refl_z _)]
      · intro g q' w hg ⟨p1, p2, p3, p4, p5⟩
        obtain ⟨x, t⟩ := w
        simp only [] at p1 p2 p3 p4 p5
        subst p1
        have p2' : Zc_z β (me_set t 73 m (nI g - 1)) R n f d := ⟨p2.s2, fun j a b e => by rw [ms_ne_z _ _ _ a]; exact p2.fr j a b e, by rw [ms_ne_z _ _ _ (by omega)]; exact p2.go, p2.sr, p2.cl⟩
        have p3' : Cr_z (me_set t 73 m (nI g - 1)) R n (fo_z (fun g => LBf_z R n f d j (4 * c + g)) g S) := by
          cases hS : fo_z (fun g => LBf_z R n f d j (4 * c + g)) g S with
          | none => rw [hS] at p3; show (me_set t 73 m (nI g - 1)).1 83 2 = -1; rw [ms_ne_z _ _ _ (by omega)]; exact p3
          | some v => rw [hS] at p3; refine ⟨?_, p3.2.1, ?_⟩
                      · rw [ms_ne_z _ _ _ (by omega)]; exact p3.1
                      · rw [ms_ne_z _ _ _ (by omega)]; exact p3.2.2
        have hdv : (4 * c + g) / 4 = c := by omega
        have hdm : (4 * c + g) % 4 = g := by omega
        have hgv : (if 0 < g then nI g else R (6 + m)) = nI g := by
          by_cases h0 : 0 < g
          · rw [if_pos h0]
          · rw [if_neg h0, q, show g = 0 by omega]; rfl
        have hPl : Pl_z (me_set t 73 m (nI g - 1)) R n (m + 1) (4 * c + g) := by
          refine ⟨fun i hi => ?_, fun i h1 h2 h3 => ?_⟩
          · rw [ms_same_z, rvl_z, hdv, hdm]
            by_cases e : i = m
            · subst e; rw [upd_same_z, if_pos rfl, hgv]
            · rw [upd_ne_z _ _ e, if_neg e, p4 i (by omega)]; exact hP.1 i (by omega)
          · rw [ms_same_z, upd_ne_z _ _ (by omega), p5 i h2 h3]; exact hP.2 i (by omega) h2 h3
        have hpv : pv_z R f (m + 1) (4 * c + g) = true := by
          rw [pv_z, hdv, hdm, hp, Bool.true_and]
          unfold okd_z; simp only [q, show g ≤ f by omega, decide_true, Bool.and_self, Bool.or_true]
        obtain ⟨t', a1, a2, a3, a4, a5⟩ := ih D (4 * c + g) (me_set t 73 m (nI g - 1)) _ (by omega) (by omega) p2' p3' hPl hpv
        refine ⟨(nI (g + 1) - 1, t'), ⟨rfl, a2, a3, fun i hi => ?_, fun i h1 h2 => ?_⟩, ?_⟩
        · show t'.1 73 i = s.1 73 i
          rw [a4 i (by omega), ms_same_z, upd_ne_z _ _ (by omega), p4 i hi]
        · show t'.1 73 i = s.1 73 i
          rw [a5 i h1 h2, ms_same_z, upd_ne_z _ _ (fun e => h2 (by rw [e]; exact q)), p5 i h1 h2]
        · show F_X5_tries_L48 (F_X5_tries D) (nI m) (q' + 1) (nI g - 1) t = F_X5_tries_L48 (F_X5_tries D) (nI m) q' (nI (g + 1) - 1) t'
          have hlt : ¬ nI f ≤ nI g - 1 := by
            have : (nI g - 1).toInt = (g : Int) - 1 := by
              have := nI_pred64_z (n := g) (by omega)
              rw [Int32.toInt_toInt64] at this; exact this
            rw [Int32.le_iff_toInt_le, this, nI_int_z (by omega)]; omega
          rw [F_X5_tries_L48, p2.fr 1 (by omega) (by omega) (by omega), show β.1 1 1 = nI f from z.sr.e1, if_neg hlt, if_pos (by rw [nI_inb_z (by omega)]; omega), nI_nat_z (by omega), nm_eq_z, nI_s_z, a1, bd_some_z, nm_eq_z, i_sub1a_z, ← nI_s_z, i_add1s_z]
    · rw [if_neg (fun t => q ((i_m1_z _).mp t)), if_neg q]
      have hdv : (4 * c) / 4 = c := by omega
      have hdm : (4 * c) % 4 = 0 := by omega
      have hPl : Pl_z s R n (m + 1) (4 * c) := by
        refine ⟨fun i hi => ?_, fun i h1 h2 h3 => hP.2 i (by omega) h2 h3⟩
        rw [rvl_z, hdv, hdm]
        by_cases e : i = m
        · subst e; rw [if_pos rfl, if_neg (by omega)]; exact hP.2 i (Nat.le_refl _) hmn q
        · rw [if_neg e]; exact hP.1 i (by omega)
      have hpv : pv_z R f (m + 1) (4 * c) = true := by
        rw [pv_z, hdv, hdm, hp, Bool.true_and]; unfold okd_z; rfl
      obtain ⟨t', a1, a2, a3, a4, a5⟩ := ih D (4 * c) s S (by omega) (by omega) z hC hPl hpv
      refine ⟨t', ?_, a2, a3, fun i hi => a4 i (by omega), a5⟩
      rw [nI_s_z, a1, bd_some_z]
