set_option maxRecDepth 100000
set_option linter.unusedSimpArgs false
set_option linter.unusedVariables false

/-! PURE O2: centuries -/
def Cq_z (n f : Nat) (T : Nat → Int32) (v : Nat) (C : Nat → Nat → Int32) (V : Nat → Nat) : Prop := C 0 = T ∧ V 0 = v ∧ (∀ k, V k < 2147483648) ∧ (∀ k, nL_z (V k) * (1103515245 : Int64) + (12345 : Int64) - (nL_z (V k) * (1103515245 : Int64) + (12345 : Int64)) / (2147483648 : Int64) * (2147483648 : Int64) = nL_z (V (k + 1))) ∧ (∀ k, C (k + 1) = cst_z (C k) n f (V (k + 1) / 65536 % 3) (V (k + 1) / 1048576 % 16)) ∧ (∀ k, Iv_z (C k) n f)
theorem x0_cent_z {σ τ : Me_} {T : Nat → Int32} {C : Nat → Nat → Int32} {V : Nat → Nat} {n f v d Q : Nat} (hq : Cq_z n f T v C V) (sr : Sr_z τ 1 72 T n f) (e2 : τ.2 = σ.2) (e3 : ∀ j, j ≠ 73 → j ≠ 74 → τ.1 j = σ.1 j) (hd : d ≤ 60) (hFU : 1000 < Q) : ∃ τ', (τ'.2 = σ.2 ∧ ∀ j, j ≠ 73 → j ≠ 74 → τ'.1 j = σ.1 j) ∧ F_X0_centuries_L49 (nI d) (fun σ_3 => Option.bind (F_X1_at σ_3 1 72 (-1 : Int32)) fun r_1 => Option.bind (F_X1_skillOf σ_3 1 r_1) fun r_2 => some (r_2, σ_3)) Q (nL_z v) (nI 0) τ = some (sks_z (C d) 0 n, τ') := by
  obtain ⟨hC0, hV0, hVl, hVs, hCs, hiv⟩ := hq
  have hn8 := (hiv 0).n8; have hf3 := (hiv 0).f3
  have m0 : (-1 : Int32) + 1 = 0 := by decide
  have L := loopI2_z (F_X0_centuries_L49 (nI d) (fun σ_3 => Option.bind (F_X1_at σ_3 1 72 (-1 : Int32)) fun r_1 => Option.bind (F_X1_skillOf σ_3 1 r_1) fun r_2 => some (r_2, σ_3))) (fun k s τ' => s = nL_z (V k) ∧ τ'.2 = σ.2 ∧ (∀ j, j ≠ 73 → j ≠ 74 → τ'.1 j = σ.1 j) ∧ Sr_z τ' 1 72 (C k) n f) d (fun _ τ' => some (sks_z (C d) 0 n, τ')) ?_ ?_ Q 0 (nL_z v) τ (by omega) (by omega) ⟨by rw [hV0], e2, e3, by rw [hC0]; exact sr⟩
  · obtain ⟨s', τ', ⟨_, p2, p3, _⟩, ep⟩ := L
    exact ⟨τ', ⟨p2, p3⟩, ep⟩
  · intro q s τ' ⟨_, p2, p3, p4⟩
    rw [F_X0_centuries_L49, if_pos (by rw [nI_le_z (by omega) (by omega)]; omega), x1_at_z (hiv d) p4, bd_some_z, m0, x1_skillOf_z (hiv d) p4, bd_some_z]
  · intro k q s τ' hk ⟨p1, p2, p3, p4⟩
    subst p1
    have hl2 := hVl (k + 1)
    have hs := hVs k
    have hcs := hCs k
    have ivk := hiv k
    have g1 : (nL_z (V (k + 1)) / (65536 : Int64) - nL_z (V (k + 1)) / (65536 : Int64) / (3 : Int64) * (3 : Int64)).toInt32 = nI (V (k + 1) / 65536 % 3) := nxt_h_z hl2
    have g2 : (nL_z (V (k + 1)) / (1048576 : Int64) - nL_z (V (k + 1)) / (1048576 : Int64) / (16 : Int64) * (16 : Int64)).toInt32 = nI (V (k + 1) / 1048576 % 16) := nxt_y_z hl2
    have hm3 : V (k + 1) / 65536 % 3 < 3 := Nat.mod_lt _ (by omega)
    have hm16 : V (k + 1) / 1048576 % 16 < 16 := Nat.mod_lt _ (by omega)
    generalize V (k + 1) / 65536 % 3 = H at *
    generalize V (k + 1) / 1048576 % 16 = Y at *
    rw [F_X0_centuries_L49, if_neg (by rw [nI_le_z (by omega) (by omega)]; omega)]
    simp only [nm_eq_z]
    rw [hs, g1, g2, show τ'.1 1 1 = nI f from p4.e1, nI_s_z]
    by_cases t : H < f
    · obtain ⟨τ2, a1, a2, a3, a4⟩ := x0_turns_z ivk p4 t hm16
      rw [if_neg (by rw [nI_le_z (by omega) (by omega)]; omega), a1, bd_some_z]
      exact ⟨nL_z (V (k + 1)), τ2, ⟨rfl, by rw [a2, p2], fun j h1 h2 => by rw [a3 j h1 h2, p3 j h1 h2], by rw [hcs]; exact a4⟩, rfl⟩
    · rw [if_pos (by rw [nI_le_z (by omega) (by omega)]; omega)]
      refine ⟨nL_z (V (k + 1)), τ', ⟨rfl, p2, p3, ?_⟩, rfl⟩
      rw [hcs]; unfold cst_z; rw [if_neg t]; exact p4
theorem x6_cent_z {τ' : Me_} {R T : Nat → Int32} {C : Nat → Nat → Int32} {V : Nat → Nat} {n f v d Q : Nat} (k91 : τ'.1 91 = R) (t0 : R 0 = nI n) (t1 : R 1 = nI f) (hq : Cq_z n f T v C V) (hd : d ≤ 60) (hFU : 1000 < Q) : F_X6_centuries_L41 (nI d) (fun σ_3 => Option.bind (F_X6_skillsIn σ_3 95 36 (0 : Int32)) fun r_1 => some (r_1, σ_3)) Q (nL_z v) (nI 0) (me_arr τ' 95 T) = some (sks_z (C d) 0 n, me_arr τ' 95 (C d)) := by
  obtain ⟨hC0, hV0, hVl, hVs, hCs, hiv⟩ := hq
  have hn8 := (hiv 0).n8; have hf3 := (hiv 0).f3
  have L := loop3_z (F_X6_centuries_L41 (nI d) (fun σ_3 => Option.bind (F_X6_skillsIn σ_3 95 36 (0 : Int32)) fun r_1 => some (r_1, σ_3))) (fun k => nL_z (V k)) (fun k => nI k) (fun k => me_arr τ' 95 (C k)) (some (sks_z (C d) 0 n, me_arr τ' 95 (C d))) d ?_ ?_ Q 0 (Nat.zero_le _) (by omega)
  · rw [hV0, hC0] at L; exact L
  · intro q
    rw [F_X6_centuries_L41, if_pos (by rw [nI_le_z (by omega) (by omega)]; omega), x6_skillsIn_z (ma_same_z _ _ _) (hiv d) (by omega), bd_some_z]
  · intro k q hk
    have hl2 := hVl (k + 1)
    have hs := hVs k
    have hcs := hCs k
    have ivk := hiv k
    have g1 : (nL_z (V (k + 1)) / (65536 : Int64) - nL_z (V (k + 1)) / (65536 : Int64) / (3 : Int64) * (3 : Int64)).toInt32 = nI (V (k + 1) / 65536 % 3) := nxt_h_z hl2
    have g2 : (nL_z (V (k + 1)) / (1048576 : Int64) - nL_z (V (k + 1)) / (1048576 : Int64) / (16 : Int64) * (16 : Int64)).toInt32 = nI (V (k + 1) / 1048576 % 16) := nxt_y_z hl2
    have hm3 : V (k + 1) / 65536 % 3 < 3 := Nat.mod_lt _ (by omega)
    have hm16 : V (k + 1) / 1048576 % 16 < 16 := Nat.mod_lt _ (by omega)
    generalize V (k + 1) / 65536 % 3 = H at *
    generalize V (k + 1) / 1048576 % 16 = Y at *
    rw [F_X6_centuries_L41, if_neg (by rw [nI_le_z (by omega) (by omega)]; omega)]
    simp only [nm_eq_z]
    rw [hs, g1, g2, hcs, nI_s_z]
    generalize V (k + 1) = W at *
    generalize C k = E at *
    have l91 : (me_arr τ' 95 E).1 91 = R := by rw [ma_ne_z _ _ (by omega), k91]
    have z0 : (0 : Int64).toInt = 0 := by decide
    have sh : (F_X6_isShip (me_arr τ' 95 E) (nI H) = 0) ↔ ¬ H < f := by
      unfold F_X6_isShip
      rw [in_and_z, l91, t1, in_no_z, nI_pred64_z (by omega), nI_int_z (by omega), z0]; omega
    have sm : (F_X6_isMan (me_arr τ' 95 E) (nI Y) = 0) ↔ ¬ Y < n := by
      unfold F_X6_isMan F_X6_many
      rw [in_and_z, l91, t0, in_no_z, nI_pred64_z (by omega), nI_int_z (by omega), z0]; omega
    have e8 : (8 : Int32) = nI 8 := rfl
    unfold cst_z
    by_cases u : H < f
    · rw [if_pos u]
      have sh' : ¬ F_X6_isShip (me_arr τ' 95 E) (nI H) = 0 := fun t => sh.mp t u
      by_cases r : 8 ≤ Y
      · have n8 : ¬ nI Y < 8 := by rw [e8, nI_lt_z (by omega) (by omega)]; omega
        rw [if_pos r]
        simp only [sh', n8, if_false, Bool.false_eq_true]
        rw [x6_goCall_z (ma_same_z _ _ _) ivk (by omega) u, bi_some_z, ma_ma_z]
      · have n8 : nI Y < 8 := by rw [e8, nI_lt_z (by omega) (by omega)]; omega
        rw [if_neg r]
        simp only [sh', n8, if_false, if_true]
        by_cases t : Y < n
        · have sm' : ¬ F_X6_isMan (me_arr τ' 95 E) (nI Y) = 0 := fun q => sm.mp q t
          have e6' : (6 : Int32) + nI Y = nI (6 + Y) := nI_add_z 6 Y
          have b6 : inb_ (nI (6 + Y)) 36 = true := by rw [nI_inb_z (by omega)]; omega
          rw [if_neg sm', e6', if_pos b6, nI_nat_z (by omega), ma_same_z]
          by_cases o : E (6 + Y) = 0
          · rw [if_pos o, if_pos b6, if_pos ⟨t, o⟩, ms_arr_z, ma_same_z, ma_ma_z, nI_s_z]
          · rw [if_neg o, if_neg (fun u => o u.2)]
        · rw [if_pos (sm.mpr t), if_neg (fun u => t u.1)]
    · rw [if_neg u]
      simp only [sh.mpr u, if_true]
def cen_z (n f : Nat) (T : Nat → Int32) (v : Nat) : Nat → (Nat → Int32) × Nat
  | 0 => (T, v)
  | k + 1 => (cst_z (cen_z n f T v k).1 n f (nxt_z (cen_z n f T v k).2 / 65536 % 3) (nxt_z (cen_z n f T v k).2 / 1048576 % 16), nxt_z (cen_z n f T v k).2)
theorem cen_q_z {n f v : Nat} {T : Nat → Int32} (iv : Iv_z T n f) (vv : v < 2147483648) : Cq_z n f T v (fun k => (cen_z n f T v k).1) (fun k => (cen_z n f T v k).2) := by
  have hl : ∀ k, (cen_z n f T v k).2 < 2147483648 := by
    intro k
    cases k with
    | zero => rw [cen_z]; exact vv
    | succ k => rw [cen_z]; exact nxt_lt_z _
  refine ⟨by simp only [cen_z], by simp only [cen_z], hl, ?_, ?_, ?_⟩
  · intro k
    rw [nxt_L_z (hl k)]
    simp only [cen_z]
  · intro k
    simp only [cen_z]
  · intro k
    induction k with
    | zero => show Iv_z (cen_z n f T v 0).1 n f; rw [cen_z]; exact iv
    | succ k ih => show Iv_z (cen_z n f T v (k + 1)).1 n f; rw [cen_z]; exact cst_iv_z ih _ _
theorem op_centuries_z {σ : Me_} (g : Rel_z σ) (x y : Int32) : Op_z σ (fun σ => F_X0_centuries σ x y) (fun σ => F_X6_centuries σ x y) := by
  obtain ⟨n, f, a, c, e, w, z⟩ := g.fu; have hn8 := z.iv.n8; have hf3 := z.iv.f3; have ha5 := z.a5; have hc6 := z.c6; have he6 := z.e6; have hw8 := z.w8; have i4 := z.sr.e4; have i1 := z.sr.e1; have t0 := z.iv.t0; have t1 := z.iv.t1; have r2 := z.r2; have r3 := z.r3; have r4 := z.r4; have r5 := z.r5; have q2 := z.q2; have q3 := z.q3; have q4 := z.q4; have q5 := z.q5
  by_cases h : F_X6_in x.toInt64 (0 : Int64) (999999 : Int64) = 0
  · refine op_rf_z g 0 (by omega) (r := -2) ?_ ?_
    · show F_X0_centuries σ x y = _
      unfold F_X0_centuries
      simp only [in06_z, in_and_z, i_z1_z, x0_bad_z, x0_no_z, x0_full_z, x0_badAsk_z, x6_bad_z, x6_no_z, x6_full_z, bi_some_z, bd_some_z, nm_eq_z, F_X0_isKind, F_X6_isKind, F_X0_isSkill, F_X6_isSkill, F_X0_isFar, F_X6_isFar, F_X0_isLong, F_X0_isShip, F_X6_isShip, F_X0_isMan, F_X6_isMan, F_X6_many, rf0_ne_z _ _ (show 91 ≠ 76 by omega), rf0_ne_z _ _ (show 90 ≠ 76 by omega), h, if_true]
    · show F_X6_centuries _ x y = _
      unfold F_X6_centuries
      simp only [in06_z, in_and_z, i_z1_z, x0_bad_z, x0_no_z, x0_full_z, x0_badAsk_z, x6_bad_z, x6_no_z, x6_full_z, bi_some_z, bd_some_z, nm_eq_z, F_X0_isKind, F_X6_isKind, F_X0_isSkill, F_X6_isSkill, F_X0_isFar, F_X6_isFar, F_X0_isLong, F_X0_isShip, F_X6_isShip, F_X0_isMan, F_X6_isMan, F_X6_many, rf0_ne_z _ _ (show 91 ≠ 76 by omega), rf0_ne_z _ _ (show 90 ≠ 76 by omega), h, if_true]
  by_cases h' : F_X6_in y.toInt64 (0 : Int64) (60 : Int64) = 0
  · refine op_rf_z g 0 (by omega) (r := -2) ?_ ?_
    · show F_X0_centuries σ x y = _
      unfold F_X0_centuries
      simp only [in06_z, in_and_z, i_z1_z, x0_bad_z, x0_no_z, x0_full_z, x0_badAsk_z, x6_bad_z, x6_no_z, x6_full_z, bi_some_z, bd_some_z, nm_eq_z, F_X0_isKind, F_X6_isKind, F_X0_isSkill, F_X6_isSkill, F_X0_isFar, F_X6_isFar, F_X0_isLong, F_X0_isShip, F_X6_isShip, F_X0_isMan, F_X6_isMan, F_X6_many, rf0_ne_z _ _ (show 91 ≠ 76 by omega), rf0_ne_z _ _ (show 90 ≠ 76 by omega), h, h', if_true, if_false]
    · show F_X6_centuries _ x y = _
      unfold F_X6_centuries
      simp only [in06_z, in_and_z, i_z1_z, x0_bad_z, x0_no_z, x0_full_z, x0_badAsk_z, x6_bad_z, x6_no_z, x6_full_z, bi_some_z, bd_some_z, nm_eq_z, F_X0_isKind, F_X6_isKind, F_X0_isSkill, F_X6_isSkill, F_X0_isFar, F_X6_isFar, F_X0_isLong, F_X0_isShip, F_X6_isShip, F_X0_isMan, F_X6_isMan, F_X6_many, rf0_ne_z _ _ (show 91 ≠ 76 by omega), rf0_ne_z _ _ (show 90 ≠ 76 by omega), h, h', if_true, if_false]
  obtain ⟨v, _, hv, ev⟩ := in_oka_z (a := 0) (b := 999999) (by decide) (by decide) h
  obtain ⟨d, _, hd, ed⟩ := in_oka_z (a := 0) (b := 60) (by decide) (by decide) h'
  subst ev
  subst ed
  have oT : ∀ i, i < 36 → hnd_z (σ.1 91) (σ.1 95) i = σ.1 91 i := fun i hi => hnd_lt_z _ _ hi
  obtain ⟨τ, e1, e2, e3, sr⟩ := x0_trial_z z.iv z.sr oT
  have iv := z.iv.congr oT
  generalize hT : hnd_z (σ.1 91) (σ.1 95) = T at *
  have hq := cen_q_z (v := v) iv (by omega)
  generalize (fun k => (cen_z n f T v k).1) = C at hq
  generalize (fun k => (cen_z n f T v k).2) = V at hq
  have hFU : 1000 < FU_ := fu_lt_z (by omega)
  obtain ⟨τ', ⟨p2, p3⟩, ep⟩ := x0_cent_z (σ := σ) (Q := FU_) hq sr e2 e3 hd hFU
  have k91 : τ'.1 91 = σ.1 91 := p3 91 (by omega) (by omega)
  have k95 : τ'.1 95 = σ.1 95 := p3 95 (by omega) (by omega)
  have ep6 := x6_cent_z (Q := FU_) k91 t0 t1 hq hd hFU
  have n0 : (0 : Int32) = nI 0 := rfl
  have v64 : (nI v).toInt64 = nL_z v := nI_64_z (by omega)
  refine op_ro_z g (r := sks_z (C d) 0 n) (σ1 := τ') (σ2 := me_arr τ' 95 (C d)) ?_ ?_ (Same_z.of p2 p3) ((Same_z.refl _).arr _ (by omega))
  · show F_X0_centuries σ (nI v) (nI d) = _
    unfold F_X0_centuries
    generalize FU_ = Q at *
    simp only [in06_z, h, h', if_false]
    rw [show (∀ (k : Bool → Option (Int32 × Me_)), nm_ false k = k false) from fun k => rfl, if_neg (by decide), e1, bd_some_z, v64]
    simp only [nm_eq_z]
    rw [← n0] at ep
    exact ep
  · show F_X6_centuries τ' (nI v) (nI d) = _
    unfold F_X6_centuries
    generalize FU_ = Q at *
    simp only [h, h', if_false]
    rw [show (∀ (k : Bool → Option (Int32 × Me_)), nm_ false k = k false) from fun k => rfl, if_neg (by decide), x6_layHand_z, k91, k95, show cp_ (σ.1 91) (σ.1 95) 36 = T from hT, v64]
    simp only [nm_eq_z]
    rw [bd_some_z]
    rw [← n0] at ep6
    exact ep6
