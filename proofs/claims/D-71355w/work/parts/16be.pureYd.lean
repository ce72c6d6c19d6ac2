set_option maxRecDepth 100000
set_option linter.unusedSimpArgs false
set_option linter.unusedVariables false

/-! PURE Yd: crew -/
theorem x6_cr38_z {σ : Me_} {n : Nat} (hm : F_X6_many σ = nI n) (hn : n ≤ 8) (kk : Int32 → Option (Int32 × Me_)) : F_X6_crew_L38 σ kk FU_ 1 0 = kk (nI (4 ^ n)) := by
  refine loop2_z (F_X6_crew_L38 σ kk) (fun k => nI (4 ^ k)) (fun k => nI k) _ n ?_ ?_ FU_ 0 (Nat.zero_le _) (fu_lt_z (by omega))
  · intro q
    rw [F_X6_crew_L38, hm, if_pos (i_le_refl_z _)]
  · intro k q hk
    have e : nI (4 ^ k) * 4 = nI (4 ^ (k + 1)) := by rw [Nat.pow_succ]; exact nI_mul_z _ 4
    rw [F_X6_crew_L38, hm, if_neg (by rw [nI_le_z (by omega) (by omega)]; omega)]
    simp only [nm_eq_z, nI_s_z]
    rw [e]
theorem x0_crewg_z {σ : Me_} {R : Nat → Int32} {n f d : Nat} (iv : Iv_z R n f) (sr : Sr_z σ 1 8 R n f) (hd : d < 31) : ∃ s', F_X5_goes σ (nI d) = some s' ∧ s'.2 = σ.2 ∧ (∀ j, j ≠ 73 → j ≠ 74 → j ≠ 83 → j ≠ 84 → s'.1 j = σ.1 j) ∧ Cr_z s' R n (LBf_z R n f d n 0 none) := by
  have hn8 := iv.n8; have hf3 := iv.f3
  unfold F_X5_goes
  rw [nm_eq_z, nm_eq_z]
  generalize hσ1 : me_set (me_set σ 83 1 (nI d)) 83 2 (-1) = σ1
  have o1 : ∀ j, j ≠ 83 → σ1.1 j = σ.1 j := fun j h => by rw [← hσ1, ms_ne_z _ _ _ h, ms_ne_z _ _ _ h]
  have sr1 : Sr_z σ1 1 8 R n f := sr.congr (o1 _ (by omega)) (o1 _ (by omega)) (o1 _ (by omega)) (o1 _ (by omega)) (o1 _ (by omega)) (o1 _ (by omega))
  obtain ⟨τ, e1, e2, e3, st⟩ := x0_trial_z iv sr1 (T' := R) (fun _ _ => rfl)
  rw [e1, bd_some_z]
  have sr2 : Sr_z τ 1 8 R n f := sr1.congr (e3 _ (by omega) (by omega)) (e3 _ (by omega) (by omega)) (e3 _ (by omega) (by omega)) (e3 _ (by omega) (by omega)) (e3 _ (by omega) (by omega)) (e3 _ (by omega) (by omega))
  have z : Zc_z τ τ R n f d := ⟨rfl, fun _ _ _ _ => rfl, by rw [e3 83 (by omega) (by omega), ← hσ1, ms_same_z, upd_ne_z _ _ (by omega), ms_same_z, upd_same_z], sr2, st.cl⟩
  have hC : Cr_z τ R n none := by
    show τ.1 83 2 = -1
    rw [e3 83 (by omega) (by omega), ← hσ1, ms_same_z, upd_same_z]
  have hP : Pl_z τ R n (n - n) 0 := by
    rw [Nat.sub_self]
    exact ⟨fun i hi => absurd hi (Nat.not_lt_zero _), fun i _ h2 _ => st.pl i h2⟩
  obtain ⟨s', a1, a2, a3, _, _⟩ := x5_tries_z iv hd n 10 0 τ none (by omega) (Nat.le_refl _) z hC hP (by rw [Nat.sub_self]; rfl)
  rw [Nat.sub_self] at a1
  refine ⟨s', ?_, by rw [a2.s2, e2, ← hσ1, ms_2_z, ms_2_z], ?_, a3⟩
  · rw [show (0 : Int32) = nI 0 from rfl, a1, bd_some_z]
  · intro j h1 h2 h3 h4; rw [a2.fr j h1 h3 h4, e3 j h1 h2, o1 j h3]
theorem op_crew_z {σ : Me_} (g : Rel_z σ) (x y : Int32) : Op_z σ (fun σ => F_X0_crew σ x y) (fun σ => F_X6_crew σ x y) := by
  obtain ⟨n, f, a, c, e, w, z⟩ := g.fu; have hn8 := z.iv.n8; have hf3 := z.iv.f3; have ha5 := z.a5; have hc6 := z.c6; have he6 := z.e6; have hw8 := z.w8; have i4 := z.sr.e4; have i1 := z.sr.e1; have t0 := z.iv.t0; have t1 := z.iv.t1; have r2 := z.r2; have r3 := z.r3; have r4 := z.r4; have r5 := z.r5; have q2 := z.q2; have q3 := z.q3; have q4 := z.q4; have q5 := z.q5
  by_cases h : F_X6_in x.toInt64 (1 : Int64) (30 : Int64) = 0
  · refine op_rf_z g 0 (by omega) (r := -10) ?_ ?_
    · show F_X0_crew σ x y = _
      unfold F_X0_crew
      simp only [in06_z, in_and_z, i_z1_z, x0_bad_z, x0_no_z, x0_full_z, x0_badAsk_z, x6_bad_z, x6_no_z, x6_full_z, bi_some_z, bd_some_z, nm_eq_z, F_X0_isKind, F_X6_isKind, F_X0_isSkill, F_X6_isSkill, F_X0_isFar, F_X6_isFar, F_X0_isLong, F_X0_isShip, F_X6_isShip, F_X0_isMan, F_X6_isMan, F_X6_many, rf0_ne_z _ _ (show 91 ≠ 76 by omega), rf0_ne_z _ _ (show 90 ≠ 76 by omega), h, if_true]
    · show F_X6_crew _ x y = _
      unfold F_X6_crew
      simp only [in06_z, in_and_z, i_z1_z, x0_bad_z, x0_no_z, x0_full_z, x0_badAsk_z, x6_bad_z, x6_no_z, x6_full_z, bi_some_z, bd_some_z, nm_eq_z, F_X0_isKind, F_X6_isKind, F_X0_isSkill, F_X6_isSkill, F_X0_isFar, F_X6_isFar, F_X0_isLong, F_X0_isShip, F_X6_isShip, F_X0_isMan, F_X6_isMan, F_X6_many, rf0_ne_z _ _ (show 91 ≠ 76 by omega), rf0_ne_z _ _ (show 90 ≠ 76 by omega), h, if_true]
  by_cases hp : y = -1 ∨ ¬ F_X6_in y.toInt64 (0 : Int64) ((nI n - 1 : Int32).toInt64) = 0
  · have hc0 : (if y = (-1 : Int32) then false else if F_X6_in y.toInt64 (0 : Int64) ((nI n - 1 : Int32).toInt64) = 0 then true else false) = false := by
      by_cases q : y = -1
      · rw [if_pos q]
      · rw [if_neg q]; cases hp with
        | inl u => exact absurd u q
        | inr u => rw [if_neg u]
    obtain ⟨d, hd1, hd2, ed⟩ := in_oka_z (a := 1) (b := 30) (by decide) (by decide) h
    subst ed
    obtain ⟨s', a1, a2, a3, a4⟩ := x0_crewg_z z.iv z.sr (d := d) (by omega)
    rw [← all_fold_z hf3] at a4
    have k91 : s'.1 91 = σ.1 91 := a3 91 (by omega) (by omega) (by omega) (by omega)
    obtain ⟨t, b1, b2, b3⟩ := x6_cr60_z (d := d) z.iv k91 (fun (x4 : Int32) (x5 : Int32) (σ_2 : Me_) => bi_ (F_X6_crewBy σ_2 x5 (nI d)) fun r_1 σ_3 => if y = (-1 : Int32) then some (x4, σ_3) else if inb_ y 8 = true then some ((σ_3.1 98 y.toNatClampNeg) - (1 : Int32), σ_3) else none)
    have hpow : 4 ^ n = 4 ^ n - 1 + 1 := by have := Nat.pow_pos (n := n) (show 0 < 4 by omega); omega
    obtain ⟨v, hv⟩ := fold_some_z (R := σ.1 91) (n := n) (f := f) (d := d) none (4 ^ n - 1)
    rw [← hpow] at hv
    have hok := Gc_ok_z hf3 _ v hv
    rw [hv] at a4 b1
    obtain ⟨c1, c2, c3⟩ := a4
    obtain ⟨t', d1, d2, d3, d4⟩ := x6_crewBy_z (s := t) (d := d) (code := v.2) z.iv (by rw [b3 91 (by omega) (by omega)]; exact k91) hok.2.1
    have s1 : Same_z σ s' := ⟨a2, fun j q => a3 j (by omega) (by omega) (by omega) (by omega), by rw [a3 90 (by omega) (by omega) (by omega) (by omega)]⟩
    have s2 : Same_z s' t' := ⟨by rw [d2, b2], fun j q => by rw [d3 j (by omega) (by omega), b3 j (by omega) (by omega)], by rw [d3 90 (by omega) (by omega), b3 90 (by omega) (by omega)]⟩
    have F0 : F_X0_crew σ (nI d) y = if y = (-1 : Int32) then some (nI v.1, s') else if inb_ y 8 = true then if (s'.1 9 y.toNatClampNeg) = (-1 : Int32) then if inb_ y 8 = true then some (s'.1 84 y.toNatClampNeg, s') else none else some ((-1 : Int32), s') else none := by
      unfold F_X0_crew
      rw [a1]
      simp only [in06_z, in_and_z, F_X0_isFar, F_X0_isMan, i4, h, if_false, hc0, nm_eq_z, Bool.false_eq_true, bd_some_z, c1]
    have F6 : F_X6_crew s' (nI d) y = if y = (-1 : Int32) then some (nI v.1, t') else if inb_ y 8 = true then some ((t'.1 98 y.toNatClampNeg) - (1 : Int32), t') else none := by
      unfold F_X6_crew
      simp only [in_and_z, F_X6_isFar, F_X6_isMan, show F_X6_many s' = nI n from by unfold F_X6_many; rw [k91]; exact t0, h, if_false, hc0]
      rw [show (∀ (k : Bool → Option (Int32 × Me_)), nm_ false k = k false) from fun k => rfl, if_neg (by decide), nm_eq_z, x6_cr38_z (n := n) (by unfold F_X6_many; rw [k91]; exact t0) hn8, nm_eq_z, b1, mSo_some_z, bSo_some_z, d1, bi_some_z]
    by_cases cy : y = -1
    · refine op_ro_z g (r := nI v.1) (σ1 := s') (σ2 := t') ?_ ?_ s1 s2
      · show F_X0_crew σ (nI d) y = _
        rw [F0, if_pos cy]
      · show F_X6_crew s' (nI d) y = _
        rw [F6, if_pos cy]
    · have hy : ¬ F_X6_in y.toInt64 (0 : Int64) ((nI n - 1 : Int32).toInt64) = 0 := by
        cases hp with
        | inl u => exact absurd u cy
        | inr u => exact u
      obtain ⟨m, hm, em⟩ := in_okn_z (by omega) hy
      subst em
      have hb : inb_ (nI m) 8 = true := by rw [nI_inb_z (by omega)]; omega
      have hdg := d4 hok.2.2 m hm
      have hdl := dgt_lt_z n v.2 m
      have p9 : s'.1 9 m = σ.1 91 (6 + m) - 1 := by rw [a3 9 (by omega) (by omega) (by omega) (by omega)]; exact z.sr.pl m hm
      have hrv := rvl_dgt_z (R := σ.1 91) n v.2 m hm
      refine op_ro_z g (r := nI (dgt_z n v.2 m) - 1) (σ1 := s') (σ2 := t') ?_ ?_ s1 s2
      · show F_X0_crew σ (nI d) (nI m) = _
        rw [F0, if_neg cy, if_pos hb, nI_nat_z (by omega), p9]
        by_cases q : σ.1 91 (6 + m) = 0
        · rw [if_pos ((i_m1_z _).mpr q), if_pos hb, c3 m hm, hrv]
          by_cases q0 : 0 < dgt_z n v.2 m
          · rw [if_pos q0]
          · rw [if_neg q0, q, show dgt_z n v.2 m = 0 by omega]; rfl
        · rw [if_neg (fun t => q ((i_m1_z _).mp t)), pv_dgt_z n v.2 m hok.2.2 hm q]; rfl
      · show F_X6_crew s' (nI d) (nI m) = _
        rw [F6, if_neg cy, if_pos hb, nI_nat_z (by omega), hdg]
  · have hq1 : ¬ y = -1 := fun u => hp (Or.inl u)
    have hq2 : F_X6_in y.toInt64 (0 : Int64) ((nI n - 1 : Int32).toInt64) = 0 := Classical.byContradiction fun u => hp (Or.inr u)
    refine op_rf_z g 0 (by omega) (r := -10) ?_ ?_
    · show F_X0_crew σ x y = _
      unfold F_X0_crew
      simp only [in06_z, in_and_z, i_z1_z, x0_bad_z, x0_no_z, x0_full_z, x0_badAsk_z, x6_bad_z, x6_no_z, x6_full_z, bi_some_z, bd_some_z, nm_eq_z, F_X0_isKind, F_X6_isKind, F_X0_isSkill, F_X6_isSkill, F_X0_isFar, F_X6_isFar, F_X0_isLong, F_X0_isShip, F_X6_isShip, F_X0_isMan, F_X6_isMan, F_X6_many, rf0_ne_z _ _ (show 91 ≠ 76 by omega), rf0_ne_z _ _ (show 90 ≠ 76 by omega), h, if_false, i4, hq1, hq2, if_true]
    · show F_X6_crew _ x y = _
      unfold F_X6_crew
      simp only [in06_z, in_and_z, i_z1_z, x0_bad_z, x0_no_z, x0_full_z, x0_badAsk_z, x6_bad_z, x6_no_z, x6_full_z, bi_some_z, bd_some_z, nm_eq_z, F_X0_isKind, F_X6_isKind, F_X0_isSkill, F_X6_isSkill, F_X0_isFar, F_X6_isFar, F_X0_isLong, F_X0_isShip, F_X6_isShip, F_X0_isMan, F_X6_isMan, F_X6_many, rf0_ne_z _ _ (show 91 ≠ 76 by omega), rf0_ne_z _ _ (show 90 ≠ 76 by omega), h, if_false, t0, hq1, hq2, if_true]
