set_option maxRecDepth 100000
set_option linter.unusedSimpArgs false
set_option linter.unusedVariables false
/-! PURE F: a ship, a man, what is seen, noted, marked -/
theorem op_ship_z {σ : Me_} (g : Rel_z σ) (x : Int32) : Op_z σ (fun σ => F_X0_ship σ x) (fun σ => F_X6_ship σ x) := by
  obtain ⟨n, f, a, c, e, w, z⟩ := g.fu; have hn8 := z.iv.n8; have hf3 := z.iv.f3; have ha5 := z.a5; have hc6 := z.c6; have he6 := z.e6; have hw8 := z.w8; have i4 := z.sr.e4; have i1 := z.sr.e1; have t0 := z.iv.t0; have t1 := z.iv.t1; have r2 := z.r2; have r3 := z.r3; have r4 := z.r4; have r5 := z.r5; have q2 := z.q2; have q3 := z.q3; have q4 := z.q4; have q5 := z.q5
  by_cases h : F_X6_in x.toInt64 (0 : Int64) (5 : Int64) = 0
  · refine op_rf_z g 0 (by omega) (r := -2) ?_ ?_
    · show F_X0_ship σ x = _
      unfold F_X0_ship
      simp only [in06_z, in_and_z, i_z1_z, x0_bad_z, x0_no_z, x0_full_z, x0_badAsk_z, x6_bad_z, x6_no_z, x6_full_z, bi_some_z, bd_some_z, nm_eq_z, F_X0_isKind, F_X6_isKind, F_X0_isSkill, F_X6_isSkill, F_X0_isFar, F_X6_isFar, F_X0_isLong, F_X0_isShip, F_X6_isShip, F_X0_isMan, F_X6_isMan, F_X6_many, rf0_ne_z _ _ (show 91 ≠ 76 by omega), rf0_ne_z _ _ (show 90 ≠ 76 by omega), h, if_true]
    · show F_X6_ship _ x = _
      unfold F_X6_ship
      simp only [in06_z, in_and_z, i_z1_z, x0_bad_z, x0_no_z, x0_full_z, x0_badAsk_z, x6_bad_z, x6_no_z, x6_full_z, bi_some_z, bd_some_z, nm_eq_z, F_X0_isKind, F_X6_isKind, F_X0_isSkill, F_X6_isSkill, F_X0_isFar, F_X6_isFar, F_X0_isLong, F_X0_isShip, F_X6_isShip, F_X0_isMan, F_X6_isMan, F_X6_many, rf0_ne_z _ _ (show 91 ≠ 76 by omega), rf0_ne_z _ _ (show 90 ≠ 76 by omega), h, if_true]
  · obtain ⟨k, _, hk, ek⟩ := in_oka_z (a := 0) (b := 5) (by decide) (by decide) h
    by_cases hf : f = 3
    · have h3 : nI f = 3 := by rw [hf]; rfl
      refine op_rf_z g 2 (by omega) (r := -4) ?_ ?_
      · show F_X0_ship σ x = _
        unfold F_X0_ship
        simp only [in06_z, in_and_z, i_z1_z, x0_bad_z, x0_no_z, x0_full_z, x0_badAsk_z, x6_bad_z, x6_no_z, x6_full_z, bi_some_z, bd_some_z, nm_eq_z, F_X0_isKind, F_X6_isKind, F_X0_isSkill, F_X6_isSkill, F_X0_isFar, F_X6_isFar, F_X0_isLong, F_X0_isShip, F_X6_isShip, F_X0_isMan, F_X6_isMan, F_X6_many, rf0_ne_z _ _ (show 91 ≠ 76 by omega), rf0_ne_z _ _ (show 90 ≠ 76 by omega), h, if_false, i1, h3, if_true]
      · show F_X6_ship _ x = _
        unfold F_X6_ship
        simp only [in06_z, in_and_z, i_z1_z, x0_bad_z, x0_no_z, x0_full_z, x0_badAsk_z, x6_bad_z, x6_no_z, x6_full_z, bi_some_z, bd_some_z, nm_eq_z, F_X0_isKind, F_X6_isKind, F_X0_isSkill, F_X6_isSkill, F_X0_isFar, F_X6_isFar, F_X0_isLong, F_X0_isShip, F_X6_isShip, F_X0_isMan, F_X6_isMan, F_X6_many, rf0_ne_z _ _ (show 91 ≠ 76 by omega), rf0_ne_z _ _ (show 90 ≠ 76 by omega), h, if_false, t1, h3, if_true]
    · have h3 : ¬ nI f = 3 := by rw [nI_lit_z, nI_inj_z (by omega) (by omega)]; exact hf
      have b1 : inb_ x 6 = true := by rw [ek, nI_inb_z (by omega)]; omega
      have b2 : inb_ (nI f) 3 = true := by rw [nI_inb_z (by omega)]; omega
      have b3 : inb_ (nI (17 + f)) 192 = true := by rw [nI_inb_z (by omega)]; omega
      have e17 : (17 : Int32) + nI f = nI (17 + f) := nI_add_z 17 f
      have ex : nI x.toNatClampNeg = x := by rw [ek, nI_nat_z (by omega)]
      generalize hs1 : me_set (me_set (me_set (me_set σ (1 + 1) f x) (1 + 7 + 2) f 0) 1 1 (nI (f + 1))) 1 13 0 = σ1
      generalize hs2 : me_set (me_set (me_set σ1 91 (17 + f) x) 91 1 (nI (f + 1))) 91 5 0 = σ2
      have s91 : σ1.1 91 = σ.1 91 := by rw [← hs1]; simp (disch := omega) only [ms_ne_z, ms_same_z, upd_ne_z, upd_same_z]
      have p1 : nI (f + 1) - 1 = nI f := by rw [← nI_s_z]; exact i_add1s_z _
      have w1 : σ1.1 1 1 = nI (f + 1) := by rw [← hs1]; simp (disch := omega) only [ms_ne_z, ms_same_z, upd_ne_z, upd_same_z]
      have w2 : σ2.1 91 1 = nI (f + 1) := by rw [← hs2]; simp (disch := omega) only [ms_ne_z, ms_same_z, upd_ne_z, upd_same_z]
      refine ⟨nI f, σ1, σ2, ?_, ?_, ?_, ?_, ?_⟩
      · show F_X0_ship σ x = _
        unfold F_X0_ship F_X1_launches
        simp (disch := omega) only [in06_z, F_X0_isKind, in_and_z, h, if_false, i1, h3, b1, b2, if_true, nm_eq_z, ex, nI_nat_z, ms_ne_z, ms_same_z, upd_same_z, bd_some_z, nI_s_z, upd_ne_z, hs1, w1, p1]
      · show F_X6_ship σ1 x = _
        unfold F_X6_ship
        simp (disch := omega) only [F_X6_isKind, in_and_z, h, if_false, s91, t1, h3, b3, if_true, nm_eq_z, e17, nI_nat_z, ms_ne_z, ms_same_z, upd_same_z, nI_s_z, upd_ne_z, hs2, w2, p1]
      · refine rel_isl_z g (by rw [← hs2, ← hs1]; rfl) (fun j hj => by rw [← hs2, ← hs1]; simp (disch := omega) only [ms_ne_z, ms_same_z, upd_ne_z, upd_same_z]) (n := n) (f := f + 1) (a := a) (c := c) (e := e) (w := 0) ?_
        have v91 : σ2.1 91 = upd (upd (upd (σ.1 91) (17 + f) x) 1 (nI (f + 1))) 5 0 := by rw [← hs2]; simp (disch := omega) only [ms_ne_z, ms_same_z, upd_ne_z, upd_same_z, s91]
        have v1 : σ2.1 1 = upd (upd (σ.1 1) 1 (nI (f + 1))) 13 0 := by rw [← hs2, ← hs1]; simp (disch := omega) only [ms_ne_z, ms_same_z, upd_ne_z, upd_same_z]
        have v2 : σ2.1 (1 + 1) = upd (σ.1 (1 + 1)) f x := by rw [← hs2, ← hs1]; simp (disch := omega) only [ms_ne_z, ms_same_z, upd_ne_z, upd_same_z]
        have v10 : σ2.1 (1 + 7 + 2) = upd (σ.1 (1 + 7 + 2)) f 0 := by rw [← hs2, ← hs1]; simp (disch := omega) only [ms_ne_z, ms_same_z, upd_ne_z, upd_same_z]
        have vo : ∀ j, j < 36 → j ≠ 1 → j ≠ 2 → j ≠ 10 → σ2.1 j = σ.1 j := fun j h1 h2 h3 h4 => by rw [← hs2, ← hs1]; simp (disch := omega) only [ms_ne_z, ms_same_z, upd_ne_z, upd_same_z]
        rw [v91]
        have iv := z.iv
        have sr := z.sr
        refine ⟨⟨hn8, by omega, ?_, ?_, ?_, ?_, ?_, ?_, ?_, ?_⟩, ⟨?_, ?_, ?_, ?_, ?_, ?_, ?_⟩, ha5, hc6, he6, by omega, ?_, ?_, ?_, ?_, ?_, ?_, ?_, ?_, ?_, ?_, ?_, ?_, ?_, ?_, fun j hj => absurd hj (Nat.not_lt_zero _), fun j hj => absurd hj (Nat.not_lt_zero _), fun j hj => absurd hj (Nat.not_lt_zero _)⟩
        · simp (disch := omega) only [ms_ne_z, ms_same_z, upd_ne_z, upd_same_z]; exact t0
        · simp (disch := omega) only [ms_ne_z, ms_same_z, upd_ne_z, upd_same_z]
        · intro m hm; simp (disch := omega) only [ms_ne_z, ms_same_z, upd_ne_z, upd_same_z]; obtain ⟨p, hp, ep⟩ := iv.pl m hm; exact ⟨p, by omega, ep⟩
        · intro u hu; simp (disch := omega) only [ms_ne_z, ms_same_z, upd_ne_z, upd_same_z]; by_cases q : u = f
          · subst q; exact ⟨0, by omega, iv.cz u (by omega) (by omega)⟩
          · exact iv.cl u (by omega)
        · intro u hu hq; simp (disch := omega) only [ms_ne_z, ms_same_z, upd_ne_z, upd_same_z]; exact iv.cz u hu (by omega)
        · intro u hu; by_cases q : u = f
          · subst q; simp (disch := omega) only [ms_ne_z, ms_same_z, upd_ne_z, upd_same_z]; exact ⟨k, by omega, ek⟩
          · simp (disch := omega) only [ms_ne_z, ms_same_z, upd_ne_z, upd_same_z]; exact iv.so u (by omega)
        · intro m hm; simp (disch := omega) only [ms_ne_z, ms_same_z, upd_ne_z, upd_same_z]; exact iv.kd m hm
        · intro m hm; simp (disch := omega) only [ms_ne_z, ms_same_z, upd_ne_z, upd_same_z]; exact iv.sk m hm
        · rw [v1]; simp (disch := omega) only [ms_ne_z, ms_same_z, upd_ne_z, upd_same_z]; exact i4
        · rw [v1]; simp (disch := omega) only [ms_ne_z, ms_same_z, upd_ne_z, upd_same_z]
        · intro m hm; rw [vo _ (by omega) (by omega) (by omega) (by omega)]; simp (disch := omega) only [ms_ne_z, ms_same_z, upd_ne_z, upd_same_z]; exact sr.pl m hm
        · intro u hu; rw [v10]; by_cases q : u = f
          · subst q; simp (disch := omega) only [ms_ne_z, ms_same_z, upd_ne_z, upd_same_z]; exact (iv.cz u (by omega) (by omega)).symm
          · simp (disch := omega) only [ms_ne_z, ms_same_z, upd_ne_z, upd_same_z]; exact sr.cl u (by omega)
        · intro u hu; rw [v2]; by_cases q : u = f
          · subst q; simp (disch := omega) only [ms_ne_z, ms_same_z, upd_ne_z, upd_same_z]
          · simp (disch := omega) only [ms_ne_z, ms_same_z, upd_ne_z, upd_same_z]; exact sr.so u (by omega)
        · intro m hm; rw [vo _ (by omega) (by omega) (by omega) (by omega)]; simp (disch := omega) only [ms_ne_z, ms_same_z, upd_ne_z, upd_same_z]; exact sr.kd m hm
        · intro m hm; rw [vo _ (by omega) (by omega) (by omega) (by omega)]; simp (disch := omega) only [ms_ne_z, ms_same_z, upd_ne_z, upd_same_z]; exact sr.sk m hm
        · simp (disch := omega) only [ms_ne_z, ms_same_z, upd_ne_z, upd_same_z]; exact r2
        · simp (disch := omega) only [ms_ne_z, ms_same_z, upd_ne_z, upd_same_z]; exact r3
        · simp (disch := omega) only [ms_ne_z, ms_same_z, upd_ne_z, upd_same_z]; exact r4
        · simp (disch := omega) only [ms_ne_z, ms_same_z, upd_ne_z, upd_same_z]; rfl
        · rw [v1]; simp (disch := omega) only [ms_ne_z, ms_same_z, upd_ne_z, upd_same_z]; exact q2
        · rw [v1]; simp (disch := omega) only [ms_ne_z, ms_same_z, upd_ne_z, upd_same_z]; exact q3
        · rw [v1]; simp (disch := omega) only [ms_ne_z, ms_same_z, upd_ne_z, upd_same_z]; exact q4
        · rw [v1]; simp (disch := omega) only [ms_ne_z, ms_same_z, upd_ne_z, upd_same_z]; rfl
        · intro i hi; rw [vo _ (by omega) (by omega) (by omega) (by omega)]; simp (disch := omega) only [ms_ne_z, ms_same_z, upd_ne_z, upd_same_z]; exact z.se i hi
        · intro i hi; rw [vo _ (by omega) (by omega) (by omega) (by omega)]; simp (disch := omega) only [ms_ne_z, ms_same_z, upd_ne_z, upd_same_z]; exact z.no i hi
        · intro i hi; rw [vo _ (by omega) (by omega) (by omega) (by omega)]; simp (disch := omega) only [ms_ne_z, ms_same_z, upd_ne_z, upd_same_z]; exact z.ma i hi
        · intro i hi; simp (disch := omega) only [ms_ne_z, ms_same_z, upd_ne_z, upd_same_z]; exact z.sv i hi
        · intro i hi; simp (disch := omega) only [ms_ne_z, ms_same_z, upd_ne_z, upd_same_z]; exact z.nv i hi
        · intro i hi; simp (disch := omega) only [ms_ne_z, ms_same_z, upd_ne_z, upd_same_z]; exact z.mv i hi
      · rw [← hs1]; simp (disch := omega) only [ms_ne_z, ms_same_z, upd_ne_z, upd_same_z]
      · rw [← hs2]; simp (disch := omega) only [ms_ne_z, ms_same_z, upd_ne_z, upd_same_z]

theorem op_man_z {σ : Me_} (g : Rel_z σ) (x y x3 : Int32) : Op_z σ (fun σ => F_X0_man σ x y x3) (fun σ => F_X6_man σ x y x3) := by
  obtain ⟨n, f, a, c, e, w, z⟩ := g.fu; have hn8 := z.iv.n8; have hf3 := z.iv.f3; have ha5 := z.a5; have hc6 := z.c6; have he6 := z.e6; have hw8 := z.w8; have i4 := z.sr.e4; have i1 := z.sr.e1; have t0 := z.iv.t0; have t1 := z.iv.t1; have r2 := z.r2; have r3 := z.r3; have r4 := z.r4; have r5 := z.r5; have q2 := z.q2; have q3 := z.q3; have q4 := z.q4; have q5 := z.q5
  by_cases h : F_X6_in x.toInt64 (0 : Int64) (5 : Int64) = 0
  · refine op_rf_z g 0 (by omega) (r := -2) ?_ ?_
    · show F_X0_man σ x y x3 = _
      unfold F_X0_man
      simp only [in06_z, in_and_z, i_z1_z, x0_bad_z, x0_no_z, x0_full_z, x0_badAsk_z, x6_bad_z, x6_no_z, x6_full_z, bi_some_z, bd_some_z, nm_eq_z, F_X0_isKind, F_X6_isKind, F_X0_isSkill, F_X6_isSkill, F_X0_isFar, F_X6_isFar, F_X0_isLong, F_X0_isShip, F_X6_isShip, F_X0_isMan, F_X6_isMan, F_X6_many, rf0_ne_z _ _ (show 91 ≠ 76 by omega), rf0_ne_z _ _ (show 90 ≠ 76 by omega), h, if_true]
    · show F_X6_man _ x y x3 = _
      unfold F_X6_man
      simp only [in06_z, in_and_z, i_z1_z, x0_bad_z, x0_no_z, x0_full_z, x0_badAsk_z, x6_bad_z, x6_no_z, x6_full_z, bi_some_z, bd_some_z, nm_eq_z, F_X0_isKind, F_X6_isKind, F_X0_isSkill, F_X6_isSkill, F_X0_isFar, F_X6_isFar, F_X0_isLong, F_X0_isShip, F_X6_isShip, F_X0_isMan, F_X6_isMan, F_X6_many, rf0_ne_z _ _ (show 91 ≠ 76 by omega), rf0_ne_z _ _ (show 90 ≠ 76 by omega), h, if_true]
  by_cases hs : F_X6_in y.toInt64 (1 : Int64) (9 : Int64) = 0
  · refine op_rf_z g 0 (by omega) (r := -2) ?_ ?_
    · show F_X0_man σ x y x3 = _
      unfold F_X0_man
      simp only [in06_z, in_and_z, i_z1_z, x0_bad_z, x0_no_z, x0_full_z, x0_badAsk_z, x6_bad_z, x6_no_z, x6_full_z, bi_some_z, bd_some_z, nm_eq_z, F_X0_isKind, F_X6_isKind, F_X0_isSkill, F_X6_isSkill, F_X0_isFar, F_X6_isFar, F_X0_isLong, F_X0_isShip, F_X6_isShip, F_X0_isMan, F_X6_isMan, F_X6_many, rf0_ne_z _ _ (show 91 ≠ 76 by omega), rf0_ne_z _ _ (show 90 ≠ 76 by omega), h, hs, if_true, if_false]
    · show F_X6_man _ x y x3 = _
      unfold F_X6_man
      simp only [in06_z, in_and_z, i_z1_z, x0_bad_z, x0_no_z, x0_full_z, x0_badAsk_z, x6_bad_z, x6_no_z, x6_full_z, bi_some_z, bd_some_z, nm_eq_z, F_X0_isKind, F_X6_isKind, F_X0_isSkill, F_X6_isSkill, F_X0_isFar, F_X6_isFar, F_X0_isLong, F_X0_isShip, F_X6_isShip, F_X0_isMan, F_X6_isMan, F_X6_many, rf0_ne_z _ _ (show 91 ≠ 76 by omega), rf0_ne_z _ _ (show 90 ≠ 76 by omega), h, hs, if_true, if_false]
  by_cases hp : x3 = -1 ∨ ¬ F_X6_in x3.toInt64 (0 : Int64) ((nI f - 1 : Int32).toInt64) = 0
  · have hc0 : (if x3 = (-1 : Int32) then true else if F_X6_in x3.toInt64 (0 : Int64) ((nI f - 1 : Int32).toInt64) = 0 then false else true) = true := by
      by_cases q : x3 = -1
      · rw [if_pos q]
      · rw [if_neg q]; cases hp with
        | inl u => exact absurd u q
        | inr u => rw [if_neg u]
    obtain ⟨k, _, hk, ek⟩ := in_oka_z (a := 0) (b := 5) (by decide) (by decide) h
    obtain ⟨v, hv1, hv, ev⟩ := in_oka_z (a := 1) (b := 9) (by decide) (by decide) hs
    have hpl : ∃ p, p ≤ f ∧ x3 + 1 = nI p := by
      cases hp with
      | inl u => exact ⟨0, by omega, by rw [u]; rfl⟩
      | inr u => obtain ⟨p, hp, ep⟩ := in_okn_z (by omega) u; exact ⟨p + 1, by omega, by rw [ep, nI_s_z]⟩
    by_cases hf : n = 8
    · have h8 : nI n = 8 := by rw [hf]; rfl
      refine op_rf_z g 2 (by omega) (r := -4) ?_ ?_
      · show F_X0_man σ x y x3 = _
        unfold F_X0_man
        simp only [in06_z, in_and_z, i_z1_z, x0_bad_z, x0_no_z, x0_full_z, x0_badAsk_z, x6_bad_z, x6_no_z, x6_full_z, bi_some_z, bd_some_z, nm_eq_z, F_X0_isKind, F_X6_isKind, F_X0_isSkill, F_X6_isSkill, F_X0_isFar, F_X6_isFar, F_X0_isLong, F_X0_isShip, F_X6_isShip, F_X0_isMan, F_X6_isMan, F_X6_many, rf0_ne_z _ _ (show 91 ≠ 76 by omega), rf0_ne_z _ _ (show 90 ≠ 76 by omega), h, hs, if_false, i1, i4, hc0, h8, if_true]
      · show F_X6_man _ x y x3 = _
        unfold F_X6_man
        simp only [in06_z, in_and_z, i_z1_z, x0_bad_z, x0_no_z, x0_full_z, x0_badAsk_z, x6_bad_z, x6_no_z, x6_full_z, bi_some_z, bd_some_z, nm_eq_z, F_X0_isKind, F_X6_isKind, F_X0_isSkill, F_X6_isSkill, F_X0_isFar, F_X6_isFar, F_X0_isLong, F_X0_isShip, F_X6_isShip, F_X0_isMan, F_X6_isMan, F_X6_many, rf0_ne_z _ _ (show 91 ≠ 76 by omega), rf0_ne_z _ _ (show 90 ≠ 76 by omega), h, hs, if_false, t1, t0, hc0, h8, if_true]
    · have h8 : ¬ nI n = 8 := by rw [nI_lit_z, nI_inj_z (by omega) (by omega)]; exact hf
      have b1 : inb_ x 6 = true := by rw [ek, nI_inb_z (by omega)]; omega
      have b2 : inb_ (nI n) 8 = true := by rw [nI_inb_z (by omega)]; omega
      have b3 : inb_ (nI (20 + n)) 192 = true := by rw [nI_inb_z (by omega)]; omega
      have b4 : inb_ (nI (28 + n)) 192 = true := by rw [nI_inb_z (by omega)]; omega
      have b5 : inb_ (nI (6 + n)) 192 = true := by rw [nI_inb_z (by omega)]; omega
      have b6 : inb_ 0 192 = true := by decide
      have e20 : (20 : Int32) + nI n = nI (20 + n) := nI_add_z 20 n
      have e28 : (28 : Int32) + nI n = nI (28 + n) := nI_add_z 28 n
      have e6' : (6 : Int32) + nI n = nI (6 + n) := nI_add_z 6 n
      have z0 : (0 : Int32).toNatClampNeg = 0 := by decide
      have ex : nI x.toNatClampNeg = x := by rw [ek, nI_nat_z (by omega)]
      generalize hs1 : me_set (me_set (me_set (me_set (me_set σ (1 + 2) n x) (1 + 3) n y) (1 + 7 + 1) n x3) 1 4 (nI (n + 1))) 1 13 0 = σ1
      generalize hs2 : me_set (me_set (me_set (me_set (me_set σ1 91 (20 + n) x) 91 (28 + n) y) 91 (6 + n) (x3 + 1)) 91 0 (nI (n + 1))) 91 5 0 = σ2
      have s91 : σ1.1 91 = σ.1 91 := by rw [← hs1]; simp (disch := omega) only [ms_ne_z, ms_same_z, upd_ne_z, upd_same_z]
      have p1 : nI (n + 1) - 1 = nI n := by rw [← nI_s_z]; exact i_add1s_z _
      have w1 : σ1.1 1 4 = nI (n + 1) := by rw [← hs1]; simp (disch := omega) only [ms_ne_z, ms_same_z, upd_ne_z, upd_same_z]
      have w2 : σ2.1 91 0 = nI (n + 1) := by rw [← hs2]; simp (disch := omega) only [ms_ne_z, ms_same_z, upd_ne_z, upd_same_z]
      refine ⟨nI n, σ1, σ2, ?_, ?_, ?_, ?_, ?_⟩
      · show F_X0_man σ x y x3 = _
        unfold F_X0_man F_X1_adds
        simp (disch := omega) only [in06_z, F_X0_isKind, F_X0_isSkill, F_X0_isShip, in_and_z, h, hs, hc0, if_false, i4, i1, h8, b1, b2, if_true, nm_eq_z, ex, nI_nat_z, ms_ne_z, ms_same_z, upd_same_z, bd_some_z, nI_s_z, upd_ne_z, hs1, w1, p1]
      · show F_X6_man σ1 x y x3 = _
        unfold F_X6_man F_X6_layMan
        simp (disch := omega) only [F_X6_isKind, F_X6_isSkill, F_X6_isShip, F_X6_many, in_and_z, h, hs, hc0, if_false, s91, t1, t0, z0, h8, b3, b4, b5, b6, if_true, nm_eq_z, e20, e28, e6', nI_nat_z, ms_ne_z, ms_same_z, upd_same_z, nI_s_z, upd_ne_z, bd_some_z, hs2, w2, p1]
      · refine rel_isl_z g (by rw [← hs2, ← hs1]; rfl) (fun j hj => by rw [← hs2, ← hs1]; simp (disch := omega) only [ms_ne_z, ms_same_z, upd_ne_z, upd_same_z]) (n := n + 1) (f := f) (a := a) (c := c) (e := e) (w := 0) ?_
        have v91 : σ2.1 91 = upd (upd (upd (upd (upd (σ.1 91) (20 + n) x) (28 + n) y) (6 + n) (x3 + 1)) 0 (nI (n + 1))) 5 0 := by rw [← hs2]; simp (disch := omega) only [ms_ne_z, ms_same_z, upd_ne_z, upd_same_z, s91]
        have v1 : σ2.1 1 = upd (upd (σ.1 1) 4 (nI (n + 1))) 13 0 := by rw [← hs2, ← hs1]; simp (disch := omega) only [ms_ne_z, ms_same_z, upd_ne_z, upd_same_z]
        have v3 : σ2.1 (1 + 2) = upd (σ.1 (1 + 2)) n x := by rw [← hs2, ← hs1]; simp (disch := omega) only [ms_ne_z, ms_same_z, upd_ne_z, upd_same_z]
        have v4 : σ2.1 (1 + 3) = upd (σ.1 (1 + 3)) n y := by rw [← hs2, ← hs1]; simp (disch := omega) only [ms_ne_z, ms_same_z, upd_ne_z, upd_same_z]
        have v9 : σ2.1 (1 + 7 + 1) = upd (σ.1 (1 + 7 + 1)) n x3 := by rw [← hs2, ← hs1]; simp (disch := omega) only [ms_ne_z, ms_same_z, upd_ne_z, upd_same_z]
        have vo : ∀ j, j < 36 → j ≠ 1 → j ≠ 3 → j ≠ 4 → j ≠ 9 → σ2.1 j = σ.1 j := fun j h1 h2 h3 h4 h5 => by rw [← hs2, ← hs1]; simp (disch := omega) only [ms_ne_z, ms_same_z, upd_ne_z, upd_same_z]
        rw [v91]
        have iv := z.iv
        have sr := z.sr
        refine ⟨⟨by omega, hf3, ?_, ?_, ?_, ?_, ?_, ?_, ?_, ?_⟩, ⟨?_, ?_, ?_, ?_, ?_, ?_, ?_⟩, ha5, hc6, he6, by omega, ?_, ?_, ?_, ?_, ?_, ?_, ?_, ?_, ?_, ?_, ?_, ?_, ?_, ?_, fun j hj => absurd hj (Nat.not_lt_zero _), fun j hj => absurd hj (Nat.not_lt_zero _), fun j hj => absurd hj (Nat.not_lt_zero _)⟩
        · simp (disch := omega) only [ms_ne_z, ms_same_z, upd_ne_z, upd_same_z]
        · simp (disch := omega) only [ms_ne_z, ms_same_z, upd_ne_z, upd_same_z]; exact t1
        · intro m hm; by_cases q : m = n
          · subst q; simp (disch := omega) only [ms_ne_z, ms_same_z, upd_ne_z, upd_same_z]; exact hpl
          · simp (disch := omega) only [ms_ne_z, ms_same_z, upd_ne_z, upd_same_z]; exact iv.pl m (by omega)
        · intro u hu; simp (disch := omega) only [ms_ne_z, ms_same_z, upd_ne_z, upd_same_z]; exact iv.cl u hu
        · intro u hu hq; simp (disch := omega) only [ms_ne_z, ms_same_z, upd_ne_z, upd_same_z]; exact iv.cz u hu hq
        · intro u hu; simp (disch := omega) only [ms_ne_z, ms_same_z, upd_ne_z, upd_same_z]; exact iv.so u hu
        · intro m hm; by_cases q : m = n
          · subst q; simp (disch := omega) only [ms_ne_z, ms_same_z, upd_ne_z, upd_same_z]; exact ⟨k, by omega, ek⟩
          · simp (disch := omega) only [ms_ne_z, ms_same_z, upd_ne_z, upd_same_z]; exact iv.kd m (by omega)
        · intro m hm; by_cases q : m = n
          · subst q; simp (disch := omega) only [ms_ne_z, ms_same_z, upd_ne_z, upd_same_z]; exact ⟨v, by omega, by omega, ev⟩
          · simp (disch := omega) only [ms_ne_z, ms_same_z, upd_ne_z, upd_same_z]; exact iv.sk m (by omega)
        · rw [v1]; simp (disch := omega) only [ms_ne_z, ms_same_z, upd_ne_z, upd_same_z]
        · rw [v1]; simp (disch := omega) only [ms_ne_z, ms_same_z, upd_ne_z, upd_same_z]; exact i1
        · intro m hm; rw [v9]; by_cases q : m = n
          · subst q; simp (disch := omega) only [ms_ne_z, ms_same_z, upd_ne_z, upd_same_z]; exact (i_add1s_z _).symm
          · simp (disch := omega) only [ms_ne_z, ms_same_z, upd_ne_z, upd_same_z]; exact sr.pl m (by omega)
        · intro u hu; rw [vo _ (by omega) (by omega) (by omega) (by omega) (by omega)]; simp (disch := omega) only [ms_ne_z, ms_same_z, upd_ne_z, upd_same_z]; exact sr.cl u hu
        · intro u hu; rw [vo _ (by omega) (by omega) (by omega) (by omega) (by omega)]; simp (disch := omega) only [ms_ne_z, ms_same_z, upd_ne_z, upd_same_z]; exact sr.so u hu
        · intro m hm; rw [v3]; by_cases q : m = n
          · subst q; simp (disch := omega) only [ms_ne_z, ms_same_z, upd_ne_z, upd_same_z]
          · simp (disch := omega) only [ms_ne_z, ms_same_z, upd_ne_z, upd_same_z]; exact sr.kd m (by omega)
        · intro m hm; rw [v4]; by_cases q : m = n
          · subst q; simp (disch := omega) only [ms_ne_z, ms_same_z, upd_ne_z, upd_same_z]
          · simp (disch := omega) only [ms_ne_z, ms_same_z, upd_ne_z, upd_same_z]; exact sr.sk m (by omega)
        · simp (disch := omega) only [ms_ne_z, ms_same_z, upd_ne_z, upd_same_z]; exact r2
        · simp (disch := omega) only [ms_ne_z, ms_same_z, upd_ne_z, upd_same_z]; exact r3
        · simp (disch := omega) only [ms_ne_z, ms_same_z, upd_ne_z, upd_same_z]; exact r4
        · simp (disch := omega) only [ms_ne_z, ms_same_z, upd_ne_z, upd_same_z]; rfl
        · rw [v1]; simp (disch := omega) only [ms_ne_z, ms_same_z, upd_ne_z, upd_same_z]; exact q2
        · rw [v1]; simp (disch := omega) only [ms_ne_z, ms_same_z, upd_ne_z, upd_same_z]; exact q3
        · rw [v1]; simp (disch := omega) only [ms_ne_z, ms_same_z, upd_ne_z, upd_same_z]; exact q4
        · rw [v1]; simp (disch := omega) only [ms_ne_z, ms_same_z, upd_ne_z, upd_same_z]; rfl
        · intro i hi; rw [vo _ (by omega) (by omega) (by omega) (by omega) (by omega)]; simp (disch := omega) only [ms_ne_z, ms_same_z, upd_ne_z, upd_same_z]; exact z.se i hi
        · intro i hi; rw [vo _ (by omega) (by omega) (by omega) (by omega) (by omega)]; simp (disch := omega) only [ms_ne_z, ms_same_z, upd_ne_z, upd_same_z]; exact z.no i hi
        · intro i hi; rw [vo _ (by omega) (by omega) (by omega) (by omega) (by omega)]; simp (disch := omega) only [ms_ne_z, ms_same_z, upd_ne_z, upd_same_z]; exact z.ma i hi
        · intro i hi; simp (disch := omega) only [ms_ne_z, ms_same_z, upd_ne_z, upd_same_z]; exact z.sv i hi
        · intro i hi; simp (disch := omega) only [ms_ne_z, ms_same_z, upd_ne_z, upd_same_z]; exact z.nv i hi
        · intro i hi; simp (disch := omega) only [ms_ne_z, ms_same_z, upd_ne_z, upd_same_z]; exact z.mv i hi
      · rw [← hs1]; simp (disch := omega) only [ms_ne_z, ms_same_z, upd_ne_z, upd_same_z]
      · rw [← hs2]; simp (disch := omega) only [ms_ne_z, ms_same_z, upd_ne_z, upd_same_z]
  · have hq1 : ¬ x3 = -1 := fun u => hp (Or.inl u)
    have hq2 : F_X6_in x3.toInt64 (0 : Int64) ((nI f - 1 : Int32).toInt64) = 0 := Classical.byContradiction fun u => hp (Or.inr u)
    refine op_rf_z g 0 (by omega) (r := -2) ?_ ?_
    · show F_X0_man σ x y x3 = _
      unfold F_X0_man
      simp only [in06_z, in_and_z, i_z1_z, x0_bad_z, x0_no_z, x0_full_z, x0_badAsk_z, x6_bad_z, x6_no_z, x6_full_z, bi_some_z, bd_some_z, nm_eq_z, F_X0_isKind, F_X6_isKind, F_X0_isSkill, F_X6_isSkill, F_X0_isFar, F_X6_isFar, F_X0_isLong, F_X0_isShip, F_X6_isShip, F_X0_isMan, F_X6_isMan, F_X6_many, rf0_ne_z _ _ (show 91 ≠ 76 by omega), rf0_ne_z _ _ (show 90 ≠ 76 by omega), h, hs, if_false, i1, i4, hq1, hq2, if_true, Bool.false_eq_true]
    · show F_X6_man _ x y x3 = _
      unfold F_X6_man
      simp only [in06_z, in_and_z, i_z1_z, x0_bad_z, x0_no_z, x0_full_z, x0_badAsk_z, x6_bad_z, x6_no_z, x6_full_z, bi_some_z, bd_some_z, nm_eq_z, F_X0_isKind, F_X6_isKind, F_X0_isSkill, F_X6_isSkill, F_X0_isFar, F_X6_isFar, F_X0_isLong, F_X0_isShip, F_X6_isShip, F_X0_isMan, F_X6_isMan, F_X6_many, rf0_ne_z _ _ (show 91 ≠ 76 by omega), rf0_ne_z _ _ (show 90 ≠ 76 by omega), h, hs, if_false, t1, t0, hq1, hq2, if_true, Bool.false_eq_true]
