set_option maxRecDepth 100000
set_option linter.unusedSimpArgs false
set_option linter.unusedVariables false

/-! PURE L: queries of the island as it is -/
theorem in_no3_z {x : Int32} (h : F_X6_in x.toInt64 (0 : Int64) (3 : Int64) = 0) : ¬ x = 0 ∧ ¬ x = 1 ∧ ¬ x = 2 ∧ ¬ x = 3 := by
  refine ⟨?_, ?_, ?_, ?_⟩ <;> (intro q; subst q; revert h; decide)
theorem in_yes3_z {x : Int32} (h : ¬ F_X6_in x.toInt64 (0 : Int64) (3 : Int64) = 0) : x = 0 ∨ x = 1 ∨ x = 2 ∨ x = 3 := by
  obtain ⟨k, _, hk, e⟩ := in_oka_z (a := 0) (b := 3) (by decide) (by decide) h
  have : k = 0 ∨ k = 1 ∨ k = 2 ∨ k = 3 := by omega
  rcases this with q | q | q | q
  · exact Or.inl (by rw [e, q]; rfl)
  · exact Or.inr (Or.inl (by rw [e, q]; rfl))
  · exact Or.inr (Or.inr (Or.inl (by rw [e, q]; rfl)))
  · exact Or.inr (Or.inr (Or.inr (by rw [e, q]; rfl)))
theorem i_30_z : ¬ (3 : Int32) = 0 := by decide
theorem i_31_z : ¬ (3 : Int32) = 1 := by decide
theorem i_32_z : ¬ (3 : Int32) = 2 := by decide
theorem x0_likedNow_z {σ : Me_} {R : Nat → Int32} {n f m : Nat} (iv : Iv_z R n f) (sr : Sr_z σ 1 8 R n f) (hm : m < n) : F_X0_likedNow σ (nI m) = some (if R (6 + m) = 0 then -1 else lkT_z R m ((R (6 + m)).toNatClampNeg - 1)) := by
  have hn8 := iv.n8
  have hf3 := iv.f3
  unfold F_X0_likedNow
  have b1 : inb_ (nI m) 8 = true := by rw [nI_inb_z (by omega)]; omega
  have pl : σ.1 9 m = R (6 + m) - 1 := sr.pl m hm
  simp (disch := omega) only [b1, if_true, nI_nat_z, nm_eq_z, pl, i_m1_z]
  by_cases q : R (6 + m) = 0
  · simp only [q, if_true]
  · simp only [q, if_false]
    obtain ⟨p, hp, ep⟩ := iv.pl m hm
    have hp0 : p ≠ 0 := fun t => q (by rw [ep, t]; rfl)
    have e1 : nI p - 1 = nI (p - 1) := nI_sub_z (b := 1) (by omega)
    rw [ep, e1, nI_nat_z (by omega)]
    obtain ⟨l1, _, l3⟩ := lk_T_z iv (show p - 1 < f by omega) hm
    have kd : σ.1 3 m = R (20 + m) := sr.kd m hm
    have sk : σ.1 4 m = R (28 + m) := sr.sk m hm
    have cl : σ.1 10 (p - 1) = R (14 + (p - 1)) := sr.cl _ (by omega)
    rw [kd, sk, if_neg l3, if_pos (by rw [nI_inb_z (by omega)]; omega), nI_nat_z (by omega), cl, l1]
theorem op_of_z {σ : Me_} (g : Rel_z σ) (x y : Int32) : Op_z σ (fun σ => F_X0_of σ x y) (fun σ => F_X6_of σ x y) := by
  obtain ⟨n, f, a, c, e, w, z⟩ := g.fu; have hn8 := z.iv.n8; have hf3 := z.iv.f3; have ha5 := z.a5; have hc6 := z.c6; have he6 := z.e6; have hw8 := z.w8; have i4 := z.sr.e4; have i1 := z.sr.e1; have t0 := z.iv.t0; have t1 := z.iv.t1; have r2 := z.r2; have r3 := z.r3; have r4 := z.r4; have r5 := z.r5; have q2 := z.q2; have q3 := z.q3; have q4 := z.q4; have q5 := z.q5
  by_cases h : F_X6_in x.toInt64 (0 : Int64) ((nI n - 1 : Int32).toInt64) = 0
  · refine op_rf_z g 0 (by omega) (r := -2) ?_ ?_
    · show F_X0_of σ x y = _
      unfold F_X0_of
      simp only [in06_z, in_and_z, i_z1_z, x0_bad_z, x0_no_z, x0_full_z, x0_badAsk_z, x6_bad_z, x6_no_z, x6_full_z, bi_some_z, bd_some_z, nm_eq_z, F_X0_isKind, F_X6_isKind, F_X0_isSkill, F_X6_isSkill, F_X0_isFar, F_X6_isFar, F_X0_isLong, F_X0_isShip, F_X6_isShip, F_X0_isMan, F_X6_isMan, F_X6_many, rf0_ne_z _ _ (show 91 ≠ 76 by omega), rf0_ne_z _ _ (show 90 ≠ 76 by omega), i4, h, if_true]
    · show F_X6_of _ x y = _
      unfold F_X6_of
      simp only [in06_z, in_and_z, i_z1_z, x0_bad_z, x0_no_z, x0_full_z, x0_badAsk_z, x6_bad_z, x6_no_z, x6_full_z, bi_some_z, bd_some_z, nm_eq_z, F_X0_isKind, F_X6_isKind, F_X0_isSkill, F_X6_isSkill, F_X0_isFar, F_X6_isFar, F_X0_isLong, F_X0_isShip, F_X6_isShip, F_X0_isMan, F_X6_isMan, F_X6_many, rf0_ne_z _ _ (show 91 ≠ 76 by omega), rf0_ne_z _ _ (show 90 ≠ 76 by omega), t0, h, if_true]
  by_cases h' : F_X6_in y.toInt64 (0 : Int64) (3 : Int64) = 0
  · obtain ⟨y0, y1, y2, y3⟩ := in_no3_z h'
    refine op_rf_z g 0 (by omega) (r := -2) ?_ ?_
    · show F_X0_of σ x y = _
      unfold F_X0_of
      simp only [in06_z, in_and_z, i_z1_z, x0_bad_z, x0_no_z, x0_full_z, x0_badAsk_z, x6_bad_z, x6_no_z, x6_full_z, bi_some_z, bd_some_z, nm_eq_z, F_X0_isKind, F_X6_isKind, F_X0_isSkill, F_X6_isSkill, F_X0_isFar, F_X6_isFar, F_X0_isLong, F_X0_isShip, F_X6_isShip, F_X0_isMan, F_X6_isMan, F_X6_many, rf0_ne_z _ _ (show 91 ≠ 76 by omega), rf0_ne_z _ _ (show 90 ≠ 76 by omega), i4, h, if_true, if_false, y0, y1, y2, y3]
    · show F_X6_of _ x y = _
      unfold F_X6_of
      simp only [in06_z, in_and_z, i_z1_z, x0_bad_z, x0_no_z, x0_full_z, x0_badAsk_z, x6_bad_z, x6_no_z, x6_full_z, bi_some_z, bd_some_z, nm_eq_z, F_X0_isKind, F_X6_isKind, F_X0_isSkill, F_X6_isSkill, F_X0_isFar, F_X6_isFar, F_X0_isLong, F_X0_isShip, F_X6_isShip, F_X0_isMan, F_X6_isMan, F_X6_many, rf0_ne_z _ _ (show 91 ≠ 76 by omega), rf0_ne_z _ _ (show 90 ≠ 76 by omega), t0, h, h', if_true, if_false]
  obtain ⟨m, hm, em⟩ := in_okn_z (by omega) h
  subst em
  have iv := z.iv
  have sr := z.sr
  have b1 : inb_ (nI m) 8 = true := by rw [nI_inb_z (by omega)]; omega
  have b2 : inb_ (nI (6 + m)) 192 = true := by rw [nI_inb_z (by omega)]; omega
  have b3 : inb_ (nI (20 + m)) 192 = true := by rw [nI_inb_z (by omega)]; omega
  have b4 : inb_ (nI (28 + m)) 192 = true := by rw [nI_inb_z (by omega)]; omega
  have e6' : (6 : Int32) + nI m = nI (6 + m) := nI_add_z 6 m
  have e20 : (20 : Int32) + nI m = nI (20 + m) := nI_add_z 20 m
  have e28 : (28 : Int32) + nI m = nI (28 + m) := nI_add_z 28 m
  have pl : σ.1 9 m = σ.1 91 (6 + m) - 1 := sr.pl m hm
  have kd : σ.1 3 m = σ.1 91 (20 + m) := sr.kd m hm
  have sk : σ.1 4 m = σ.1 91 (28 + m) := sr.sk m hm
  obtain ⟨k, hk, ek⟩ := iv.kd m hm
  have hb : ∀ v, F_X0_of σ (nI m) y = some (v, σ) → F_X6_of σ (nI m) y = some (v, σ) → Op_z σ (fun σ => F_X0_of σ (nI m) y) (fun σ => F_X6_of σ (nI m) y) := fun v u1 u2 => op_ro_z g u1 u2 (Same_z.refl _) (Same_z.refl _)
  have F0 : (if (if F_X6_in (nI m).toInt64 (0 : Int64) ((nI n - 1 : Int32).toInt64) = 0 then true else if F_X6_in y.toInt64 (0 : Int64) (3 : Int64) = 0 then true else false) = true then (0 : Nat) else 1) = 1 := by rw [if_neg h, if_neg h']; rfl
  rcases in_yes3_z h' with q | q | q | q
  · subst q
    refine hb (nI k) ?_ ?_
    · unfold F_X0_of
      simp (disch := omega) only [in06_z, in_and_z, F_X0_isMan, i4, h, if_false, if_true, b1, nI_nat_z, kd, ek, nI_nn_z, Nat.mod_eq_of_lt hk, (kd_eq_z k hk).1]
    · unfold F_X6_of
      simp (disch := omega) only [in_and_z, F_X6_isMan, F_X6_many, t0, h, h', if_false, if_true, nm_eq_z, Bool.false_eq_true, e6', b2, e20, b3, nI_nat_z, ek]
  · subst q
    refine hb (σ.1 91 (28 + m)) ?_ ?_
    · unfold F_X0_of
      simp (disch := omega) only [in06_z, in_and_z, F_X0_isMan, i4, h, if_false, if_true, b1, nI_nat_z, sk, i_10_z]
    · unfold F_X6_of
      simp (disch := omega) only [in_and_z, F_X6_isMan, F_X6_many, t0, h, h', if_false, if_true, nm_eq_z, Bool.false_eq_true, e6', b2, e28, b4, nI_nat_z, i_10_z]
  · subst q
    refine hb (σ.1 91 (6 + m) - 1) ?_ ?_
    · unfold F_X0_of
      simp (disch := omega) only [in06_z, in_and_z, F_X0_isMan, i4, h, if_false, if_true, b1, nI_nat_z, pl, i_20_z, i_21_z]
    · unfold F_X6_of
      simp (disch := omega) only [in_and_z, F_X6_isMan, F_X6_many, t0, h, h', if_false, if_true, nm_eq_z, Bool.false_eq_true, e6', b2, nI_nat_z, i_20_z, i_21_z]
  · subst q
    refine hb (if σ.1 91 (6 + m) = 0 then -1 else lkT_z (σ.1 91) m ((σ.1 91 (6 + m)).toNatClampNeg - 1)) ?_ ?_
    · unfold F_X0_of
      simp (disch := omega) only [in06_z, in_and_z, F_X0_isMan, i4, h, if_false, if_true, i_30_z, i_31_z, i_32_z, x0_likedNow_z iv sr hm, bd_some_z]
    · unfold F_X6_of
      simp (disch := omega) only [in_and_z, F_X6_isMan, F_X6_many, t0, h, h', if_false, if_true, nm_eq_z, Bool.false_eq_true, e6', b2, nI_nat_z, i_30_z, i_31_z, i_32_z, i_m1_z]
      by_cases q : σ.1 91 (6 + m) = 0
      · simp only [q, if_true]
      · simp only [q, if_false]
        obtain ⟨p, hp, ep⟩ := iv.pl m hm
        have hp0 : p ≠ 0 := fun t => q (by rw [ep, t]; rfl)
        have e1 : nI p - 1 = nI (p - 1) := nI_sub_z (b := 1) (by omega)
        rw [ep, e1, nI_nat_z (by omega), x6_likedOf_z rfl iv (by omega) (by omega) hm, bd_some_z]
theorem op_about_z {σ : Me_} (g : Rel_z σ) (x y : Int32) : Op_z σ (fun σ => F_X0_about σ x y) (fun σ => F_X6_about σ x y) := by
  obtain ⟨n, f, a, c, e, w, z⟩ := g.fu; have hn8 := z.iv.n8; have hf3 := z.iv.f3; have ha5 := z.a5; have hc6 := z.c6; have he6 := z.e6; have hw8 := z.w8; have i4 := z.sr.e4; have i1 := z.sr.e1; have t0 := z.iv.t0; have t1 := z.iv.t1; have r2 := z.r2; have r3 := z.r3; have r4 := z.r4; have r5 := z.r5; have q2 := z.q2; have q3 := z.q3; have q4 := z.q4; have q5 := z.q5
  by_cases h : F_X6_in x.toInt64 (0 : Int64) ((nI f - 1 : Int32).toInt64) = 0
  · refine op_rf_z g 0 (by omega) (r := -2) ?_ ?_
    · show F_X0_about σ x y = _
      unfold F_X0_about
      simp only [in06_z, in_and_z, i_z1_z, x0_bad_z, x0_no_z, x0_full_z, x0_badAsk_z, x6_bad_z, x6_no_z, x6_full_z, bi_some_z, bd_some_z, nm_eq_z, F_X0_isKind, F_X6_isKind, F_X0_isSkill, F_X6_isSkill, F_X0_isFar, F_X6_isFar, F_X0_isLong, F_X0_isShip, F_X6_isShip, F_X0_isMan, F_X6_isMan, F_X6_many, rf0_ne_z _ _ (show 91 ≠ 76 by omega), rf0_ne_z _ _ (show 90 ≠ 76 by omega), i1, h, if_true]
    · show F_X6_about _ x y = _
      unfold F_X6_about
      simp only [in06_z, in_and_z, i_z1_z, x0_bad_z, x0_no_z, x0_full_z, x0_badAsk_z, x6_bad_z, x6_no_z, x6_full_z, bi_some_z, bd_some_z, nm_eq_z, F_X0_isKind, F_X6_isKind, F_X0_isSkill, F_X6_isSkill, F_X0_isFar, F_X6_isFar, F_X0_isLong, F_X0_isShip, F_X6_isShip, F_X0_isMan, F_X6_isMan, F_X6_many, rf0_ne_z _ _ (show 91 ≠ 76 by omega), rf0_ne_z _ _ (show 90 ≠ 76 by omega), t1, h, if_true]
  by_cases h' : F_X6_in y.toInt64 (0 : Int64) (3 : Int64) = 0
  · obtain ⟨y0, y1, y2, y3⟩ := in_no3_z h'
    refine op_rf_z g 0 (by omega) (r := -2) ?_ ?_
    · show F_X0_about σ x y = _
      unfold F_X0_about
      simp only [in06_z, in_and_z, i_z1_z, x0_bad_z, x0_no_z, x0_full_z, x0_badAsk_z, x6_bad_z, x6_no_z, x6_full_z, bi_some_z, bd_some_z, nm_eq_z, F_X0_isKind, F_X6_isKind, F_X0_isSkill, F_X6_isSkill, F_X0_isFar, F_X6_isFar, F_X0_isLong, F_X0_isShip, F_X6_isShip, F_X0_isMan, F_X6_isMan, F_X6_many, rf0_ne_z _ _ (show 91 ≠ 76 by omega), rf0_ne_z _ _ (show 90 ≠ 76 by omega), i1, h, if_true, if_false, y0, y1, y2, y3]
    · show F_X6_about _ x y = _
      unfold F_X6_about
      simp only [in06_z, in_and_z, i_z1_z, x0_bad_z, x0_no_z, x0_full_z, x0_badAsk_z, x6_bad_z, x6_no_z, x6_full_z, bi_some_z, bd_some_z, nm_eq_z, F_X0_isKind, F_X6_isKind, F_X0_isSkill, F_X6_isSkill, F_X0_isFar, F_X6_isFar, F_X0_isLong, F_X0_isShip, F_X6_isShip, F_X0_isMan, F_X6_isMan, F_X6_many, rf0_ne_z _ _ (show 91 ≠ 76 by omega), rf0_ne_z _ _ (show 90 ≠ 76 by omega), t1, h, h', if_true, if_false]
  obtain ⟨u, hu, eu⟩ := in_okn_z (by omega) h
  subst eu
  have iv := z.iv
  have sr := z.sr
  have b1 : inb_ (nI u) 3 = true := by rw [nI_inb_z (by omega)]; omega
  have b2 : inb_ (nI (17 + u)) 192 = true := by rw [nI_inb_z (by omega)]; omega
  have b3 : inb_ (nI (14 + u)) 192 = true := by rw [nI_inb_z (by omega)]; omega
  have e17 : (17 : Int32) + nI u = nI (17 + u) := nI_add_z 17 u
  have e14 : (14 : Int32) + nI u = nI (14 + u) := nI_add_z 14 u
  have so : σ.1 2 u = σ.1 91 (17 + u) := sr.so u hu
  have cl : σ.1 10 u = σ.1 91 (14 + u) := sr.cl u hu
  obtain ⟨k, hk, ek⟩ := iv.so u hu
  have hb : ∀ v, F_X0_about σ (nI u) y = some (v, σ) → F_X6_about σ (nI u) y = some (v, σ) → Op_z σ (fun σ => F_X0_about σ (nI u) y) (fun σ => F_X6_about σ (nI u) y) := fun v u1 u2 => op_ro_z g u1 u2 (Same_z.refl _) (Same_z.refl _)
  rcases in_yes3_z h' with q | q | q | q
  · subst q
    refine hb (nI k) ?_ ?_
    · unfold F_X0_about
      simp (disch := omega) only [in06_z, in_and_z, F_X0_isShip, i1, h, if_false, if_true, b1, nI_nat_z, so, ek, nI_nn_z, Nat.mod_eq_of_lt hk, (kd_eq_z k hk).2]
    · unfold F_X6_about
      simp (disch := omega) only [in_and_z, F_X6_isShip, t1, h, h', if_false, if_true, nm_eq_z, Bool.false_eq_true, e17, b2, nI_nat_z, ek]
  · subst q
    refine hb (σ.1 91 (14 + u)) ?_ ?_
    · unfold F_X0_about
      simp (disch := omega) only [in06_z, in_and_z, F_X0_isShip, i1, h, if_false, if_true, b1, nI_nat_z, cl, i_10_z]
    · unfold F_X6_about
      simp (disch := omega) only [in_and_z, F_X6_isShip, t1, h, h', if_false, if_true, nm_eq_z, Bool.false_eq_true, e14, b3, nI_nat_z, i_10_z]
  · subst q
    refine hb (nI (bst_z (σ.1 91) (nI u + 1) n)) ?_ ?_
    · unfold F_X0_about
      simp (disch := omega) only [in06_z, in_and_z, F_X0_isShip, i1, h, if_false, if_true, i_20_z, i_21_z, x1_at_z iv sr, bd_some_z]
    · unfold F_X6_about
      simp (disch := omega) only [in_and_z, F_X6_isShip, t1, h, h', if_false, if_true, nm_eq_z, Bool.false_eq_true, i_20_z, i_21_z, x6_crewOf_z rfl iv, bd_some_z]
  · subst q
    refine hb (sks_z (σ.1 91) (nI u + 1) n) ?_ ?_
    · unfold F_X0_about
      simp (disch := omega) only [in06_z, in_and_z, F_X0_isShip, i1, h, if_false, if_true, i_30_z, i_31_z, i_32_z, x1_at_z iv sr, bd_some_z, x1_skillOf_z iv sr]
    · unfold F_X6_about
      rw [x6_skillsIn_z rfl iv (by omega)]
      simp (disch := omega) only [in_and_z, F_X6_isShip, t1, h, h', if_false, if_true, nm_eq_z, Bool.false_eq_true, i_30_z, i_31_z, i_32_z, bd_some_z]
theorem op_left_z {σ : Me_} (g : Rel_z σ) (x : Int32) : Op_z σ (fun σ => F_X0_left σ x) (fun σ => F_X6_left σ x) := by
  obtain ⟨n, f, a, c, e, w, z⟩ := g.fu; have hn8 := z.iv.n8; have hf3 := z.iv.f3; have ha5 := z.a5; have hc6 := z.c6; have he6 := z.e6; have hw8 := z.w8; have i4 := z.sr.e4; have i1 := z.sr.e1; have t0 := z.iv.t0; have t1 := z.iv.t1; have r2 := z.r2; have r3 := z.r3; have r4 := z.r4; have r5 := z.r5; have q2 := z.q2; have q3 := z.q3; have q4 := z.q4; have q5 := z.q5
  by_cases h : F_X6_in x.toInt64 (0 : Int64) ((nI f - 1 : Int32).toInt64) = 0
  · refine op_rf_z g 0 (by omega) (r := -2) ?_ ?_
    · show F_X0_left σ x = _
      unfold F_X0_left
      simp only [in06_z, in_and_z, i_z1_z, x0_bad_z, x0_no_z, x0_full_z, x0_badAsk_z, x6_bad_z, x6_no_z, x6_full_z, bi_some_z, bd_some_z, nm_eq_z, F_X0_isKind, F_X6_isKind, F_X0_isSkill, F_X6_isSkill, F_X0_isFar, F_X6_isFar, F_X0_isLong, F_X0_isShip, F_X6_isShip, F_X0_isMan, F_X6_isMan, F_X6_many, rf0_ne_z _ _ (show 91 ≠ 76 by omega), rf0_ne_z _ _ (show 90 ≠ 76 by omega), i1, h, if_true]
    · show F_X6_left _ x = _
      unfold F_X6_left
      simp only [in06_z, in_and_z, i_z1_z, x0_bad_z, x0_no_z, x0_full_z, x0_badAsk_z, x6_bad_z, x6_no_z, x6_full_z, bi_some_z, bd_some_z, nm_eq_z, F_X0_isKind, F_X6_isKind, F_X0_isSkill, F_X6_isSkill, F_X0_isFar, F_X6_isFar, F_X0_isLong, F_X0_isShip, F_X6_isShip, F_X0_isMan, F_X6_isMan, F_X6_many, rf0_ne_z _ _ (show 91 ≠ 76 by omega), rf0_ne_z _ _ (show 90 ≠ 76 by omega), t1, h, if_true]
  obtain ⟨u, hu, eu⟩ := in_okn_z (by omega) h
  subst eu
  refine op_ro_z g (r := oI_z (lst_z (σ.1 91) u n)) (σ1 := σ) (σ2 := σ) ?_ ?_ (Same_z.refl _) (Same_z.refl _)
  · show F_X0_left σ (nI u) = _
    unfold F_X0_left
    simp only [in06_z, in_and_z, F_X0_isShip, i1, h, if_false, x1_left_z z.iv z.sr hu, bd_some_z]
  · show F_X6_left σ (nI u) = _
    unfold F_X6_left
    rw [x6_leastOf_z rfl z.iv (by omega) hu]
    simp only [in_and_z, F_X6_isShip, t1, h, if_false, bd_some_z]
theorem op_needs_z {σ : Me_} (g : Rel_z σ) (x y : Int32) : Op_z σ (fun σ => F_X0_needs σ x y) (fun σ => F_X6_needs σ x y) := by
  obtain ⟨n, f, a, c, e, w, z⟩ := g.fu; have hn8 := z.iv.n8; have hf3 := z.iv.f3; have ha5 := z.a5; have hc6 := z.c6; have he6 := z.e6; have hw8 := z.w8; have i4 := z.sr.e4; have i1 := z.sr.e1; have t0 := z.iv.t0; have t1 := z.iv.t1; have r2 := z.r2; have r3 := z.r3; have r4 := z.r4; have r5 := z.r5; have q2 := z.q2; have q3 := z.q3; have q4 := z.q4; have q5 := z.q5
  by_cases h : F_X6_in x.toInt64 (0 : Int64) ((nI f - 1 : Int32).toInt64) = 0
  · refine op_rf_z g 0 (by omega) (r := -2) ?_ ?_
    · show F_X0_needs σ x y = _
      unfold F_X0_needs
      simp only [in06_z, in_and_z, i_z1_z, x0_bad_z, x0_no_z, x0_full_z, x0_badAsk_z, x6_bad_z, x6_no_z, x6_full_z, bi_some_z, bd_some_z, nm_eq_z, F_X0_isKind, F_X6_isKind, F_X0_isSkill, F_X6_isSkill, F_X0_isFar, F_X6_isFar, F_X0_isLong, F_X0_isShip, F_X6_isShip, F_X0_isMan, F_X6_isMan, F_X6_many, rf0_ne_z _ _ (show 91 ≠ 76 by omega), rf0_ne_z _ _ (show 90 ≠ 76 by omega), i1, h, if_true]
    · show F_X6_needs _ x y = _
      unfold F_X6_needs
      simp only [in06_z, in_and_z, i_z1_z, x0_bad_z, x0_no_z, x0_full_z, x0_badAsk_z, x6_bad_z, x6_no_z, x6_full_z, bi_some_z, bd_some_z, nm_eq_z, F_X0_isKind, F_X6_isKind, F_X0_isSkill, F_X6_isSkill, F_X0_isFar, F_X6_isFar, F_X0_isLong, F_X0_isShip, F_X6_isShip, F_X0_isMan, F_X6_isMan, F_X6_many, rf0_ne_z _ _ (show 91 ≠ 76 by omega), rf0_ne_z _ _ (show 90 ≠ 76 by omega), t1, h, if_true]
  by_cases h' : F_X6_in y.toInt64 (1 : Int64) (30 : Int64) = 0
  · refine op_rf_z g 0 (by omega) (r := -2) ?_ ?_
    · show F_X0_needs σ x y = _
      unfold F_X0_needs
      simp only [in06_z, in_and_z, i_z1_z, x0_bad_z, x0_no_z, x0_full_z, x0_badAsk_z, x6_bad_z, x6_no_z, x6_full_z, bi_some_z, bd_some_z, nm_eq_z, F_X0_isKind, F_X6_isKind, F_X0_isSkill, F_X6_isSkill, F_X0_isFar, F_X6_isFar, F_X0_isLong, F_X0_isShip, F_X6_isShip, F_X0_isMan, F_X6_isMan, F_X6_many, rf0_ne_z _ _ (show 91 ≠ 76 by omega), rf0_ne_z _ _ (show 90 ≠ 76 by omega), i1, h, h', if_true, if_false]
    · show F_X6_needs _ x y = _
      unfold F_X6_needs
      simp only [in06_z, in_and_z, i_z1_z, x0_bad_z, x0_no_z, x0_full_z, x0_badAsk_z, x6_bad_z, x6_no_z, x6_full_z, bi_some_z, bd_some_z, nm_eq_z, F_X0_isKind, F_X6_isKind, F_X0_isSkill, F_X6_isSkill, F_X0_isFar, F_X6_isFar, F_X0_isLong, F_X0_isShip, F_X6_isShip, F_X0_isMan, F_X6_isMan, F_X6_many, rf0_ne_z _ _ (show 91 ≠ 76 by omega), rf0_ne_z _ _ (show 90 ≠ 76 by omega), t1, h, h', if_true, if_false]
  obtain ⟨u, hu, eu⟩ := in_okn_z (by omega) h
  obtain ⟨d, hd1, hd, ed⟩ := in_oka_z (a := 1) (b := 30) (by decide) (by decide) h'
  subst eu
  subst ed
  have e17 : (17 : Int32) + nI u = nI (17 + u) := nI_add_z 17 u
  have b2 : inb_ (nI (17 + u)) 192 = true := by rw [nI_inb_z (by omega)]; omega
  refine op_ro_z g (r := F_X6_needsAs (σ.1 91 (17 + u)) (nI d) (nI (cnt_z (σ.1 91) (nI (u + 1)) n))) (σ1 := σ) (σ2 := σ) ?_ ?_ (Same_z.refl _) (Same_z.refl _)
  · show F_X0_needs σ (nI u) (nI d) = _
    unfold F_X0_needs
    simp only [in06_z, in_and_z, F_X0_isShip, F_X0_isFar, i1, h, h', if_false, nm_eq_z, Bool.false_eq_true, x1_needs_z z.iv z.sr hu (show d < 31 by omega), bd_some_z]
  · show F_X6_needs σ (nI u) (nI d) = _
    unfold F_X6_needs
    rw [x6_aboard_z rfl z.iv (by omega)]
    simp (disch := omega) only [in_and_z, F_X6_isShip, F_X6_isFar, t1, h, h', if_false, if_true, nm_eq_z, Bool.false_eq_true, e17, b2, nI_nat_z, nI_s_z, bd_some_z]
def farT_z (T : Nat → Int32) (n u : Nat) : Nat → Nat
  | 0 => 0
  | k + 1 => if canT_z T n u (k + 1) = true then k + 1 else farT_z T n u k
theorem bI_z_z (b : Bool) : (bI_z b = 0) ↔ ¬ b = true := by cases b <;> decide
theorem op_far_z {σ : Me_} (g : Rel_z σ) (x : Int32) : Op_z σ (fun σ => F_X0_far σ x) (fun σ => F_X6_far σ x) := by
  obtain ⟨n, f, a, c, e, w, z⟩ := g.fu; have hn8 := z.iv.n8; have hf3 := z.iv.f3; have ha5 := z.a5; have hc6 := z.c6; have he6 := z.e6; have hw8 := z.w8; have i4 := z.sr.e4; have i1 := z.sr.e1; have t0 := z.iv.t0; have t1 := z.iv.t1; have r2 := z.r2; have r3 := z.r3; have r4 := z.r4; have r5 := z.r5; have q2 := z.q2; have q3 := z.q3; have q4 := z.q4; have q5 := z.q5
  by_cases h : F_X6_in x.toInt64 (0 : Int64) ((nI f - 1 : Int32).toInt64) = 0
  · refine op_rf_z g 0 (by omega) (r := -2) ?_ ?_
    · show F_X0_far σ x = _
      unfold F_X0_far
      simp only [in06_z, in_and_z, i_z1_z, x0_bad_z, x0_no_z, x0_full_z, x0_badAsk_z, x6_bad_z, x6_no_z, x6_full_z, bi_some_z, bd_some_z, nm_eq_z, F_X0_isKind, F_X6_isKind, F_X0_isSkill, F_X6_isSkill, F_X0_isFar, F_X6_isFar, F_X0_isLong, F_X0_isShip, F_X6_isShip, F_X0_isMan, F_X6_isMan, F_X6_many, rf0_ne_z _ _ (show 91 ≠ 76 by omega), rf0_ne_z _ _ (show 90 ≠ 76 by omega), i1, h, if_true]
    · show F_X6_far _ x = _
      unfold F_X6_far
      simp only [in06_z, in_and_z, i_z1_z, x0_bad_z, x0_no_z, x0_full_z, x0_badAsk_z, x6_bad_z, x6_no_z, x6_full_z, bi_some_z, bd_some_z, nm_eq_z, F_X0_isKind, F_X6_isKind, F_X0_isSkill, F_X6_isSkill, F_X0_isFar, F_X6_isFar, F_X0_isLong, F_X0_isShip, F_X6_isShip, F_X0_isMan, F_X6_isMan, F_X6_many, rf0_ne_z _ _ (show 91 ≠ 76 by omega), rf0_ne_z _ _ (show 90 ≠ 76 by omega), t1, h, if_true]
  obtain ⟨u, hu, eu⟩ := in_okn_z (by omega) h
  subst eu
  have e30 : (30 : Int32) = nI 30 := rfl
  refine op_ro_z g (r := nI (farT_z (σ.1 91) n u 30)) (σ1 := σ) (σ2 := σ) ?_ ?_ (Same_z.refl _) (Same_z.refl _)
  · show F_X0_far σ (nI u) = _
    unfold F_X0_far
    simp only [in06_z, in_and_z, F_X0_isShip, i1, h, if_false]
    refine loop2_z (F_X0_far_L17 σ (nI u)) (fun k => nI (farT_z (σ.1 91) n u k)) (fun k => nI (k + 1)) _ 30 ?_ ?_ FU_ 0 (Nat.zero_le _) (fu_lt_z (by omega))
    · intro q
      simp (disch := omega) only [F_X0_far_L17, e30, nI_lt_z]
      rw [if_pos (by omega)]
    · intro k q hk
      simp (disch := omega) only [F_X0_far_L17, e30, nI_lt_z, x1_can_z z.iv z.sr hu (show k + 1 < 31 by omega), bd_some_z, nm_eq_z, nI_s_z, bI_z_z]
      rw [if_neg (by omega), farT_z]
      by_cases t : canT_z (σ.1 91) n u (k + 1) = true
      · simp only [t, not_true_eq_false, if_false, if_true]
      · simp only [t, Bool.false_eq_true, not_false_eq_true, if_false, if_true]
  · show F_X6_far σ (nI u) = _
    unfold F_X6_far
    simp only [in_and_z, F_X6_isShip, t1, h, if_false]
    refine loop2_z (F_X6_far_L19 σ (nI u)) (fun k => nI (farT_z (σ.1 91) n u k)) (fun k => nI (k + 1)) _ 30 ?_ ?_ FU_ 0 (Nat.zero_le _) (fu_lt_z (by omega))
    · intro q
      simp (disch := omega) only [F_X6_far_L19, e30, nI_lt_z]
      rw [if_pos (by omega)]
    · intro k q hk
      rw [F_X6_far_L19, x6_canSail_z rfl z.iv (by omega) hu]
      simp (disch := omega) only [e30, nI_lt_z, bd_some_z, nm_eq_z, nI_s_z, bI_z_z]
      rw [if_neg (by omega), farT_z]
      by_cases t : canT_z (σ.1 91) n u (k + 1) = true
      · simp only [t, not_true_eq_false, if_false, if_true]
      · simp only [t, Bool.false_eq_true, not_false_eq_true, if_false, if_true]
