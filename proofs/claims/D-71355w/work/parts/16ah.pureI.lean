set_option maxRecDepth 100000
set_option linter.unusedSimpArgs false
set_option linter.unusedVariables false

/-! PURE I: forget, part, calls, boards, undo -/
theorem Fu_z.less {σ τ : Me_} {R R' : Nat → Int32} {n f a c e w a' c' e' : Nat} (z : Fu_z σ 1 R n f a c e w) (o : ∀ j, 2 ≤ j → j < 36 → τ.1 j = σ.1 j) (o1 : τ.1 1 1 = σ.1 1 1) (o4 : τ.1 1 4 = σ.1 1 4) (o13 : τ.1 1 13 = σ.1 1 13) (k2 : τ.1 1 6 = nI a') (k3 : τ.1 1 8 = nI c') (k4 : τ.1 1 10 = nI e') (l2 : R' 2 = nI a') (l3 : R' 3 = nI c') (l4 : R' 4 = nI e') (oR : ∀ i, i ≠ 2 → i ≠ 3 → i ≠ 4 → R' i = R i) (ha : a' ≤ a) (hc : c' ≤ c) (he : e' ≤ e) : Fu_z τ 1 R' n f a' c' e' w := by
  have hn8 := z.iv.n8; have hf3 := z.iv.f3; have ha5 := z.a5; have hc6 := z.c6; have he6 := z.e6; have hw8 := z.w8
  have iv := z.iv
  have sr := z.sr
  refine ⟨⟨hn8, hf3, ?_, ?_, ?_, ?_, ?_, ?_, ?_, ?_⟩, ⟨?_, ?_, ?_, ?_, ?_, ?_, ?_⟩, by omega, by omega, by omega, hw8, l2, l3, l4, ?_, k2, k3, k4, ?_, ?_, ?_, ?_, ?_, ?_, ?_, ?_, ?_, ?_⟩
  · rw [oR _ (by omega) (by omega) (by omega)]; exact iv.t0
  · rw [oR _ (by omega) (by omega) (by omega)]; exact iv.t1
  · intro m hm; rw [oR _ (by omega) (by omega) (by omega)]; exact iv.pl m hm
  · intro m hm; rw [oR _ (by omega) (by omega) (by omega)]; exact iv.cl m hm
  · intro m hm hq; rw [oR _ (by omega) (by omega) (by omega)]; exact iv.cz m hm hq
  · intro m hm; rw [oR _ (by omega) (by omega) (by omega)]; exact iv.so m hm
  · intro m hm; rw [oR _ (by omega) (by omega) (by omega)]; exact iv.kd m hm
  · intro m hm; rw [oR _ (by omega) (by omega) (by omega)]; exact iv.sk m hm
  · rw [o4]; exact sr.e4
  · rw [o1]; exact sr.e1
  · intro m hm; rw [o _ (by omega) (by omega), oR _ (by omega) (by omega) (by omega)]; exact sr.pl m hm
  · intro m hm; rw [o _ (by omega) (by omega), oR _ (by omega) (by omega) (by omega)]; exact sr.cl m hm
  · intro m hm; rw [o _ (by omega) (by omega), oR _ (by omega) (by omega) (by omega)]; exact sr.so m hm
  · intro m hm; rw [o _ (by omega) (by omega), oR _ (by omega) (by omega) (by omega)]; exact sr.kd m hm
  · intro m hm; rw [o _ (by omega) (by omega), oR _ (by omega) (by omega) (by omega)]; exact sr.sk m hm
  · rw [oR _ (by omega) (by omega) (by omega)]; exact z.r5
  · rw [o13]; exact z.q5
  · intro m hm; rw [o _ (by omega) (by omega), oR _ (by omega) (by omega) (by omega)]; exact z.se m (by omega)
  · intro m hm; rw [o _ (by omega) (by omega), oR _ (by omega) (by omega) (by omega)]; exact z.no m (by omega)
  · intro m hm; rw [o _ (by omega) (by omega), oR _ (by omega) (by omega) (by omega)]; exact z.ma m (by omega)
  · intro m hm; rw [oR _ (by omega) (by omega) (by omega)]; exact z.sv m (by omega)
  · intro m hm; rw [oR _ (by omega) (by omega) (by omega), oR _ (by omega) (by omega) (by omega)]; exact z.nv m (by omega)
  · intro m hm; rw [oR _ (by omega) (by omega) (by omega), oR _ (by omega) (by omega) (by omega)]; exact z.mv m (by omega)
  · intro j hj m hm; rw [o _ (by omega) (by omega), oR _ (by omega) (by omega) (by omega)]; exact z.pa j hj m hm
  · intro j hj m hm; rw [o _ (by omega) (by omega), oR _ (by omega) (by omega) (by omega)]; exact z.pc j hj m hm
  · intro j hj m hm hq; rw [oR _ (by omega) (by omega) (by omega)]; exact z.pz j hj m hm hq
theorem i_10_z : ¬ (1 : Int32) = 0 := by decide
theorem i_20_z : ¬ (2 : Int32) = 0 := by decide
theorem i_21_z : ¬ (2 : Int32) = 1 := by decide
theorem i_12_z : ¬ (1 : Int32) = 2 := by decide
theorem i_02_z : ¬ (0 : Int32) = 2 := by decide
theorem i_01_z : ¬ (0 : Int32) = 1 := by decide
theorem op_forget_z {σ : Me_} (g : Rel_z σ) (x : Int32) : Op_z σ (fun σ => F_X0_forget σ x) (fun σ => F_X6_forget σ x) := by
  obtain ⟨n, f, a, c, e, w, z⟩ := g.fu; have hn8 := z.iv.n8; have hf3 := z.iv.f3; have ha5 := z.a5; have hc6 := z.c6; have he6 := z.e6; have hw8 := z.w8; have i4 := z.sr.e4; have i1 := z.sr.e1; have t0 := z.iv.t0; have t1 := z.iv.t1; have r2 := z.r2; have r3 := z.r3; have r4 := z.r4; have r5 := z.r5; have q2 := z.q2; have q3 := z.q3; have q4 := z.q4; have q5 := z.q5
  by_cases h : F_X6_in x.toInt64 (0 : Int64) (2 : Int64) = 0
  · refine op_rf_z g 0 (by omega) (r := -2) ?_ ?_
    · show F_X0_forget σ x = _
      unfold F_X0_forget
      simp only [in06_z, in_and_z, i_z1_z, x0_bad_z, x0_no_z, x0_full_z, x0_badAsk_z, x6_bad_z, x6_no_z, x6_full_z, bi_some_z, bd_some_z, nm_eq_z, F_X0_isKind, F_X6_isKind, F_X0_isSkill, F_X6_isSkill, F_X0_isFar, F_X6_isFar, F_X0_isLong, F_X0_isShip, F_X6_isShip, F_X0_isMan, F_X6_isMan, F_X6_many, rf0_ne_z _ _ (show 91 ≠ 76 by omega), rf0_ne_z _ _ (show 90 ≠ 76 by omega), h, if_true]
    · show F_X6_forget _ x = _
      unfold F_X6_forget
      simp only [in06_z, in_and_z, i_z1_z, x0_bad_z, x0_no_z, x0_full_z, x0_badAsk_z, x6_bad_z, x6_no_z, x6_full_z, bi_some_z, bd_some_z, nm_eq_z, F_X0_isKind, F_X6_isKind, F_X0_isSkill, F_X6_isSkill, F_X0_isFar, F_X6_isFar, F_X0_isLong, F_X0_isShip, F_X6_isShip, F_X0_isMan, F_X6_isMan, F_X6_many, rf0_ne_z _ _ (show 91 ≠ 76 by omega), rf0_ne_z _ _ (show 90 ≠ 76 by omega), h, if_true]
  obtain ⟨k, _, hk, ek⟩ := in_oka_z (a := 0) (b := 2) (by decide) (by decide) h
  have b0 : inb_ (2 + x) 192 = true := by rw [ek, nI_lit_z, nI_add_z, nI_inb_z (by omega)]; omega
  have b1 : (2 + x).toNatClampNeg = 2 + k := by rw [ek, nI_lit_z, nI_add_z, nI_nat_z (by omega)]
  have hk3 : k = 0 ∨ k = 1 ∨ k = 2 := by omega
  rcases hk3 with e0 | e0 | e0
  · subst e0
    have ex : x = 0 := ek
    subst ex
    generalize hs1 : me_set (me_set (me_set σ 1 6 0) 1 8 (nI c)) 1 10 (nI e) = σ1
    have s91 : σ1.1 91 = σ.1 91 := by rw [← hs1]; simp (disch := omega) only [ms_ne_z, ms_same_z, upd_ne_z, upd_same_z]
    refine ⟨nI a, σ1, me_set σ1 91 (2 + 0) 0, ?_, ?_, ?_, by rw [← hs1]; simp (disch := omega) only [ms_ne_z, ms_same_z, upd_ne_z, upd_same_z], by simp (disch := omega) only [ms_ne_z, ms_same_z, upd_ne_z, upd_same_z]⟩
    · show F_X0_forget σ 0 = _
      unfold F_X0_forget
      simp (disch := omega) only [in06_z, nm_eq_z, h, if_false, if_true, i_01_z, i_02_z, ms_same_z, upd_ne_z, q2, q3, q4, hs1]
    · show F_X6_forget σ1 0 = _
      unfold F_X6_forget
      simp only [h, if_false, if_true, nm_eq_z, b0, b1, s91, r2]
    · refine rel_isl_z g (by rw [← hs1]; rfl) (fun j hj => by rw [← hs1]; simp (disch := omega) only [ms_ne_z, ms_same_z, upd_ne_z, upd_same_z]) (n := n) (f := f) (a := 0) (c := c) (e := e) (w := w) ?_
      refine z.less (fun j h1 h2 => by rw [← hs1]; simp (disch := omega) only [ms_ne_z, ms_same_z, upd_ne_z, upd_same_z]) ?_ ?_ ?_ ?_ ?_ ?_ ?_ ?_ ?_ (fun i h1 h2 h3 => by simp (disch := omega) only [ms_ne_z, ms_same_z, upd_ne_z, upd_same_z, s91]) (by omega) (by omega) (by omega)
      · rw [← hs1]; simp (disch := omega) only [ms_ne_z, ms_same_z, upd_ne_z, upd_same_z]
      · rw [← hs1]; simp (disch := omega) only [ms_ne_z, ms_same_z, upd_ne_z, upd_same_z]
      · rw [← hs1]; simp (disch := omega) only [ms_ne_z, ms_same_z, upd_ne_z, upd_same_z]
      · rw [← hs1]; simp (disch := omega) only [ms_ne_z, ms_same_z, upd_ne_z, upd_same_z]; rfl
      · rw [← hs1]; simp (disch := omega) only [ms_ne_z, ms_same_z, upd_ne_z, upd_same_z]
      · rw [← hs1]; simp (disch := omega) only [ms_ne_z, ms_same_z, upd_ne_z, upd_same_z]
      · simp (disch := omega) only [ms_ne_z, ms_same_z, upd_ne_z, upd_same_z, s91]; rfl
      · simp (disch := omega) only [ms_ne_z, ms_same_z, upd_ne_z, upd_same_z, s91]; exact r3
      · simp (disch := omega) only [ms_ne_z, ms_same_z, upd_ne_z, upd_same_z, s91]; exact r4
  · subst e0
    have ex : x = 1 := ek
    subst ex
    generalize hs1 : me_set (me_set (me_set σ 1 6 (nI a)) 1 8 0) 1 10 (nI e) = σ1
    have s91 : σ1.1 91 = σ.1 91 := by rw [← hs1]; simp (disch := omega) only [ms_ne_z, ms_same_z, upd_ne_z, upd_same_z]
    refine ⟨nI c, σ1, me_set σ1 91 (2 + 1) 0, ?_, ?_, ?_, by rw [← hs1]; simp (disch := omega) only [ms_ne_z, ms_same_z, upd_ne_z, upd_same_z], by simp (disch := omega) only [ms_ne_z, ms_same_z, upd_ne_z, upd_same_z]⟩
    · show F_X0_forget σ 1 = _
      unfold F_X0_forget
      simp (disch := omega) only [in06_z, nm_eq_z, h, if_false, if_true, i_10_z, i_12_z, ms_same_z, upd_ne_z, q2, q3, q4, hs1]
    · show F_X6_forget σ1 1 = _
      unfold F_X6_forget
      simp only [h, if_false, if_true, nm_eq_z, b0, b1, s91, show 2 + 1 = 3 from rfl, r3]
    · refine rel_isl_z g (by rw [← hs1]; rfl) (fun j hj => by rw [← hs1]; simp (disch := omega) only [ms_ne_z, ms_same_z, upd_ne_z, upd_same_z]) (n := n) (f := f) (a := a) (c := 0) (e := e) (w := w) ?_
      refine z.less (fun j h1 h2 => by rw [← hs1]; simp (disch := omega) only [ms_ne_z, ms_same_z, upd_ne_z, upd_same_z]) ?_ ?_ ?_ ?_ ?_ ?_ ?_ ?_ ?_ (fun i h1 h2 h3 => by simp (disch := omega) only [ms_ne_z, ms_same_z, upd_ne_z, upd_same_z, s91]) (by omega) (by omega) (by omega)
      · rw [← hs1]; simp (disch := omega) only [ms_ne_z, ms_same_z, upd_ne_z, upd_same_z]
      · rw [← hs1]; simp (disch := omega) only [ms_ne_z, ms_same_z, upd_ne_z, upd_same_z]
      · rw [← hs1]; simp (disch := omega) only [ms_ne_z, ms_same_z, upd_ne_z, upd_same_z]
      · rw [← hs1]; simp (disch := omega) only [ms_ne_z, ms_same_z, upd_ne_z, upd_same_z]
      · rw [← hs1]; simp (disch := omega) only [ms_ne_z, ms_same_z, upd_ne_z, upd_same_z]; rfl
      · rw [← hs1]; simp (disch := omega) only [ms_ne_z, ms_same_z, upd_ne_z, upd_same_z]
      · simp (disch := omega) only [ms_ne_z, ms_same_z, upd_ne_z, upd_same_z, s91]; exact r2
      · simp (disch := omega) only [ms_ne_z, ms_same_z, upd_ne_z, upd_same_z, s91]; rfl
      · simp (disch := omega) only [ms_ne_z, ms_same_z, upd_ne_z, upd_same_z, s91]; exact r4
  · subst e0
    have ex : x = 2 := ek
    subst ex
    generalize hs1 : me_set (me_set (me_set σ 1 6 (nI a)) 1 8 (nI c)) 1 10 0 = σ1
    have s91 : σ1.1 91 = σ.1 91 := by rw [← hs1]; simp (disch := omega) only [ms_ne_z, ms_same_z, upd_ne_z, upd_same_z]
    refine ⟨nI e, σ1, me_set σ1 91 (2 + 2) 0, ?_, ?_, ?_, by rw [← hs1]; simp (disch := omega) only [ms_ne_z, ms_same_z, upd_ne_z, upd_same_z], by simp (disch := omega) only [ms_ne_z, ms_same_z, upd_ne_z, upd_same_z]⟩
    · show F_X0_forget σ 2 = _
      unfold F_X0_forget
      simp (disch := omega) only [in06_z, nm_eq_z, h, if_false, if_true, i_20_z, i_21_z, ms_same_z, upd_ne_z, q2, q3, q4, hs1]
    · show F_X6_forget σ1 2 = _
      unfold F_X6_forget
      simp only [h, if_false, if_true, nm_eq_z, b0, b1, s91, show 2 + 2 = 4 from rfl, r4]
    · refine rel_isl_z g (by rw [← hs1]; rfl) (fun j hj => by rw [← hs1]; simp (disch := omega) only [ms_ne_z, ms_same_z, upd_ne_z, upd_same_z]) (n := n) (f := f) (a := a) (c := c) (e := 0) (w := w) ?_
      refine z.less (fun j h1 h2 => by rw [← hs1]; simp (disch := omega) only [ms_ne_z, ms_same_z, upd_ne_z, upd_same_z]) ?_ ?_ ?_ ?_ ?_ ?_ ?_ ?_ ?_ (fun i h1 h2 h3 => by simp (disch := omega) only [ms_ne_z, ms_same_z, upd_ne_z, upd_same_z, s91]) (by omega) (by omega) (by omega)
      · rw [← hs1]; simp (disch := omega) only [ms_ne_z, ms_same_z, upd_ne_z, upd_same_z]
      · rw [← hs1]; simp (disch := omega) only [ms_ne_z, ms_same_z, upd_ne_z, upd_same_z]
      · rw [← hs1]; simp (disch := omega) only [ms_ne_z, ms_same_z, upd_ne_z, upd_same_z]
      · rw [← hs1]; simp (disch := omega) only [ms_ne_z, ms_same_z, upd_ne_z, upd_same_z]
      · rw [← hs1]; simp (disch := omega) only [ms_ne_z, ms_same_z, upd_ne_z, upd_same_z]
      · rw [← hs1]; simp (disch := omega) only [ms_ne_z, ms_same_z, upd_ne_z, upd_same_z]; rfl
      · simp (disch := omega) only [ms_ne_z, ms_same_z, upd_ne_z, upd_same_z, s91]; exact r2
      · simp (disch := omega) only [ms_ne_z, ms_same_z, upd_ne_z, upd_same_z, s91]; exact r3
      · simp (disch := omega) only [ms_ne_z, ms_same_z, upd_ne_z, upd_same_z, s91]; rfl
def OpL_z (σ : Me_) (F M : Me_ → Option (Int64 × Me_)) : Prop := ∃ r σ1 σ2, F σ = some (r, σ1) ∧ M σ1 = some (r, σ2) ∧ Rel_z σ2 ∧ σ1.1 71 = σ.1 71 ∧ σ2.1 71 = σ1.1 71
theorem op_part_z {σ : Me_} (g : Rel_z σ) (x : Int32) : OpL_z σ (fun σ => F_X0_part σ x) (fun σ => F_X6_part σ x) := by
  by_cases h0 : x = 0
  · refine ⟨σ.2 0 7, σ, σ, ?_, ?_, g, rfl, rfl⟩
    · show F_X0_part σ x = _
      unfold F_X0_part; rw [if_pos h0]
    · show F_X6_part σ x = _
      unfold F_X6_part; rw [if_pos h0, g.re.ab]
  by_cases h1 : x = 1
  · refine ⟨σ.2 0 8, σ, σ, ?_, ?_, g, rfl, rfl⟩
    · show F_X0_part σ x = _
      unfold F_X0_part; rw [if_neg h0, if_pos h1]
    · show F_X6_part σ x = _
      unfold F_X6_part; rw [if_neg h0, if_pos h1, g.re.be]
  have := rf_rel_z g (show 0 < 3 by omega)
  refine ⟨(-2 : Int32).toInt64, rf0_z σ 0, rf6_z (rf0_z σ 0) 0, ?_, ?_, this.1, this.2.1, this.2.2⟩
  · show F_X0_part σ x = _
    unfold F_X0_part; rw [if_neg h0, if_neg h1, x0_bad_z]; rfl
  · show F_X6_part _ x = _
    unfold F_X6_part; rw [if_neg h0, if_neg h1, x6_bad_z]; rfl
