set_option maxRecDepth 100000
set_option linter.unusedSimpArgs false
set_option linter.unusedVariables false
/-! PURE H: what is seen, noted, marked -/
theorem op_seen_z {σ : Me_} (g : Rel_z σ) (x1 x2 x3 x4 : Int32) : Op_z σ (fun σ => F_X0_seen σ x1 x2 x3 x4) (fun σ => F_X6_seen σ x1 x2 x3 x4) := by
  obtain ⟨n, f, a, c, e, w, z⟩ := g.fu; have hn8 := z.iv.n8; have hf3 := z.iv.f3; have ha5 := z.a5; have hc6 := z.c6; have he6 := z.e6; have hw8 := z.w8; have i4 := z.sr.e4; have i1 := z.sr.e1; have t0 := z.iv.t0; have t1 := z.iv.t1; have r2 := z.r2; have r3 := z.r3; have r4 := z.r4; have r5 := z.r5; have q2 := z.q2; have q3 := z.q3; have q4 := z.q4; have q5 := z.q5
  by_cases h1 : F_X6_in x1.toInt64 (0 : Int64) ((nI n - 1 : Int32).toInt64) = 0
  · refine op_rf_z g 0 (by omega) (r := -2) ?_ ?_
    · show F_X0_seen σ x1 x2 x3 x4 = _
      unfold F_X0_seen
      simp only [in06_z, in_and_z, i_z1_z, x0_bad_z, x0_no_z, x0_full_z, x0_badAsk_z, x6_bad_z, x6_no_z, x6_full_z, bi_some_z, bd_some_z, nm_eq_z, F_X0_isKind, F_X6_isKind, F_X0_isSkill, F_X6_isSkill, F_X0_isFar, F_X6_isFar, F_X0_isLong, F_X0_isShip, F_X6_isShip, F_X0_isMan, F_X6_isMan, F_X6_many, rf0_ne_z _ _ (show 91 ≠ 76 by omega), rf0_ne_z _ _ (show 90 ≠ 76 by omega), i1, i4, t0, t1, h1, if_true, if_false]
    · show F_X6_seen _ x1 x2 x3 x4 = _
      unfold F_X6_seen
      simp only [in06_z, in_and_z, i_z1_z, x0_bad_z, x0_no_z, x0_full_z, x0_badAsk_z, x6_bad_z, x6_no_z, x6_full_z, bi_some_z, bd_some_z, nm_eq_z, F_X0_isKind, F_X6_isKind, F_X0_isSkill, F_X6_isSkill, F_X0_isFar, F_X6_isFar, F_X0_isLong, F_X0_isShip, F_X6_isShip, F_X0_isMan, F_X6_isMan, F_X6_many, rf0_ne_z _ _ (show 91 ≠ 76 by omega), rf0_ne_z _ _ (show 90 ≠ 76 by omega), i1, i4, t0, t1, h1, if_true, if_false]
  by_cases h2 : F_X6_in x2.toInt64 (0 : Int64) (99 : Int64) = 0
  · refine op_rf_z g 0 (by omega) (r := -2) ?_ ?_
    · show F_X0_seen σ x1 x2 x3 x4 = _
      unfold F_X0_seen
      simp only [in06_z, in_and_z, i_z1_z, x0_bad_z, x0_no_z, x0_full_z, x0_badAsk_z, x6_bad_z, x6_no_z, x6_full_z, bi_some_z, bd_some_z, nm_eq_z, F_X0_isKind, F_X6_isKind, F_X0_isSkill, F_X6_isSkill, F_X0_isFar, F_X6_isFar, F_X0_isLong, F_X0_isShip, F_X6_isShip, F_X0_isMan, F_X6_isMan, F_X6_many, rf0_ne_z _ _ (show 91 ≠ 76 by omega), rf0_ne_z _ _ (show 90 ≠ 76 by omega), i1, i4, t0, t1, h1, h2, if_true, if_false]
    · show F_X6_seen _ x1 x2 x3 x4 = _
      unfold F_X6_seen
      simp only [in06_z, in_and_z, i_z1_z, x0_bad_z, x0_no_z, x0_full_z, x0_badAsk_z, x6_bad_z, x6_no_z, x6_full_z, bi_some_z, bd_some_z, nm_eq_z, F_X0_isKind, F_X6_isKind, F_X0_isSkill, F_X6_isSkill, F_X0_isFar, F_X6_isFar, F_X0_isLong, F_X0_isShip, F_X6_isShip, F_X0_isMan, F_X6_isMan, F_X6_many, rf0_ne_z _ _ (show 91 ≠ 76 by omega), rf0_ne_z _ _ (show 90 ≠ 76 by omega), i1, i4, t0, t1, h1, h2, if_true, if_false]
  by_cases h3 : F_X6_in x3.toInt64 (0 : Int64) (30 : Int64) = 0
  · refine op_rf_z g 0 (by omega) (r := -2) ?_ ?_
    · show F_X0_seen σ x1 x2 x3 x4 = _
      unfold F_X0_seen
      simp only [in06_z, in_and_z, i_z1_z, x0_bad_z, x0_no_z, x0_full_z, x0_badAsk_z, x6_bad_z, x6_no_z, x6_full_z, bi_some_z, bd_some_z, nm_eq_z, F_X0_isKind, F_X6_isKind, F_X0_isSkill, F_X6_isSkill, F_X0_isFar, F_X6_isFar, F_X0_isLong, F_X0_isShip, F_X6_isShip, F_X0_isMan, F_X6_isMan, F_X6_many, rf0_ne_z _ _ (show 91 ≠ 76 by omega), rf0_ne_z _ _ (show 90 ≠ 76 by omega), i1, i4, t0, t1, h1, h2, h3, if_true, if_false]
    · show F_X6_seen _ x1 x2 x3 x4 = _
      unfold F_X6_seen
      simp only [in06_z, in_and_z, i_z1_z, x0_bad_z, x0_no_z, x0_full_z, x0_badAsk_z, x6_bad_z, x6_no_z, x6_full_z, bi_some_z, bd_some_z, nm_eq_z, F_X0_isKind, F_X6_isKind, F_X0_isSkill, F_X6_isSkill, F_X0_isFar, F_X6_isFar, F_X0_isLong, F_X0_isShip, F_X6_isShip, F_X0_isMan, F_X6_isMan, F_X6_many, rf0_ne_z _ _ (show 91 ≠ 76 by omega), rf0_ne_z _ _ (show 90 ≠ 76 by omega), i1, i4, t0, t1, h1, h2, h3, if_true, if_false]
  by_cases h4 : F_X6_in x4.toInt64 (0 : Int64) (1 : Int64) = 0
  · refine op_rf_z g 0 (by omega) (r := -2) ?_ ?_
    · show F_X0_seen σ x1 x2 x3 x4 = _
      unfold F_X0_seen
      simp only [in06_z, in_and_z, i_z1_z, x0_bad_z, x0_no_z, x0_full_z, x0_badAsk_z, x6_bad_z, x6_no_z, x6_full_z, bi_some_z, bd_some_z, nm_eq_z, F_X0_isKind, F_X6_isKind, F_X0_isSkill, F_X6_isSkill, F_X0_isFar, F_X6_isFar, F_X0_isLong, F_X0_isShip, F_X6_isShip, F_X0_isMan, F_X6_isMan, F_X6_many, rf0_ne_z _ _ (show 91 ≠ 76 by omega), rf0_ne_z _ _ (show 90 ≠ 76 by omega), i1, i4, t0, t1, h1, h2, h3, h4, if_true, if_false]
    · show F_X6_seen _ x1 x2 x3 x4 = _
      unfold F_X6_seen
      simp only [in06_z, in_and_z, i_z1_z, x0_bad_z, x0_no_z, x0_full_z, x0_badAsk_z, x6_bad_z, x6_no_z, x6_full_z, bi_some_z, bd_some_z, nm_eq_z, F_X0_isKind, F_X6_isKind, F_X0_isSkill, F_X6_isSkill, F_X0_isFar, F_X6_isFar, F_X0_isLong, F_X0_isShip, F_X6_isShip, F_X0_isMan, F_X6_isMan, F_X6_many, rf0_ne_z _ _ (show 91 ≠ 76 by omega), rf0_ne_z _ _ (show 90 ≠ 76 by omega), i1, i4, t0, t1, h1, h2, h3, h4, if_true, if_false]
  by_cases hf : a = 5
  · have hl : nI a = 5 := by rw [hf]; rfl
    refine op_rf_z g 2 (by omega) (r := -4) ?_ ?_
    · show F_X0_seen σ x1 x2 x3 x4 = _
      unfold F_X0_seen
      simp only [in06_z, in_and_z, i_z1_z, x0_bad_z, x0_no_z, x0_full_z, x0_badAsk_z, x6_bad_z, x6_no_z, x6_full_z, bi_some_z, bd_some_z, nm_eq_z, F_X0_isKind, F_X6_isKind, F_X0_isSkill, F_X6_isSkill, F_X0_isFar, F_X6_isFar, F_X0_isLong, F_X0_isShip, F_X6_isShip, F_X0_isMan, F_X6_isMan, F_X6_many, rf0_ne_z _ _ (show 91 ≠ 76 by omega), rf0_ne_z _ _ (show 90 ≠ 76 by omega), i1, i4, t0, t1, h1, h2, h3, h4, if_true, if_false, q2, hl]
    · show F_X6_seen _ x1 x2 x3 x4 = _
      unfold F_X6_seen
      simp only [in06_z, in_and_z, i_z1_z, x0_bad_z, x0_no_z, x0_full_z, x0_badAsk_z, x6_bad_z, x6_no_z, x6_full_z, bi_some_z, bd_some_z, nm_eq_z, F_X0_isKind, F_X6_isKind, F_X0_isSkill, F_X6_isSkill, F_X0_isFar, F_X6_isFar, F_X0_isLong, F_X0_isShip, F_X6_isShip, F_X0_isMan, F_X6_isMan, F_X6_many, rf0_ne_z _ _ (show 91 ≠ 76 by omega), rf0_ne_z _ _ (show 90 ≠ 76 by omega), i1, i4, t0, t1, h1, h2, h3, h4, if_true, if_false, r2, hl]
  have hl : ¬ nI a = 5 := by rw [nI_lit_z, nI_inj_z (by omega) (by omega)]; exact hf
  obtain ⟨k2, l2, m2, d2⟩ := in_oka_z (a := 0) (b := 99) (by decide) (by decide) h2
  obtain ⟨k3, l3, m3, d3⟩ := in_oka_z (a := 0) (b := 30) (by decide) (by decide) h3
  have e4 : (4 : Int32) * nI a = nI (4 * a) := nI_mul_z 4 a
  have f1 : nI (4 * a) + 1 = nI (4 * a + 1) := nI_add_z _ 1
  have g1 : nI (36 + 4 * a) + 1 = nI (36 + 4 * a + 1) := nI_add_z _ 1
  have f2 : nI (4 * a) + 2 = nI (4 * a + 2) := nI_add_z _ 2
  have g2 : nI (36 + 4 * a) + 2 = nI (36 + 4 * a + 2) := nI_add_z _ 2
  have f3 : nI (4 * a) + 3 = nI (4 * a + 3) := nI_add_z _ 3
  have g3 : nI (36 + 4 * a) + 3 = nI (36 + 4 * a + 3) := nI_add_z _ 3
  have eb : (36 : Int32) + nI (4 * a) = nI (36 + 4 * a) := nI_add_z 36 _
  have u0 : inb_ (nI (4 * a)) 20 = true := by rw [nI_inb_z (by omega)]; omega
  have y0 : inb_ (nI (36 + 4 * a)) 192 = true := by rw [nI_inb_z (by omega)]; omega
  have u1 : inb_ (nI (4 * a + 1)) 20 = true := by rw [nI_inb_z (by omega)]; omega
  have y1 : inb_ (nI (36 + 4 * a + 1)) 192 = true := by rw [nI_inb_z (by omega)]; omega
  have u2 : inb_ (nI (4 * a + 2)) 20 = true := by rw [nI_inb_z (by omega)]; omega
  have y2 : inb_ (nI (36 + 4 * a + 2)) 192 = true := by rw [nI_inb_z (by omega)]; omega
  have u3 : inb_ (nI (4 * a + 3)) 20 = true := by rw [nI_inb_z (by omega)]; omega
  have y3 : inb_ (nI (36 + 4 * a + 3)) 192 = true := by rw [nI_inb_z (by omega)]; omega
  generalize hs1 : me_set (me_set (me_set (me_set (me_set σ 5 (4 * a) x1) 5 (4 * a + 1) x2) 5 (4 * a + 2) x3) 5 (4 * a + 3) x4) 1 6 (nI (a + 1)) = σ1
  generalize hs2 : me_set (me_set (me_set (me_set (me_set σ1 91 (36 + 4 * a) x1) 91 (36 + 4 * a + 1) x2) 91 (36 + 4 * a + 2) x3) 91 (36 + 4 * a + 3) x4) 91 2 (nI (a + 1)) = σ2
  have s91 : σ1.1 91 = σ.1 91 := by rw [← hs1]; simp (disch := omega) only [ms_ne_z, ms_same_z, upd_ne_z, upd_same_z]
  have w1 : σ1.1 1 6 = nI (a + 1) := by rw [← hs1]; simp (disch := omega) only [ms_ne_z, ms_same_z, upd_ne_z, upd_same_z]
  have w2 : σ2.1 91 2 = nI (a + 1) := by rw [← hs2]; simp (disch := omega) only [ms_ne_z, ms_same_z, upd_ne_z, upd_same_z]
  refine ⟨nI (a + 1), σ1, σ2, ?_, ?_, ?_, by rw [← hs1]; simp (disch := omega) only [ms_ne_z, ms_same_z, upd_ne_z, upd_same_z], by rw [← hs2]; simp (disch := omega) only [ms_ne_z, ms_same_z, upd_ne_z, upd_same_z]⟩
  · show F_X0_seen σ x1 x2 x3 x4 = _
    unfold F_X0_seen
    simp (disch := omega) only [in06_z, in_and_z, nm_eq_z, F_X0_isSkill, F_X0_isFar, F_X0_isLong, F_X0_isShip, F_X0_isMan, i1, i4, h1, h2, h3, h4, if_false, if_true, q2, hl, e4, f1, f2, f3, u0, u1, u2, u3, nI_nat_z, ms_ne_z, ms_same_z, upd_same_z, upd_ne_z, nI_s_z, hs1, w1]
  · show F_X6_seen σ1 x1 x2 x3 x4 = _
    unfold F_X6_seen F_X6_layFour
    simp (disch := omega) only [in_and_z, nm_eq_z, F_X6_isSkill, F_X6_isFar, F_X6_isShip, F_X6_isMan, F_X6_many, s91, t1, t0, h1, h2, h3, h4, if_false, if_true, r2, hl, e4, eb, g1, g2, g3, y0, y1, y2, y3, nI_nat_z, ms_ne_z, ms_same_z, upd_same_z, upd_ne_z, nI_s_z, bd_some_z, hs2, w2]
  · refine rel_isl_z g (by rw [← hs2, ← hs1]; rfl) (fun j hj => by rw [← hs2, ← hs1]; simp (disch := omega) only [ms_ne_z, ms_same_z, upd_ne_z, upd_same_z]) (n := n) (f := f) (a := a + 1) (c := c) (e := e) (w := w) ?_
    have v91 : σ2.1 91 = upd (upd (upd (upd (upd (σ.1 91) (36 + 4 * a) x1) (36 + 4 * a + 1) x2) (36 + 4 * a + 2) x3) (36 + 4 * a + 3) x4) 2 (nI (a + 1)) := by rw [← hs2]; simp (disch := omega) only [ms_ne_z, ms_same_z, upd_ne_z, upd_same_z, s91]
    have v1 : σ2.1 1 = upd (σ.1 1) 6 (nI (a + 1)) := by rw [← hs2, ← hs1]; simp (disch := omega) only [ms_ne_z, ms_same_z, upd_ne_z, upd_same_z]
    have vA : σ2.1 5 = upd (upd (upd (upd (σ.1 5) (4 * a) x1) (4 * a + 1) x2) (4 * a + 2) x3) (4 * a + 3) x4 := by rw [← hs2, ← hs1]; simp (disch := omega) only [ms_ne_z, ms_same_z, upd_ne_z, upd_same_z]
    have vo : ∀ j, j < 36 → j ≠ 1 → j ≠ 5 → σ2.1 j = σ.1 j := fun j h1 h2 h3 => by rw [← hs2, ← hs1]; simp (disch := omega) only [ms_ne_z, ms_same_z, upd_ne_z, upd_same_z]
    rw [v91]
    have iv := z.iv
    have sr := z.sr
    refine ⟨⟨hn8, hf3, ?_, ?_, ?_, ?_, ?_, ?_, ?_, ?_⟩, ⟨?_, ?_, ?_, ?_, ?_, ?_, ?_⟩, by omega, hc6, he6, hw8, ?_, ?_, ?_, ?_, ?_, ?_, ?_, ?_, ?_, ?_, ?_, ?_, ?_, ?_, ?_, ?_, ?_⟩
    · simp (disch := omega) only [ms_ne_z, ms_same_z, upd_ne_z, upd_same_z]; exact t0
    · simp (disch := omega) only [ms_ne_z, ms_same_z, upd_ne_z, upd_same_z]; exact t1
    · intro m hm; simp (disch := omega) only [ms_ne_z, ms_same_z, upd_ne_z, upd_same_z]; exact iv.pl m hm
    · intro u hu; simp (disch := omega) only [ms_ne_z, ms_same_z, upd_ne_z, upd_same_z]; exact iv.cl u hu
    · intro u hu hq; simp (disch := omega) only [ms_ne_z, ms_same_z, upd_ne_z, upd_same_z]; exact iv.cz u hu hq
    · intro u hu; simp (disch := omega) only [ms_ne_z, ms_same_z, upd_ne_z, upd_same_z]; exact iv.so u hu
    · intro m hm; simp (disch := omega) only [ms_ne_z, ms_same_z, upd_ne_z, upd_same_z]; exact iv.kd m hm
    · intro m hm; simp (disch := omega) only [ms_ne_z, ms_same_z, upd_ne_z, upd_same_z]; exact iv.sk m hm
    · rw [v1]; simp (disch := omega) only [ms_ne_z, ms_same_z, upd_ne_z, upd_same_z]; exact i4
    · rw [v1]; simp (disch := omega) only [ms_ne_z, ms_same_z, upd_ne_z, upd_same_z]; exact i1
    · intro m hm; rw [vo _ (by omega) (by omega) (by omega)]; simp (disch := omega) only [ms_ne_z, ms_same_z, upd_ne_z, upd_same_z]; exact sr.pl m hm
    · intro u hu; rw [vo _ (by omega) (by omega) (by omega)]; simp (disch := omega) only [ms_ne_z, ms_same_z, upd_ne_z, upd_same_z]; exact sr.cl u hu
    · intro u hu; rw [vo _ (by omega) (by omega) (by omega)]; simp (disch := omega) only [ms_ne_z, ms_same_z, upd_ne_z, upd_same_z]; exact sr.so u hu
    · intro m hm; rw [vo _ (by omega) (by omega) (by omega)]; simp (disch := omega) only [ms_ne_z, ms_same_z, upd_ne_z, upd_same_z]; exact sr.kd m hm
    · intro m hm; rw [vo _ (by omega) (by omega) (by omega)]; simp (disch := omega) only [ms_ne_z, ms_same_z, upd_ne_z, upd_same_z]; exact sr.sk m hm
    · simp (disch := omega) only [ms_ne_z, ms_same_z, upd_ne_z, upd_same_z]
    · simp (disch := omega) only [ms_ne_z, ms_same_z, upd_ne_z, upd_same_z]; exact r3
    · simp (disch := omega) only [ms_ne_z, ms_same_z, upd_ne_z, upd_same_z]; exact r4
    · simp (disch := omega) only [ms_ne_z, ms_same_z, upd_ne_z, upd_same_z]; exact r5
    · rw [v1]; simp (disch := omega) only [ms_ne_z, ms_same_z, upd_ne_z, upd_same_z]
    · rw [v1]; simp (disch := omega) only [ms_ne_z, ms_same_z, upd_ne_z, upd_same_z]; exact q3
    · rw [v1]; simp (disch := omega) only [ms_ne_z, ms_same_z, upd_ne_z, upd_same_z]; exact q4
    · rw [v1]; simp (disch := omega) only [ms_ne_z, ms_same_z, upd_ne_z, upd_same_z]; exact q5
    · intro i hi; rw [show σ2.1 (1 + 4) = σ2.1 5 from rfl, vA]
      by_cases p0 : i < 4 * a
      · simp (disch := omega) only [ms_ne_z, ms_same_z, upd_ne_z, upd_same_z]; exact z.se i p0
      · by_cases p1 : i = 4 * a
        · subst p1; simp (disch := omega) only [ms_ne_z, ms_same_z, upd_ne_z, upd_same_z]
        · by_cases p2 : i = 4 * a + 1
          · subst p2; simp (disch := omega) only [ms_ne_z, ms_same_z, upd_ne_z, upd_same_z, ← Nat.add_assoc]
          · by_cases p3 : i = 4 * a + 2
            · subst p3; simp (disch := omega) only [ms_ne_z, ms_same_z, upd_ne_z, upd_same_z, ← Nat.add_assoc]
            · have p4 : i = 4 * a + 3 := by omega
              subst p4; simp (disch := omega) only [ms_ne_z, ms_same_z, upd_ne_z, upd_same_z, ← Nat.add_assoc]
    · intro i hi; rw [vo _ (by omega) (by omega) (by omega)]; simp (disch := omega) only [ms_ne_z, ms_same_z, upd_ne_z, upd_same_z]; exact z.no i hi
    · intro i hi; rw [vo _ (by omega) (by omega) (by omega)]; simp (disch := omega) only [ms_ne_z, ms_same_z, upd_ne_z, upd_same_z]; exact z.ma i hi
    · intro i hi
      by_cases p0 : i < a
      · simp (disch := omega) only [ms_ne_z, ms_same_z, upd_ne_z, upd_same_z]; exact z.sv i p0
      · have p1 : i = a := by omega
        subst p1
        rw [show 36 + (4 * i + 1) = 36 + 4 * i + 1 by omega]; simp (disch := omega) only [ms_ne_z, ms_same_z, upd_ne_z, upd_same_z]; exact ⟨k2, by omega, d2⟩
    · intro i hi; simp (disch := omega) only [ms_ne_z, ms_same_z, upd_ne_z, upd_same_z]; exact z.nv i hi
    · intro i hi; simp (disch := omega) only [ms_ne_z, ms_same_z, upd_ne_z, upd_same_z]; exact z.mv i hi
    · intro j hj m hm; rw [vo _ (by omega) (by omega) (by omega)]; simp (disch := omega) only [ms_ne_z, ms_same_z, upd_ne_z, upd_same_z]; exact z.pa j hj m hm
    · intro j hj m hm; rw [vo _ (by omega) (by omega) (by omega)]; simp (disch := omega) only [ms_ne_z, ms_same_z, upd_ne_z, upd_same_z]; exact z.pc j hj m hm
    · intro j hj u hu hq; simp (disch := omega) only [ms_ne_z, ms_same_z, upd_ne_z, upd_same_z]; exact z.pz j hj u hu hq
theorem op_note_z {σ : Me_} (g : Rel_z σ) (x1 x2 x3 x4 : Int32) : Op_z σ (fun σ => F_X0_note σ x1 x2 x3 x4) (fun σ => F_X6_note σ x1 x2 x3 x4) := by
  obtain ⟨n, f, a, c, e, w, z⟩ := g.fu; have hn8 := z.iv.n8; have hf3 := z.iv.f3; have ha5 := z.a5; have hc6 := z.c6; have he6 := z.e6; have hw8 := z.w8; have i4 := z.sr.e4; have i1 := z.sr.e1; have t0 := z.iv.t0; have t1 := z.iv.t1; have r2 := z.r2; have r3 := z.r3; have r4 := z.r4; have r5 := z.r5; have q2 := z.q2; have q3 := z.q3; have q4 := z.q4; have q5 := z.q5
  by_cases h1 : F_X6_in x1.toInt64 (0 : Int64) ((nI f - 1 : Int32).toInt64) = 0
  · refine op_rf_z g 0 (by omega) (r := -2) ?_ ?_
    · show F_X0_note σ x1 x2 x3 x4 = _
      unfold F_X0_note
      simp only [in06_z, in_and_z, i_z1_z, x0_bad_z, x0_no_z, x0_full_z, x0_badAsk_z, x6_bad_z, x6_no_z, x6_full_z, bi_some_z, bd_some_z, nm_eq_z, F_X0_isKind, F_X6_isKind, F_X0_isSkill, F_X6_isSkill, F_X0_isFar, F_X6_isFar, F_X0_isLong, F_X0_isShip, F_X6_isShip, F_X0_isMan, F_X6_isMan, F_X6_many, rf0_ne_z _ _ (show 91 ≠ 76 by omega), rf0_ne_z _ _ (show 90 ≠ 76 by omega), i1, i4, t0, t1, h1, if_true, if_false]
    · show F_X6_note _ x1 x2 x3 x4 = _
      unfold F_X6_note
      simp only [in06_z, in_and_z, i_z1_z, x0_bad_z, x0_no_z, x0_full_z, x0_badAsk_z, x6_bad_z, x6_no_z, x6_full_z, bi_some_z, bd_some_z, nm_eq_z, F_X0_isKind, F_X6_isKind, F_X0_isSkill, F_X6_isSkill, F_X0_isFar, F_X6_isFar, F_X0_isLong, F_X0_isShip, F_X6_isShip, F_X0_isMan, F_X6_isMan, F_X6_many, rf0_ne_z _ _ (show 91 ≠ 76 by omega), rf0_ne_z _ _ (show 90 ≠ 76 by omega), i1, i4, t0, t1, h1, if_true, if_false]
  by_cases h2 : F_X6_in x2.toInt64 (1 : Int64) (30 : Int64) = 0
  · refine op_rf_z g 0 (by omega) (r := -2) ?_ ?_
    · show F_X0_note σ x1 x2 x3 x4 = _
      unfold F_X0_note
      simp only [in06_z, in_and_z, i_z1_z, x0_bad_z, x0_no_z, x0_full_z, x0_badAsk_z, x6_bad_z, x6_no_z, x6_full_z, bi_some_z, bd_some_z, nm_eq_z, F_X0_isKind, F_X6_isKind, F_X0_isSkill, F_X6_isSkill, F_X0_isFar, F_X6_isFar, F_X0_isLong, F_X0_isShip, F_X6_isShip, F_X0_isMan, F_X6_isMan, F_X6_many, rf0_ne_z _ _ (show 91 ≠ 76 by omega), rf0_ne_z _ _ (show 90 ≠ 76 by omega), i1, i4, t0, t1, h1, h2, if_true, if_false]
    · show F_X6_note _ x1 x2 x3 x4 = _
      unfold F_X6_note
      simp only [in06_z, in_and_z, i_z1_z, x0_bad_z, x0_no_z, x0_full_z, x0_badAsk_z, x6_bad_z, x6_no_z, x6_full_z, bi_some_z, bd_some_z, nm_eq_z, F_X0_isKind, F_X6_isKind, F_X0_isSkill, F_X6_isSkill, F_X0_isFar, F_X6_isFar, F_X0_isLong, F_X0_isShip, F_X6_isShip, F_X0_isMan, F_X6_isMan, F_X6_many, rf0_ne_z _ _ (show 91 ≠ 76 by omega), rf0_ne_z _ _ (show 90 ≠ 76 by omega), i1, i4, t0, t1, h1, h2, if_true, if_false]
  by_cases h3 : F_X6_in x3.toInt64 (0 : Int64) (8 : Int64) = 0
  · refine op_rf_z g 0 (by omega) (r := -2) ?_ ?_
    · show F_X0_note σ x1 x2 x3 x4 = _
      unfold F_X0_note
      simp only [in06_z, in_and_z, i_z1_z, x0_bad_z, x0_no_z, x0_full_z, x0_badAsk_z, x6_bad_z, x6_no_z, x6_full_z, bi_some_z, bd_some_z, nm_eq_z, F_X0_isKind, F_X6_isKind, F_X0_isSkill, F_X6_isSkill, F_X0_isFar, F_X6_isFar, F_X0_isLong, F_X0_isShip, F_X6_isShip, F_X0_isMan, F_X6_isMan, F_X6_many, rf0_ne_z _ _ (show 91 ≠ 76 by omega), rf0_ne_z _ _ (show 90 ≠ 76 by omega), i1, i4, t0, t1, h1, h2, h3, if_true, if_false]
    · show F_X6_note _ x1 x2 x3 x4 = _
      unfold F_X6_note
      simp only [in06_z, in_and_z, i_z1_z, x0_bad_z, x0_no_z, x0_full_z, x0_badAsk_z, x6_bad_z, x6_no_z, x6_full_z, bi_some_z, bd_some_z, nm_eq_z, F_X0_isKind, F_X6_isKind, F_X0_isSkill, F_X6_isSkill, F_X0_isFar, F_X6_isFar, F_X0_isLong, F_X0_isShip, F_X6_isShip, F_X0_isMan, F_X6_isMan, F_X6_many, rf0_ne_z _ _ (show 91 ≠ 76 by omega), rf0_ne_z _ _ (show 90 ≠ 76 by omega), i1, i4, t0, t1, h1, h2, h3, if_true, if_false]
  by_cases h4 : F_X6_in x4.toInt64 (0 : Int64) (99 : Int64) = 0
  · refine op_rf_z g 0 (by omega) (r := -2) ?_ ?_
    · show F_X0_note σ x1 x2 x3 x4 = _
      unfold F_X0_note
      simp only [in06_z, in_and_z, i_z1_z, x0_bad_z, x0_no_z, x0_full_z, x0_badAsk_z, x6_bad_z, x6_no_z, x6_full_z, bi_some_z, bd_some_z, nm_eq_z, F_X0_isKind, F_X6_isKind, F_X0_isSkill, F_X6_isSkill, F_X0_isFar, F_X6_isFar, F_X0_isLong, F_X0_isShip, F_X6_isShip, F_X0_isMan, F_X6_isMan, F_X6_many, rf0_ne_z _ _ (show 91 ≠ 76 by omega), rf0_ne_z _ _ (show 90 ≠ 76 by omega), i1, i4, t0, t1, h1, h2, h3, h4, if_true, if_false]
    · show F_X6_note _ x1 x2 x3 x4 = _
      unfold F_X6_note
      simp only [in06_z, in_and_z, i_z1_z, x0_bad_z, x0_no_z, x0_full_z, x0_badAsk_z, x6_bad_z, x6_no_z, x6_full_z, bi_some_z, bd_some_z, nm_eq_z, F_X0_isKind, F_X6_isKind, F_X0_isSkill, F_X6_isSkill, F_X0_isFar, F_X6_isFar, F_X0_isLong, F_X0_isShip, F_X6_isShip, F_X0_isMan, F_X6_isMan, F_X6_many, rf0_ne_z _ _ (show 91 ≠ 76 by omega), rf0_ne_z _ _ (show 90 ≠ 76 by omega), i1, i4, t0, t1, h1, h2, h3, h4, if_true, if_false]
  by_cases hf : c = 6
  · have hl : nI c = 6 := by rw [hf]; rfl
    refine op_rf_z g 2 (by omega) (r := -4) ?_ ?_
    · show F_X0_note σ x1 x2 x3 x4 = _
      unfold F_X0_note
      simp only [in06_z, in_and_z, i_z1_z, x0_bad_z, x0_no_z, x0_full_z, x0_badAsk_z, x6_bad_z, x6_no_z, x6_full_z, bi_some_z, bd_some_z, nm_eq_z, F_X0_isKind, F_X6_isKind, F_X0_isSkill, F_X6_isSkill, F_X0_isFar, F_X6_isFar, F_X0_isLong, F_X0_isShip, F_X6_isShip, F_X0_isMan, F_X6_isMan, F_X6_many, rf0_ne_z _ _ (show 91 ≠ 76 by omega), rf0_ne_z _ _ (show 90 ≠ 76 by omega), i1, i4, t0, t1, h1, h2, h3, h4, if_true, if_false, q3, hl]
    · show F_X6_note _ x1 x2 x3 x4 = _
      unfold F_X6_note
      simp only [in06_z, in_and_z, i_z1_z, x0_bad_z, x0_no_z, x0_full_z, x0_badAsk_z, x6_bad_z, x6_no_z, x6_full_z, bi_some_z, bd_some_z, nm_eq_z, F_X0_isKind, F_X6_isKind, F_X0_isSkill, F_X6_isSkill, F_X0_isFar, F_X6_isFar, F_X0_isLong, F_X0_isShip, F_X6_isShip, F_X0_isMan, F_X6_isMan, F_X6_many, rf0_ne_z _ _ (show 91 ≠ 76 by omega), rf0_ne_z _ _ (show 90 ≠ 76 by omega), i1, i4, t0, t1, h1, h2, h3, h4, if_true, if_false, r3, hl]
  have hl : ¬ nI c = 6 := by rw [nI_lit_z, nI_inj_z (by omega) (by omega)]; exact hf
  obtain ⟨k2, l2, m2, d2⟩ := in_oka_z (a := 1) (b := 30) (by decide) (by decide) h2
  obtain ⟨k3, l3, m3, d3⟩ := in_oka_z (a := 0) (b := 8) (by decide) (by decide) h3
  have e4 : (4 : Int32) * nI c = nI (4 * c) := nI_mul_z 4 c
  have f1 : nI (4 * c) + 1 = nI (4 * c + 1) := nI_add_z _ 1
  have g1 : nI (56 + 4 * c) + 1 = nI (56 + 4 * c + 1) := nI_add_z _ 1
  have f2 : nI (4 * c) + 2 = nI (4 * c + 2) := nI_add_z _ 2
  have g2 : nI (56 + 4 * c) + 2 = nI (56 + 4 * c + 2) := nI_add_z _ 2
  have f3 : nI (4 * c) + 3 = nI (4 * c + 3) := nI_add_z _ 3
  have g3 : nI (56 + 4 * c) + 3 = nI (56 + 4 * c + 3) := nI_add_z _ 3
  have eb : (56 : Int32) + nI (4 * c) = nI (56 + 4 * c) := nI_add_z 56 _
  have u0 : inb_ (nI (4 * c)) 24 = true := by rw [nI_inb_z (by omega)]; omega
  have y0 : inb_ (nI (56 + 4 * c)) 192 = true := by rw [nI_inb_z (by omega)]; omega
  have u1 : inb_ (nI (4 * c + 1)) 24 = true := by rw [nI_inb_z (by omega)]; omega
  have y1 : inb_ (nI (56 + 4 * c + 1)) 192 = true := by rw [nI_inb_z (by omega)]; omega
  have u2 : inb_ (nI (4 * c + 2)) 24 = true := by rw [nI_inb_z (by omega)]; omega
  have y2 : inb_ (nI (56 + 4 * c + 2)) 192 = true := by rw [nI_inb_z (by omega)]; omega
  have u3 : inb_ (nI (4 * c + 3)) 24 = true := by rw [nI_inb_z (by omega)]; omega
  have y3 : inb_ (nI (56 + 4 * c + 3)) 192 = true := by rw [nI_inb_z (by omega)]; omega
  generalize hs1 : me_set (me_set (me_set (me_set (me_set σ 6 (4 * c) x1) 6 (4 * c + 1) x2) 6 (4 * c + 2) x3) 6 (4 * c + 3) x4) 1 8 (nI (c + 1)) = σ1
  generalize hs2 : me_set (me_set (me_set (me_set (me_set σ1 91 (56 + 4 * c) x1) 91 (56 + 4 * c + 1) x2) 91 (56 + 4 * c + 2) x3) 91 (56 + 4 * c + 3) x4) 91 3 (nI (c + 1)) = σ2
  have s91 : σ1.1 91 = σ.1 91 := by rw [← hs1]; simp (disch := omega) only [ms_ne_z, ms_same_z, upd_ne_z, upd_same_z]
  have w1 : σ1.1 1 8 = nI (c + 1) := by rw [← hs1]; simp (disch := omega) only [ms_ne_z, ms_same_z, upd_ne_z, upd_same_z]
  have w2 : σ2.1 91 3 = nI (c + 1) := by rw [← hs2]; simp (disch := omega) only [ms_ne_z, ms_same_z, upd_ne_z, upd_same_z]
  refine ⟨nI (c + 1), σ1, σ2, ?_, ?_, ?_, by rw [← hs1]; simp (disch := omega) only [ms_ne_z, ms_same_z, upd_ne_z, upd_same_z], by rw [← hs2]; simp (disch := omega) only [ms_ne_z, ms_same_z, upd_ne_z, upd_same_z]⟩
  · show F_X0_note σ x1 x2 x3 x4 = _
    unfold F_X0_note
    simp (disch := omega) only [in06_z, in_and_z, nm_eq_z, F_X0_isSkill, F_X0_isFar, F_X0_isLong, F_X0_isShip, F_X0_isMan, i1, i4, h1, h2, h3, h4, if_false, if_true, q3, hl, e4, f1, f2, f3, u0, u1, u2, u3, nI_nat_z, ms_ne_z, ms_same_z, upd_same_z, upd_ne_z, nI_s_z, hs1, w1]
  · show F_X6_note σ1 x1 x2 x3 x4 = _
    unfold F_X6_note F_X6_layFour
    simp (disch := omega) only [in_and_z, nm_eq_z, F_X6_isSkill, F_X6_isFar, F_X6_isShip, F_X6_isMan, F_X6_many, s91, t1, t0, h1, h2, h3, h4, if_false, if_true, r3, hl, e4, eb, g1, g2, g3, y0, y1, y2, y3, nI_nat_z, ms_ne_z, ms_same_z, upd_same_z, upd_ne_z, nI_s_z, bd_some_z, hs2, w2]
  · refine rel_isl_z g (by rw [← hs2, ← hs1]; rfl) (fun j hj => by rw [← hs2, ← hs1]; simp (disch := omega) only [ms_ne_z, ms_same_z, upd_ne_z, upd_same_z]) (n := n) (f := f) (a := a) (c := c + 1) (e := e) (w := w) ?_
    have v91 : σ2.1 91 = upd (upd (upd (upd (upd (σ.1 91) (56 + 4 * c) x1) (56 + 4 * c + 1) x2) (56 + 4 * c + 2) x3) (56 + 4 * c + 3) x4) 3 (nI (c + 1)) := by rw [← hs2]; simp (disch := omega) only [ms_ne_z, ms_same_z, upd_ne_z, upd_same_z, s91]
    have v1 : σ2.1 1 = upd (σ.1 1) 8 (nI (c + 1)) := by rw [← hs2, ← hs1]; simp (disch := omega) only [ms_ne_z, ms_same_z, upd_ne_z, upd_same_z]
    have vA : σ2.1 6 = upd (upd (upd (upd (σ.1 6) (4 * c) x1) (4 * c + 1) x2) (4 * c + 2) x3) (4 * c + 3) x4 := by rw [← hs2, ← hs1]; simp (disch := omega) only [ms_ne_z, ms_same_z, upd_ne_z, upd_same_z]
    have vo : ∀ j, j < 36 → j ≠ 1 → j ≠ 6 → σ2.1 j = σ.1 j := fun j h1 h2 h3 => by rw [← hs2, ← hs1]; simp (disch := omega) only [ms_ne_z, ms_same_z, upd_ne_z, upd_same_z]
    rw [v91]
    have iv := z.iv
    have sr := z.sr
    refine ⟨⟨hn8, hf3, ?_, ?_, ?_, ?_, ?_, ?_, ?_, ?_⟩, ⟨?_, ?_, ?_, ?_, ?_, ?_, ?_⟩, ha5, by omega, he6, hw8, ?_, ?_, ?_, ?_, ?_, ?_, ?_, ?_, ?_, ?_, ?_, ?_, ?_, ?_, ?_, ?_, ?_⟩
    · simp (disch := omega) only [ms_ne_z, ms_same_z, upd_ne_z, upd_same_z]; exact t0
    · simp (disch := omega) only [ms_ne_z, ms_same_z, upd_ne_z, upd_same_z]; exact t1
    · intro m hm; simp (disch := omega) only [ms_ne_z, ms_same_z, upd_ne_z, upd_same_z]; exact iv.pl m hm
    · intro u hu; simp (disch := omega) only [ms_ne_z, ms_same_z, upd_ne_z, upd_same_z]; exact iv.cl u hu
    · intro u hu hq; simp (disch := omega) only [ms_ne_z, ms_same_z, upd_ne_z, upd_same_z]; exact iv.cz u hu hq
    · intro u hu; simp (disch := omega) only [ms_ne_z, ms_same_z, upd_ne_z, upd_same_z]; exact iv.so u hu
    · intro m hm; simp (disch := omega) only [ms_ne_z, ms_same_z, upd_ne_z, upd_same_z]; exact iv.kd m hm
    · intro m hm; simp (disch := omega) only [ms_ne_z, ms_same_z, upd_ne_z, upd_same_z]; exact iv.sk m hm
    · rw [v1]; simp (disch := omega) only [ms_ne_z, ms_same_z, upd_ne_z, upd_same_z]; exact i4
    · rw [v1]; simp (disch := omega) only [ms_ne_z, ms_same_z, upd_ne_z, upd_same_z]; exact i1
    · intro m hm; rw [vo _ (by omega) (by omega) (by omega)]; simp (disch := omega) only [ms_ne_z, ms_same_z, upd_ne_z, upd_same_z]; exact sr.pl m hm
    · intro u hu; rw [vo _ (by omega) (by omega) (by omega)]; simp (disch := omega) only [ms_ne_z, ms_same_z, upd_ne_z, upd_same_z]; exact sr.cl u hu
    · intro u hu; rw [vo _ (by omega) (by omega) (by omega)]; simp (disch := omega) only [ms_ne_z, ms_same_z, upd_ne_z, upd_same_z]; exact sr.so u hu
    · intro m hm; rw [vo _ (by omega) (by omega) (by omega)]; simp (disch := omega) only [ms_ne_z, ms_same_z, upd_ne_z, upd_same_z]; exact sr.kd m hm
    · intro m hm; rw [vo _ (by omega) (by omega) (by omega)]; simp (disch := omega) only [ms_ne_z, ms_same_z, upd_ne_z, upd_same_z]; exact sr.sk m hm
    · simp (disch := omega) only [ms_ne_z, ms_same_z, upd_ne_z, upd_same_z]; exact r2
    · simp (disch := omega) only [ms_ne_z, ms_same_z, upd_ne_z, upd_same_z]
    · simp (disch := omega) only [ms_ne_z, ms_same_z, upd_ne_z, upd_same_z]; exact r4
    · simp (disch := omega) only [ms_ne_z, ms_same_z, upd_ne_z, upd_same_z]; exact r5
    · rw [v1]; simp (disch := omega) only [ms_ne_z, ms_same_z, upd_ne_z, upd_same_z]; exact q2
    · rw [v1]; simp (disch := omega) only [ms_ne_z, ms_same_z, upd_ne_z, upd_same_z]
    · rw [v1]; simp (disch := omega) only [ms_ne_z, ms_same_z, upd_ne_z, upd_same_z]; exact q4
    · rw [v1]; simp (disch := omega) only [ms_ne_z, ms_same_z, upd_ne_z, upd_same_z]; exact q5
    · intro i hi; rw [vo _ (by omega) (by omega) (by omega)]; simp (disch := omega) only [ms_ne_z, ms_same_z, upd_ne_z, upd_same_z]; exact z.se i hi
    · intro i hi; rw [show σ2.1 (1 + 5) = σ2.1 6 from rfl, vA]
      by_cases p0 : i < 4 * c
      · simp (disch := omega) only [ms_ne_z, ms_same_z, upd_ne_z, upd_same_z]; exact z.no i p0
      · by_cases p1 : i = 4 * c
        · subst p1; simp (disch := omega) only [ms_ne_z, ms_same_z, upd_ne_z, upd_same_z]
        · by_cases p2 : i = 4 * c + 1
          · subst p2; simp (disch := omega) only [ms_ne_z, ms_same_z, upd_ne_z, upd_same_z, ← Nat.add_assoc]
          · by_cases p3 : i = 4 * c + 2
            · subst p3; simp (disch := omega) only [ms_ne_z, ms_same_z, upd_ne_z, upd_same_z, ← Nat.add_assoc]
            · have p4 : i = 4 * c + 3 := by omega
              subst p4; simp (disch := omega) only [ms_ne_z, ms_same_z, upd_ne_z, upd_same_z, ← Nat.add_assoc]
    · intro i hi; rw [vo _ (by omega) (by omega) (by omega)]; simp (disch := omega) only [ms_ne_z, ms_same_z, upd_ne_z, upd_same_z]; exact z.ma i hi
    · intro i hi; simp (disch := omega) only [ms_ne_z, ms_same_z, upd_ne_z, upd_same_z]; exact z.sv i hi
    · intro i hi
      by_cases p0 : i < c
      · simp (disch := omega) only [ms_ne_z, ms_same_z, upd_ne_z, upd_same_z]; exact z.nv i p0
      · have p1 : i = c := by omega
        subst p1
        rw [show 56 + (4 * i + 1) = 56 + 4 * i + 1 by omega, show 56 + (4 * i + 2) = 56 + 4 * i + 2 by omega]; simp (disch := omega) only [ms_ne_z, ms_same_z, upd_ne_z, upd_same_z]; exact ⟨k2, k3, by omega, by omega, d2, d3⟩
    · intro i hi; simp (disch := omega) only [ms_ne_z, ms_same_z, upd_ne_z, upd_same_z]; exact z.mv i hi
    · intro j hj m hm; rw [vo _ (by omega) (by omega) (by omega)]; simp (disch := omega) only [ms_ne_z, ms_same_z, upd_ne_z, upd_same_z]; exact z.pa j hj m hm
    · intro j hj m hm; rw [vo _ (by omega) (by omega) (by omega)]; simp (disch := omega) only [ms_ne_z, ms_same_z, upd_ne_z, upd_same_z]; exact z.pc j hj m hm
    · intro j hj u hu hq; simp (disch := omega) only [ms_ne_z, ms_same_z, upd_ne_z, upd_same_z]; exact z.pz j hj u hu hq
theorem op_mark_z {σ : Me_} (g : Rel_z σ) (x1 x2 x3 x4 : Int32) : Op_z σ (fun σ => F_X0_mark σ x1 x2 x3 x4) (fun σ => F_X6_mark σ x1 x2 x3 x4) := by
  obtain ⟨n, f, a, c, e, w, z⟩ := g.fu; have hn8 := z.iv.n8; have hf3 := z.iv.f3; have ha5 := z.a5; have hc6 := z.c6; have he6 := z.e6; have hw8 := z.w8; have i4 := z.sr.e4; have i1 := z.sr.e1; have t0 := z.iv.t0; have t1 := z.iv.t1; have r2 := z.r2; have r3 := z.r3; have r4 := z.r4; have r5 := z.r5; have q2 := z.q2; have q3 := z.q3; have q4 := z.q4; have q5 := z.q5
  by_cases h1 : F_X6_in x1.toInt64 (0 : Int64) ((nI n - 1 : Int32).toInt64) = 0
  · refine op_rf_z g 0 (by omega) (r := -2) ?_ ?_
    · show F_X0_mark σ x1 x2 x3 x4 = _
      unfold F_X0_mark
      simp only [in06_z, in_and_z, i_z1_z, x0_bad_z, x0_no_z, x0_full_z, x0_badAsk_z, x6_bad_z, x6_no_z, x6_full_z, bi_some_z, bd_some_z, nm_eq_z, F_X0_isKind, F_X6_isKind, F_X0_isSkill, F_X6_isSkill, F_X0_isFar, F_X6_isFar, F_X0_isLong, F_X0_isShip, F_X6_isShip, F_X0_isMan, F_X6_isMan, F_X6_many, rf0_ne_z _ _ (show 91 ≠ 76 by omega), rf0_ne_z _ _ (show 90 ≠ 76 by omega), i1, i4, t0, t1, h1, if_true, if_false]
    · show F_X6_mark _ x1 x2 x3 x4 = _
      unfold F_X6_mark
      simp only [in06_z, in_and_z, i_z1_z, x0_bad_z, x0_no_z, x0_full_z, x0_badAsk_z, x6_bad_z, x6_no_z, x6_full_z, bi_some_z, bd_some_z, nm_eq_z, F_X0_isKind, F_X6_isKind, F_X0_isSkill, F_X6_isSkill, F_X0_isFar, F_X6_isFar, F_X0_isLong, F_X0_isShip, F_X6_isShip, F_X0_isMan, F_X6_isMan, F_X6_many, rf0_ne_z _ _ (show 91 ≠ 76 by omega), rf0_ne_z _ _ (show 90 ≠ 76 by omega), i1, i4, t0, t1, h1, if_true, if_false]
  by_cases h2 : F_X6_in x2.toInt64 (1 : Int64) (9 : Int64) = 0
  · refine op_rf_z g 0 (by omega) (r := -2) ?_ ?_
    · show F_X0_mark σ x1 x2 x3 x4 = _
      unfold F_X0_mark
      simp only [in06_z, in_and_z, i_z1_z, x0_bad_z, x0_no_z, x0_full_z, x0_badAsk_z, x6_bad_z, x6_no_z, x6_full_z, bi_some_z, bd_some_z, nm_eq_z, F_X0_isKind, F_X6_isKind, F_X0_isSkill, F_X6_isSkill, F_X0_isFar, F_X6_isFar, F_X0_isLong, F_X0_isShip, F_X6_isShip, F_X0_isMan, F_X6_isMan, F_X6_many, rf0_ne_z _ _ (show 91 ≠ 76 by omega), rf0_ne_z _ _ (show 90 ≠ 76 by omega), i1, i4, t0, t1, h1, h2, if_true, if_false]
    · show F_X6_mark _ x1 x2 x3 x4 = _
      unfold F_X6_mark
      simp only [in06_z, in_and_z, i_z1_z, x0_bad_z, x0_no_z, x0_full_z, x0_badAsk_z, x6_bad_z, x6_no_z, x6_full_z, bi_some_z, bd_some_z, nm_eq_z, F_X0_isKind, F_X6_isKind, F_X0_isSkill, F_X6_isSkill, F_X0_isFar, F_X6_isFar, F_X0_isLong, F_X0_isShip, F_X6_isShip, F_X0_isMan, F_X6_isMan, F_X6_many, rf0_ne_z _ _ (show 91 ≠ 76 by omega), rf0_ne_z _ _ (show 90 ≠ 76 by omega), i1, i4, t0, t1, h1, h2, if_true, if_false]
  by_cases h3 : F_X6_in x3.toInt64 (0 : Int64) (99 : Int64) = 0
  · refine op_rf_z g 0 (by omega) (r := -2) ?_ ?_
    · show F_X0_mark σ x1 x2 x3 x4 = _
      unfold F_X0_mark
      simp only [in06_z, in_and_z, i_z1_z, x0_bad_z, x0_no_z, x0_full_z, x0_badAsk_z, x6_bad_z, x6_no_z, x6_full_z, bi_some_z, bd_some_z, nm_eq_z, F_X0_isKind, F_X6_isKind, F_X0_isSkill, F_X6_isSkill, F_X0_isFar, F_X6_isFar, F_X0_isLong, F_X0_isShip, F_X6_isShip, F_X0_isMan, F_X6_isMan, F_X6_many, rf0_ne_z _ _ (show 91 ≠ 76 by omega), rf0_ne_z _ _ (show 90 ≠ 76 by omega), i1, i4, t0, t1, h1, h2, h3, if_true, if_false]
    · show F_X6_mark _ x1 x2 x3 x4 = _
      unfold F_X6_mark
      simp only [in06_z, in_and_z, i_z1_z, x0_bad_z, x0_no_z, x0_full_z, x0_badAsk_z, x6_bad_z, x6_no_z, x6_full_z, bi_some_z, bd_some_z, nm_eq_z, F_X0_isKind, F_X6_isKind, F_X0_isSkill, F_X6_isSkill, F_X0_isFar, F_X6_isFar, F_X0_isLong, F_X0_isShip, F_X6_isShip, F_X0_isMan, F_X6_isMan, F_X6_many, rf0_ne_z _ _ (show 91 ≠ 76 by omega), rf0_ne_z _ _ (show 90 ≠ 76 by omega), i1, i4, t0, t1, h1, h2, h3, if_true, if_false]
  by_cases h4 : F_X6_in x4.toInt64 (0 : Int64) (40 : Int64) = 0
  · refine op_rf_z g 0 (by omega) (r := -2) ?_ ?_
    · show F_X0_mark σ x1 x2 x3 x4 = _
      unfold F_X0_mark
      simp only [in06_z, in_and_z, i_z1_z, x0_bad_z, x0_no_z, x0_full_z, x0_badAsk_z, x6_bad_z, x6_no_z, x6_full_z, bi_some_z, bd_some_z, nm_eq_z, F_X0_isKind, F_X6_isKind, F_X0_isSkill, F_X6_isSkill, F_X0_isFar, F_X6_isFar, F_X0_isLong, F_X0_isShip, F_X6_isShip, F_X0_isMan, F_X6_isMan, F_X6_many, rf0_ne_z _ _ (show 91 ≠ 76 by omega), rf0_ne_z _ _ (show 90 ≠ 76 by omega), i1, i4, t0, t1, h1, h2, h3, h4, if_true, if_false]
    · show F_X6_mark _ x1 x2 x3 x4 = _
      unfold F_X6_mark
      simp only [in06_z, in_and_z, i_z1_z, x0_bad_z, x0_no_z, x0_full_z, x0_badAsk_z, x6_bad_z, x6_no_z, x6_full_z, bi_some_z, bd_some_z, nm_eq_z, F_X0_isKind, F_X6_isKind, F_X0_isSkill, F_X6_isSkill, F_X0_isFar, F_X6_isFar, F_X0_isLong, F_X0_isShip, F_X6_isShip, F_X0_isMan, F_X6_isMan, F_X6_many, rf0_ne_z _ _ (show 91 ≠ 76 by omega), rf0_ne_z _ _ (show 90 ≠ 76 by omega), i1, i4, t0, t1, h1, h2, h3, h4, if_true, if_false]
  by_cases hf : e = 6
  · have hl : nI e = 6 := by rw [hf]; rfl
    refine op_rf_z g 2 (by omega) (r := -4) ?_ ?_
    · show F_X0_mark σ x1 x2 x3 x4 = _
      unfold F_X0_mark
      simp only [in06_z, in_and_z, i_z1_z, x0_bad_z, x0_no_z, x0_full_z, x0_badAsk_z, x6_bad_z, x6_no_z, x6_full_z, bi_some_z, bd_some_z, nm_eq_z, F_X0_isKind, F_X6_isKind, F_X0_isSkill, F_X6_isSkill, F_X0_isFar, F_X6_isFar, F_X0_isLong, F_X0_isShip, F_X6_isShip, F_X0_isMan, F_X6_isMan, F_X6_many, rf0_ne_z _ _ (show 91 ≠ 76 by omega), rf0_ne_z _ _ (show 90 ≠ 76 by omega), i1, i4, t0, t1, h1, h2, h3, h4, if_true, if_false, q4, hl]
    · show F_X6_mark _ x1 x2 x3 x4 = _
      unfold F_X6_mark
      simp only [in06_z, in_and_z, i_z1_z, x0_bad_z, x0_no_z, x0_full_z, x0_badAsk_z, x6_bad_z, x6_no_z, x6_full_z, bi_some_z, bd_some_z, nm_eq_z, F_X0_isKind, F_X6_isKind, F_X0_isSkill, F_X6_isSkill, F_X0_isFar, F_X6_isFar, F_X0_isLong, F_X0_isShip, F_X6_isShip, F_X0_isMan, F_X6_isMan, F_X6_many, rf0_ne_z _ _ (show 91 ≠ 76 by omega), rf0_ne_z _ _ (show 90 ≠ 76 by omega), i1, i4, t0, t1, h1, h2, h3, h4, if_true, if_false, r4, hl]
  have hl : ¬ nI e = 6 := by rw [nI_lit_z, nI_inj_z (by omega) (by omega)]; exact hf
  obtain ⟨k2, l2, m2, d2⟩ := in_oka_z (a := 1) (b := 9) (by decide) (by decide) h2
  obtain ⟨k3, l3, m3, d3⟩ := in_oka_z (a := 0) (b := 99) (by decide) (by decide) h3
  have e4 : (4 : Int32) * nI e = nI (4 * e) := nI_mul_z 4 e
  have f1 : nI (4 * e) + 1 = nI (4 * e + 1) := nI_add_z _ 1
  have g1 : nI (80 + 4 * e) + 1 = nI (80 + 4 * e + 1) := nI_add_z _ 1
  have f2 : nI (4 * e) + 2 = nI (4 * e + 2) := nI_add_z _ 2
  have g2 : nI (80 + 4 * e) + 2 = nI (80 + 4 * e + 2) := nI_add_z _ 2
  have f3 : nI (4 * e) + 3 = nI (4 * e + 3) := nI_add_z _ 3
  have g3 : nI (80 + 4 * e) + 3 = nI (80 + 4 * e + 3) := nI_add_z _ 3
  have eb : (80 : Int32) + nI (4 * e) = nI (80 + 4 * e) := nI_add_z 80 _
  have u0 : inb_ (nI (4 * e)) 24 = true := by rw [nI_inb_z (by omega)]; omega
  have y0 : inb_ (nI (80 + 4 * e)) 192 = true := by rw [nI_inb_z (by omega)]; omega
  have u1 : inb_ (nI (4 * e + 1)) 24 = true := by rw [nI_inb_z (by omega)]; omega
  have y1 : inb_ (nI (80 + 4 * e + 1)) 192 = true := by rw [nI_inb_z (by omega)]; omega
  have u2 : inb_ (nI (4 * e + 2)) 24 = true := by rw [nI_inb_z (by omega)]; omega
  have y2 : inb_ (nI (80 + 4 * e + 2)) 192 = true := by rw [nI_inb_z (by omega)]; omega
  have u3 : inb_ (nI (4 * e + 3)) 24 = true := by rw [nI_inb_z (by omega)]; omega
  have y3 : inb_ (nI (80 + 4 * e + 3)) 192 = true := by rw [nI_inb_z (by omega)]; omega
  generalize hs1 : me_set (me_set (me_set (me_set (me_set σ 7 (4 * e) x1) 7 (4 * e + 1) x2) 7 (4 * e + 2) x3) 7 (4 * e + 3) x4) 1 10 (nI (e + 1)) = σ1
  generalize hs2 : me_set (me_set (me_set (me_set (me_set σ1 91 (80 + 4 * e) x1) 91 (80 + 4 * e + 1) x2) 91 (80 + 4 * e + 2) x3) 91 (80 + 4 * e + 3) x4) 91 4 (nI (e + 1)) = σ2
  have s91 : σ1.1 91 = σ.1 91 := by rw [← hs1]; simp (disch := omega) only [ms_ne_z, ms_same_z, upd_ne_z, upd_same_z]
  have w1 : σ1.1 1 10 = nI (e + 1) := by rw [← hs1]; simp (disch := omega) only [ms_ne_z, ms_same_z, upd_ne_z, upd_same_z]
  have w2 : σ2.1 91 4 = nI (e + 1) := by rw [← hs2]; simp (disch := omega) only [ms_ne_z, ms_same_z, upd_ne_z, upd_same_z]
  refine ⟨nI (e + 1), σ1, σ2, ?_, ?_, ?_, by rw [← hs1]; simp (disch := omega) only [ms_ne_z, ms_same_z, upd_ne_z, upd_same_z], by rw [← hs2]; simp (disch := omega) only [ms_ne_z, ms_same_z, upd_ne_z, upd_same_z]⟩
  · show F_X0_mark σ x1 x2 x3 x4 = _
    unfold F_X0_mark
    simp (disch := omega) only [in06_z, in_and_z, nm_eq_z, F_X0_isSkill, F_X0_isFar, F_X0_isLong, F_X0_isShip, F_X0_isMan, i1, i4, h1, h2, h3, h4, if_false, if_true, q4, hl, e4, f1, f2, f3, u0, u1, u2, u3, nI_nat_z, ms_ne_z, ms_same_z, upd_same_z, upd_ne_z, nI_s_z, hs1, w1]
  · show F_X6_mark σ1 x1 x2 x3 x4 = _
    unfold F_X6_mark F_X6_layFour
    simp (disch := omega) only [in_and_z, nm_eq_z, F_X6_isSkill, F_X6_isFar, F_X6_isShip, F_X6_isMan, F_X6_many, s91, t1, t0, h1, h2, h3, h4, if_false, if_true, r4, hl, e4, eb, g1, g2, g3, y0, y1, y2, y3, nI_nat_z, ms_ne_z, ms_same_z, upd_same_z, upd_ne_z, nI_s_z, bd_some_z, hs2, w2]
  · refine rel_isl_z g (by rw [← hs2, ← hs1]; rfl) (fun j hj => by rw [← hs2, ← hs1]; simp (disch := omega) only [ms_ne_z, ms_same_z, upd_ne_z, upd_same_z]) (n := n) (f := f) (a := a) (c := c) (e := e + 1) (w := w) ?_
    have v91 : σ2.1 91 = upd (upd (upd (upd (upd (σ.1 91) (80 + 4 * e) x1) (80 + 4 * e + 1) x2) (80 + 4 * e + 2) x3) (80 + 4 * e + 3) x4) 4 (nI (e + 1)) := by rw [← hs2]; simp (disch := omega) only [ms_ne_z, ms_same_z, upd_ne_z, upd_same_z, s91]
    have v1 : σ2.1 1 = upd (σ.1 1) 10 (nI (e + 1)) := by rw [← hs2, ← hs1]; simp (disch := omega) only [ms_ne_z, ms_same_z, upd_ne_z, upd_same_z]
    have vA : σ2.1 7 = upd (upd (upd (upd (σ.1 7) (4 * e) x1) (4 * e + 1) x2) (4 * e + 2) x3) (4 * e + 3) x4 := by rw [← hs2, ← hs1]; simp (disch := omega) only [ms_ne_z, ms_same_z, upd_ne_z, upd_same_z]
    have vo : ∀ j, j < 36 → j ≠ 1 → j ≠ 7 → σ2.1 j = σ.1 j := fun j h1 h2 h3 => by rw [← hs2, ← hs1]; simp (disch := omega) only [ms_ne_z, ms_same_z, upd_ne_z, upd_same_z]
    rw [v91]
    have iv := z.iv
    have sr := z.sr
    refine ⟨⟨hn8, hf3, ?_, ?_, ?_, ?_, ?_, ?_, ?_, ?_⟩, ⟨?_, ?_, ?_, ?_, ?_, ?_, ?_⟩, ha5, hc6, by omega, hw8, ?_, ?_, ?_, ?_, ?_, ?_, ?_, ?_, ?_, ?_, ?_, ?_, ?_, ?_, ?_, ?_, ?_⟩
    · simp (disch := omega) only [ms_ne_z, ms_same_z, upd_ne_z, upd_same_z]; exact t0
    · simp (disch := omega) only [ms_ne_z, ms_same_z, upd_ne_z, upd_same_z]; exact t1
    · intro m hm; simp (disch := omega) only [ms_ne_z, ms_same_z, upd_ne_z, upd_same_z]; exact iv.pl m hm
    · intro u hu; simp (disch := omega) only [ms_ne_z, ms_same_z, upd_ne_z, upd_same_z]; exact iv.cl u hu
    · intro u hu hq; simp (disch := omega) only [ms_ne_z, ms_same_z, upd_ne_z, upd_same_z]; exact iv.cz u hu hq
    · intro u hu; simp (disch := omega) only [ms_ne_z, ms_same_z, upd_ne_z, upd_same_z]; exact iv.so u hu
    · intro m hm; simp (disch := omega) only [ms_ne_z, ms_same_z, upd_ne_z, upd_same_z]; exact iv.kd m hm
    · intro m hm; simp (disch := omega) only [ms_ne_z, ms_same_z, upd_ne_z, upd_same_z]; exact iv.sk m hm
    · rw [v1]; simp (disch := omega) only [ms_ne_z, ms_same_z, upd_ne_z, upd_same_z]; exact i4
    · rw [v1]; simp (disch := omega) only [ms_ne_z, ms_same_z, upd_ne_z, upd_same_z]; exact i1
    · intro m hm; rw [vo _ (by omega) (by omega) (by omega)]; simp (disch := omega) only [ms_ne_z, ms_same_z, upd_ne_z, upd_same_z]; exact sr.pl m hm
    · intro u hu; rw [vo _ (by omega) (by omega) (by omega)]; simp (disch := omega) only [ms_ne_z, ms_same_z, upd_ne_z, upd_same_z]; exact sr.cl u hu
    · intro u hu; rw [vo _ (by omega) (by omega) (by omega)]; simp (disch := omega) only [ms_ne_z, ms_same_z, upd_ne_z, upd_same_z]; exact sr.so u hu
    · intro m hm; rw [vo _ (by omega) (by omega) (by omega)]; simp (disch := omega) only [ms_ne_z, ms_same_z, upd_ne_z, upd_same_z]; exact sr.kd m hm
    · intro m hm; rw [vo _ (by omega) (by omega) (by omega)]; simp (disch := omega) only [ms_ne_z, ms_same_z, upd_ne_z, upd_same_z]; exact sr.sk m hm
    · simp (disch := omega) only [ms_ne_z, ms_same_z, upd_ne_z, upd_same_z]; exact r2
    · simp (disch := omega) only [ms_ne_z, ms_same_z, upd_ne_z, upd_same_z]; exact r3
    · simp (disch := omega) only [ms_ne_z, ms_same_z, upd_ne_z, upd_same_z]
    · simp (disch := omega) only [ms_ne_z, ms_same_z, upd_ne_z, upd_same_z]; exact r5
    · rw [v1]; simp (disch := omega) only [ms_ne_z, ms_same_z, upd_ne_z, upd_same_z]; exact q2
    · rw [v1]; simp (disch := omega) only [ms_ne_z, ms_same_z, upd_ne_z, upd_same_z]; exact q3
    · rw [v1]; simp (disch := omega) only [ms_ne_z, ms_same_z, upd_ne_z, upd_same_z]
    · rw [v1]; simp (disch := omega) only [ms_ne_z, ms_same_z, upd_ne_z, upd_same_z]; exact q5
    · intro i hi; rw [vo _ (by omega) (by omega) (by omega)]; simp (disch := omega) only [ms_ne_z, ms_same_z, upd_ne_z, upd_same_z]; exact z.se i hi
    · intro i hi; rw [vo _ (by omega) (by omega) (by omega)]; simp (disch := omega) only [ms_ne_z, ms_same_z, upd_ne_z, upd_same_z]; exact z.no i hi
    · intro i hi; rw [show σ2.1 (1 + 6) = σ2.1 7 from rfl, vA]
      by_cases p0 : i < 4 * e
      · simp (disch := omega) only [ms_ne_z, ms_same_z, upd_ne_z, upd_same_z]; exact z.ma i p0
      · by_cases p1 : i = 4 * e
        · subst p1; simp (disch := omega) only [ms_ne_z, ms_same_z, upd_ne_z, upd_same_z]
        · by_cases p2 : i = 4 * e + 1
          · subst p2; simp (disch := omega) only [ms_ne_z, ms_same_z, upd_ne_z, upd_same_z, ← Nat.add_assoc]
          · by_cases p3 : i = 4 * e + 2
            · subst p3; simp (disch := omega) only [ms_ne_z, ms_same_z, upd_ne_z, upd_same_z, ← Nat.add_assoc]
            · have p4 : i = 4 * e + 3 := by omega
              subst p4; simp (disch := omega) only [ms_ne_z, ms_same_z, upd_ne_z, upd_same_z, ← Nat.add_assoc]
    · intro i hi; simp (disch := omega) only [ms_ne_z, ms_same_z, upd_ne_z, upd_same_z]; exact z.sv i hi
    · intro i hi; simp (disch := omega) only [ms_ne_z, ms_same_z, upd_ne_z, upd_same_z]; exact z.nv i hi
    · intro i hi
      by_cases p0 : i < e
      · simp (disch := omega) only [ms_ne_z, ms_same_z, upd_ne_z, upd_same_z]; exact z.mv i p0
      · have p1 : i = e := by omega
        subst p1
        rw [show 80 + (4 * i + 1) = 80 + 4 * i + 1 by omega, show 80 + (4 * i + 2) = 80 + 4 * i + 2 by omega]; simp (disch := omega) only [ms_ne_z, ms_same_z, upd_ne_z, upd_same_z]; exact ⟨k2, k3, by omega, by omega, d2, d3⟩
    · intro j hj m hm; rw [vo _ (by omega) (by omega) (by omega)]; simp (disch := omega) only [ms_ne_z, ms_same_z, upd_ne_z, upd_same_z]; exact z.pa j hj m hm
    · intro j hj m hm; rw [vo _ (by omega) (by omega) (by omega)]; simp (disch := omega) only [ms_ne_z, ms_same_z, upd_ne_z, upd_same_z]; exact z.pc j hj m hm
    · intro j hj u hu hq; simp (disch := omega) only [ms_ne_z, ms_same_z, upd_ne_z, upd_same_z]; exact z.pz j hj u hu hq
