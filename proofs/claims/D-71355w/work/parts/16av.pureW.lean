set_option maxRecDepth 100000
set_option linter.unusedSimpArgs false
set_option linter.unusedVariables false

/-! PURE W: image, from -/
theorem Fu_z.congrR {σ : Me_} {b : Nat} {R R' : Nat → Int32} {n f a c e w : Nat} (z : Fu_z σ b R n f a c e w) (o : ∀ i, i < 192 → R' i = R i) : Fu_z σ b R' n f a c e w := by
  have hn8 := z.iv.n8; have hf3 := z.iv.f3; have ha5 := z.a5; have hc6 := z.c6; have he6 := z.e6; have hw8 := z.w8
  have sr := z.sr
  refine ⟨z.iv.congr (fun i hi => o i (by omega)), ⟨sr.e4, sr.e1, ?_, ?_, ?_, ?_, ?_⟩, ha5, hc6, he6, hw8, ?_, ?_, ?_, ?_, z.q2, z.q3, z.q4, z.q5, ?_, ?_, ?_, ?_, ?_, ?_, ?_, ?_, ?_⟩
  · intro m hm; rw [o _ (by omega)]; exact sr.pl m hm
  · intro m hm; rw [o _ (by omega)]; exact sr.cl m hm
  · intro m hm; rw [o _ (by omega)]; exact sr.so m hm
  · intro m hm; rw [o _ (by omega)]; exact sr.kd m hm
  · intro m hm; rw [o _ (by omega)]; exact sr.sk m hm
  · rw [o _ (by omega)]; exact z.r2
  · rw [o _ (by omega)]; exact z.r3
  · rw [o _ (by omega)]; exact z.r4
  · rw [o _ (by omega)]; exact z.r5
  · intro i hi; rw [o _ (by omega)]; exact z.se i hi
  · intro i hi; rw [o _ (by omega)]; exact z.no i hi
  · intro i hi; rw [o _ (by omega)]; exact z.ma i hi
  · intro i hi; rw [o _ (by omega)]; exact z.sv i hi
  · intro i hi; rw [o _ (by omega), o _ (by omega)]; exact z.nv i hi
  · intro i hi; rw [o _ (by omega), o _ (by omega)]; exact z.mv i hi
  · intro j hj m hm; rw [o _ (by omega)]; exact z.pa j hj m hm
  · intro j hj m hm; rw [o _ (by omega)]; exact z.pc j hj m hm
  · intro j hj m hm hq; rw [o _ (by omega)]; exact z.pz j hj m hm hq
theorem x6_from_z {σ : Me_} {i : Nat} (hi : i < 2) : F_X6_from_L33 (nI i) FU_ 0 σ = some (1, me_arr σ 91 (cp_ (fun k => σ.1 92 (192 * i + k)) (σ.1 91) 192)) := by
  have L := loop2_z (F_X6_from_L33 (nI i)) (fun k => nI k) (fun k => me_arr σ 91 (cp_ (fun k => σ.1 92 (192 * i + k)) (σ.1 91) k)) (some (1, me_arr σ 91 (cp_ (fun k => σ.1 92 (192 * i + k)) (σ.1 91) 192))) 192 ?_ ?_ FU_ 0 (Nat.zero_le _) (fu_lt_z (by omega))
  · rw [cp_zero_z, ma_self_z] at L; exact L
  · intro q
    rw [F_X6_from_L33, if_pos (by decide)]
  · intro k q hk
    have e1 : (192 : Int32) * nI i = nI (192 * i) := nI_mul_z 192 i
    have e192 : (192 : Int32) = nI 192 := rfl
    rw [F_X6_from_L33, if_neg (by rw [e192, nI_le_z (by omega) (by omega)]; omega), e1, nI_add_z, if_pos (by rw [nI_inb_z (by omega)]; omega), if_pos (by rw [nI_inb_z (by omega)]; omega), nI_nat_z (by omega), nI_nat_z (by omega)]
    simp only [nm_eq_z, nI_s_z, ms_arr_z, ma_same_z, ma_ma_z, ma_ne_z _ _ (show 92 ≠ 91 by omega)]
    rw [← cp_upd_z]
theorem op_from_z {σ : Me_} (g : Rel_z σ) (x : Int32) : Op_z σ (fun σ => F_X0_from σ x) (fun σ => F_X6_from σ x) := by
  by_cases h : F_X6_in x.toInt64 (0 : Int64) (1 : Int64) = 0
  · refine op_rf_z g 0 (by omega) (r := -2) ?_ ?_
    · show F_X0_from σ x = _
      unfold F_X0_from
      rw [in06_z, if_pos h]; rfl
    · show F_X6_from _ x = _
      unfold F_X6_from
      rw [if_pos h]; rfl
  obtain ⟨i, _, hi, ei⟩ := in_oka_z (a := 0) (b := 1) (by decide) (by decide) h
  subst ei
  have hb : inb_ (nI i) 2 = true := by rw [nI_inb_z (by omega)]; omega
  have him := g.re.im i (by omega)
  by_cases q : σ.1 71 i = 0
  · refine op_rf_z g 1 (by omega) (r := -3) ?_ ?_
    · show F_X0_from σ (nI i) = _
      unfold F_X0_from
      rw [in06_z, if_neg h, if_pos hb, nI_nat_z (by omega), if_pos q]; rfl
    · show F_X6_from _ (nI i) = _
      unfold F_X6_from
      rw [if_neg h, if_pos hb, nI_nat_z (by omega), rf0_ne_z _ _ (by omega), if_pos (him.1.mp q)]; rfl
  · obtain ⟨n, f, a, c, e, w, z⟩ := him.2 q
    obtain ⟨τ, a1, a2, a3, a4⟩ := x1_takes_z (p := 1) (by omega) z
    have k93 : τ.1 93 = σ.1 93 := a3 93 (by omega)
    have k92 : τ.1 92 = σ.1 92 := a3 92 (by omega)
    refine ⟨1, τ, me_arr τ 91 (cp_ (fun k => τ.1 92 (192 * i + k)) (τ.1 91) 192), ?_, ?_, ?_, a3 71 (by omega), ma_ne_z _ _ (by omega)⟩
    · show F_X0_from σ (nI i) = _
      unfold F_X0_from
      rw [in06_z, if_neg h, if_pos hb, nI_nat_z (by omega), if_neg q, a1, bd_some_z]
    · show F_X6_from τ (nI i) = _
      unfold F_X6_from
      rw [if_neg h, if_pos hb, nI_nat_z (by omega), k93, if_neg (fun t => q (him.1.mpr t)), x6_from_z (by omega)]
    · refine rel_isl_z g (by rw [ma_2_z]; exact a2) (fun j hj => by rw [ma_ne_z _ _ (by omega)]; exact a3 j (by omega)) (n := n) (f := f) (a := a) (c := c) (e := e) (w := w) ?_
      rw [ma_same_z]
      exact (a4.congrR (fun k hk => by rw [cp_lt_z _ _ hk, k92])).congr (fun k hk => ma_ne_z _ _ (by omega))
def kpt_z (R K : Nat → Int32) (i k : Nat) : Nat → Int32 := fun j => if 192 * i ≤ j ∧ j < 192 * i + k then R (j - 192 * i) else K j
theorem kpt_zero_z (R K : Nat → Int32) (i : Nat) : kpt_z R K i 0 = K := by funext j; exact if_neg (by omega)
theorem kpt_upd_z (R K : Nat → Int32) (i k : Nat) : upd (kpt_z R K i k) (192 * i + k) (R k) = kpt_z R K i (k + 1) := by
  funext j; unfold upd kpt_z
  by_cases h : j = 192 * i + k
  · rw [if_pos h, if_pos (by omega), h]; congr 1; omega
  · rw [if_neg h]; by_cases q : 192 * i ≤ j ∧ j < 192 * i + k
    · rw [if_pos q, if_pos (by omega)]
    · rw [if_neg q, if_neg (by omega)]
theorem x6_image_z {σ : Me_} {i : Nat} (hi : i < 2) (kk : Me_ → Option (Int32 × Me_)) : F_X6_image_L19 (nI i) kk FU_ 0 σ = kk (me_arr σ 92 (kpt_z (σ.1 91) (σ.1 92) i 192)) := by
  have L := loop2_z (F_X6_image_L19 (nI i) kk) (fun k => nI k) (fun k => me_arr σ 92 (kpt_z (σ.1 91) (σ.1 92) i k)) (kk (me_arr σ 92 (kpt_z (σ.1 91) (σ.1 92) i 192))) 192 ?_ ?_ FU_ 0 (Nat.zero_le _) (fu_lt_z (by omega))
  · rw [kpt_zero_z, ma_self_z] at L; exact L
  · intro q
    rw [F_X6_image_L19, if_pos (by decide)]
  · intro k q hk
    have e1 : (192 : Int32) * nI i = nI (192 * i) := nI_mul_z 192 i
    have e192 : (192 : Int32) = nI 192 := rfl
    rw [F_X6_image_L19, if_neg (by rw [e192, nI_le_z (by omega) (by omega)]; omega), e1, nI_add_z, if_pos (by rw [nI_inb_z (by omega)]; omega), if_pos (by rw [nI_inb_z (by omega)]; omega), nI_nat_z (by omega), nI_nat_z (by omega)]
    simp only [nm_eq_z, nI_s_z, ms_arr_z, ma_same_z, ma_ma_z, ma_ne_z _ _ (show 91 ≠ 92 by omega)]
    rw [← kpt_upd_z]
theorem vp_b1_z : vp_nar .boolean (1 : Int32) = 1 := by decide
theorem op_image_z {σ : Me_} (g : Rel_z σ) (x : Int32) : ∃ r σ1 σ2, F_X0_image σ x = some (r, σ1) ∧ F_X6_image σ1 x = some (r, σ2) ∧ Rel_z σ2 ∧ σ1.1 71 = im_ (σ.1 71) x ∧ σ2.1 71 = σ1.1 71 := by
  by_cases h : F_X6_in x.toInt64 (0 : Int64) (1 : Int64) = 0
  · have hr := rf_rel_z g (show 0 < 3 by omega)
    refine ⟨-2, rf0_z σ 0, rf6_z (rf0_z σ 0) 0, ?_, ?_, hr.1, ?_, hr.2.2⟩
    · unfold F_X0_image
      rw [in06_z, if_pos h]; rfl
    · unfold F_X6_image
      rw [if_pos h]; rfl
    · unfold im_; rw [in06_z, if_pos h]; exact hr.2.1
  obtain ⟨i, _, hi, ei⟩ := in_oka_z (a := 0) (b := 1) (by decide) (by decide) h
  subst ei
  have hb : inb_ (nI i) 2 = true := by rw [nI_inb_z (by omega)]; omega
  obtain ⟨n, f, a, c, e, w, z⟩ := g.fu
  -- the memory with an image there
  have hst : ∃ σ0, σ0.2 = σ.2 ∧ (∀ j, j ≠ 71 → (j < 110 + 40 * i ∨ 110 + 40 * i + 35 ≤ j) → σ0.1 j = σ.1 j) ∧ σ0.1 71 = im_ (σ.1 71) (nI i) ∧ σ0.1 71 i ≠ 0 ∧ (∀ j, j ≠ i → σ0.1 71 j = σ.1 71 j) ∧ F_X0_image σ (nI i) = Option.bind (F_X1_takes σ0 (110 + 40 * i) 1) fun σ_1 => some ((1 : Int32), σ_1) := by
    unfold F_X0_image im_
    rw [in06_z, if_neg h, if_neg h, if_pos hb, nI_nat_z (by omega)]
    by_cases q : σ.1 71 i = 0
    · rw [if_pos q, if_pos q]
      have n71 : (nb_ σ (110 + 40 * i)).1 71 = σ.1 71 := if_neg (by omega)
      refine ⟨me_set (nb_ σ (110 + 40 * i)) 71 i 1, rfl, ?_, ?_, ?_, ?_, rfl⟩
      · intro j h1 h2; rw [ms_ne_z _ _ _ h1]; exact if_neg (by omega)
      · rw [ms_same_z, n71]
      · rw [ms_same_z, upd_same_z]; decide
      · intro j hj; rw [ms_same_z, upd_ne_z _ _ hj, n71]
    · rw [if_neg q, if_neg q]
      exact ⟨σ, rfl, fun _ _ _ => rfl, rfl, q, fun _ _ => rfl, rfl⟩
  obtain ⟨σ0, b1, b2, b3, b4, b5, b6⟩ := hst
  have z0 : Fu_z σ0 1 (σ.1 91) n f a c e w := z.congr (fun k hk => b2 _ (by omega) (by omega))
  obtain ⟨τ, a1, a2, a3, a4⟩ := x1_takes_z (p := 110 + 40 * i) (by omega) z0
  have k91 : τ.1 91 = σ.1 91 := by rw [a3 91 (by omega), b2 91 (by omega) (by omega)]
  have k92 : τ.1 92 = σ.1 92 := by rw [a3 92 (by omega), b2 92 (by omega) (by omega)]
  have k71 : τ.1 71 = σ0.1 71 := a3 71 (by omega)
  have ko : ∀ j, j < 110 → j ≠ 71 → τ.1 j = σ.1 j := fun j h1 h2 => by rw [a3 j (by omega), b2 j h2 (by omega)]
  generalize hs2 : me_set (me_arr τ 92 (kpt_z (σ.1 91) (σ.1 92) i 192)) 93 i 1 = σ2
  have so : ∀ j, j ≠ 92 → j ≠ 93 → σ2.1 j = τ.1 j := fun j h1 h2 => by rw [← hs2, ms_ne_z _ _ _ h2, ma_ne_z _ _ h1]
  have s92 : σ2.1 92 = kpt_z (σ.1 91) (σ.1 92) i 192 := by rw [← hs2, ms_ne_z _ _ _ (by omega), ma_same_z]
  have s93 : σ2.1 93 = upd (σ.1 93) i 1 := by rw [← hs2, ms_same_z, ma_ne_z _ _ (by omega), ko 93 (by omega) (by omega)]
  refine ⟨1, τ, σ2, ?_, ?_, ?_, by rw [k71, b3], so 71 (by omega) (by omega)⟩
  · rw [b6, a1, bd_some_z]
  · unfold F_X6_image
    rw [if_neg h, nm_eq_z, x6_image_z (by omega), k91, k92, if_pos hb, nI_nat_z (by omega), vp_b1_z, nm_eq_z, hs2]
  · have r := g.re
    refine ⟨⟨n, f, a, c, e, w, ?_⟩, ?_, ?_, ?_, ?_, ?_⟩
    · rw [so 91 (by omega) (by omega), k91]
      exact z.congr (fun k hk => by rw [so _ (by omega) (by omega), ko _ (by omega) (by omega)])
    · rw [so 0 (by omega) (by omega), so 90 (by omega) (by omega), so 75 (by omega) (by omega), so 100 (by omega) (by omega), ko 0 (by omega) (by omega), ko 90 (by omega) (by omega), ko 75 (by omega) (by omega), ko 100 (by omega) (by omega)]; exact r.tx
    · rw [so 76 (by omega) (by omega), so 94 (by omega) (by omega), ko 76 (by omega) (by omega), ko 94 (by omega) (by omega)]; exact r.rf
    · rw [← hs2, ms_2_z, ma_2_z, a2, b1]; exact r.ab
    · rw [← hs2, ms_2_z, ma_2_z, a2, b1]; exact r.be
    · intro j hj
      rw [so 71 (by omega) (by omega), k71, s93]
      by_cases q : j = i
      · subst q
        rw [upd_same_z]
        refine ⟨⟨fun t => absurd t b4, fun t => absurd t (by decide)⟩, fun _ => ⟨n, f, a, c, e, w, ?_⟩⟩
        refine (a4.congrR (fun k hk => ?_)).congr (fun k hk => so _ (by omega) (by omega))
        rw [s92]; unfold kpt_z; rw [if_pos (by omega), Nat.add_sub_cancel_left]
      · rw [upd_ne_z _ _ q, b5 j q]
        refine ⟨(r.im j hj).1, fun t => ?_⟩
        obtain ⟨n, f, a, c, e, w, z⟩ := (r.im j hj).2 t
        refine ⟨n, f, a, c, e, w, (z.congrR (fun k hk => ?_)).congr (fun k hk => ?_)⟩
        · rw [s92]; unfold kpt_z; rw [if_neg (by omega)]
        · rw [so _ (by omega) (by omega), a3 _ (by omega), b2 _ (by omega) (by omega)]
