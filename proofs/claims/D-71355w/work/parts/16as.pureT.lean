set_option maxRecDepth 100000
set_option linter.unusedSimpArgs false
set_option linter.unusedVariables false

/-! PURE T: is, kinds, look, ask -/
theorem Vs_1_z : Vs_z 1 = F_X6_needsAs := if_neg (by decide)
theorem Vs_0_z : Vs_z 0 = F_X6_likedAs := if_pos rfl
theorem x6_kship_z {σ : Me_} {R : Nat → Int32} {u c : Nat} (hR : σ.1 91 = R) (r3 : R 3 = nI c) (hc : c ≤ 6) : F_X6_kindsOfShip σ (nI u) = some (nI (ksb_z (fun kd => ntk_z F_X6_needsAs R 56 u kd c) 6)) := by
  unfold F_X6_kindsOfShip
  have e : (56 : Int32) = nI 56 := rfl
  rw [hR, r3, e, x6_kby_z hR (by omega) hc, bd_some_z, Vs_1_z]
theorem x6_kman_z {σ : Me_} {R : Nat → Int32} {u c : Nat} (hR : σ.1 91 = R) (r4 : R 4 = nI c) (hc : c ≤ 6) : F_X6_kindsOfMan σ (nI u) = some (nI (ksb_z (fun kd => ntk_z F_X6_likedAs R 80 u kd c) 6)) := by
  unfold F_X6_kindsOfMan
  have e : (80 : Int32) = nI 80 := rfl
  rw [hR, r4, e, x6_kby_z hR (by omega) hc, bd_some_z, Vs_0_z]
theorem op_is_z {σ : Me_} (g : Rel_z σ) (x : Int32) : Op_z σ (fun σ => F_X0_is σ x) (fun σ => F_X6_is σ x) := by
  obtain ⟨n, f, a, c, e, w, z⟩ := g.fu; have hn8 := z.iv.n8; have hf3 := z.iv.f3; have ha5 := z.a5; have hc6 := z.c6; have he6 := z.e6; have hw8 := z.w8; have i4 := z.sr.e4; have i1 := z.sr.e1; have t0 := z.iv.t0; have t1 := z.iv.t1; have r2 := z.r2; have r3 := z.r3; have r4 := z.r4; have r5 := z.r5; have q2 := z.q2; have q3 := z.q3; have q4 := z.q4; have q5 := z.q5
  by_cases h : F_X6_in x.toInt64 (0 : Int64) ((nI f - 1 : Int32).toInt64) = 0
  · refine op_rf_z g 0 (by omega) (r := -2) ?_ ?_
    · show F_X0_is σ x = _
      unfold F_X0_is
      simp only [in06_z, in_and_z, i_z1_z, x0_bad_z, x0_no_z, x0_full_z, x0_badAsk_z, x6_bad_z, x6_no_z, x6_full_z, bi_some_z, bd_some_z, nm_eq_z, F_X0_isKind, F_X6_isKind, F_X0_isSkill, F_X6_isSkill, F_X0_isFar, F_X6_isFar, F_X0_isLong, F_X0_isShip, F_X6_isShip, F_X0_isMan, F_X6_isMan, F_X6_many, rf0_ne_z _ _ (show 91 ≠ 76 by omega), rf0_ne_z _ _ (show 90 ≠ 76 by omega), i1, h, if_true]
    · show F_X6_is _ x = _
      unfold F_X6_is
      simp only [in06_z, in_and_z, i_z1_z, x0_bad_z, x0_no_z, x0_full_z, x0_badAsk_z, x6_bad_z, x6_no_z, x6_full_z, bi_some_z, bd_some_z, nm_eq_z, F_X0_isKind, F_X6_isKind, F_X0_isSkill, F_X6_isSkill, F_X0_isFar, F_X6_isFar, F_X0_isLong, F_X0_isShip, F_X6_isShip, F_X0_isMan, F_X6_isMan, F_X6_many, rf0_ne_z _ _ (show 91 ≠ 76 by omega), rf0_ne_z _ _ (show 90 ≠ 76 by omega), t1, h, if_true]
  obtain ⟨u, hu, eu⟩ := in_okn_z (by omega) h
  subst eu
  refine op_ro_z g (r := nI (ksb_z (fun kd => ntk_z F_X6_needsAs (σ.1 91) 56 u kd c) 6)) (σ1 := σ) (σ2 := σ) ?_ ?_ (Same_z.refl _) (Same_z.refl _)
  · show F_X0_is σ (nI u) = _
    unfold F_X0_is
    simp only [in06_z, in_and_z, F_X0_isShip, i1, h, if_false, x0_sails_z z, bd_some_z]
  · show F_X6_is σ (nI u) = _
    unfold F_X6_is
    rw [x6_kship_z rfl r3 hc6]
    simp only [in_and_z, F_X6_isShip, t1, h, if_false, bd_some_z]
theorem op_kinds_z {σ : Me_} (g : Rel_z σ) (x : Int32) : Op_z σ (fun σ => F_X0_kinds σ x) (fun σ => F_X6_kinds σ x) := by
  obtain ⟨n, f, a, c, e, w, z⟩ := g.fu; have hn8 := z.iv.n8; have hf3 := z.iv.f3; have ha5 := z.a5; have hc6 := z.c6; have he6 := z.e6; have hw8 := z.w8; have i4 := z.sr.e4; have i1 := z.sr.e1; have t0 := z.iv.t0; have t1 := z.iv.t1; have r2 := z.r2; have r3 := z.r3; have r4 := z.r4; have r5 := z.r5; have q2 := z.q2; have q3 := z.q3; have q4 := z.q4; have q5 := z.q5
  by_cases h : F_X6_in x.toInt64 (0 : Int64) ((nI n - 1 : Int32).toInt64) = 0
  · refine op_rf_z g 0 (by omega) (r := -2) ?_ ?_
    · show F_X0_kinds σ x = _
      unfold F_X0_kinds
      simp only [in06_z, in_and_z, i_z1_z, x0_bad_z, x0_no_z, x0_full_z, x0_badAsk_z, x6_bad_z, x6_no_z, x6_full_z, bi_some_z, bd_some_z, nm_eq_z, F_X0_isKind, F_X6_isKind, F_X0_isSkill, F_X6_isSkill, F_X0_isFar, F_X6_isFar, F_X0_isLong, F_X0_isShip, F_X6_isShip, F_X0_isMan, F_X6_isMan, F_X6_many, rf0_ne_z _ _ (show 91 ≠ 76 by omega), rf0_ne_z _ _ (show 90 ≠ 76 by omega), i4, h, if_true]
    · show F_X6_kinds _ x = _
      unfold F_X6_kinds
      simp only [in06_z, in_and_z, i_z1_z, x0_bad_z, x0_no_z, x0_full_z, x0_badAsk_z, x6_bad_z, x6_no_z, x6_full_z, bi_some_z, bd_some_z, nm_eq_z, F_X0_isKind, F_X6_isKind, F_X0_isSkill, F_X6_isSkill, F_X0_isFar, F_X6_isFar, F_X0_isLong, F_X0_isShip, F_X6_isShip, F_X0_isMan, F_X6_isMan, F_X6_many, rf0_ne_z _ _ (show 91 ≠ 76 by omega), rf0_ne_z _ _ (show 90 ≠ 76 by omega), t0, h, if_true]
  obtain ⟨u, hu, eu⟩ := in_okn_z (by omega) h
  subst eu
  refine op_ro_z g (r := nI (ksb_z (fun kd => ntk_z F_X6_likedAs (σ.1 91) 80 u kd e) 6)) (σ1 := σ) (σ2 := σ) ?_ ?_ (Same_z.refl _) (Same_z.refl _)
  · show F_X0_kinds σ (nI u) = _
    unfold F_X0_kinds
    simp only [in06_z, in_and_z, F_X0_isMan, i4, h, if_false, x0_beach_z z, bd_some_z]
  · show F_X6_kinds σ (nI u) = _
    unfold F_X6_kinds
    rw [x6_kman_z rfl r4 he6]
    simp only [in_and_z, F_X6_isMan, F_X6_many, t0, h, if_false, bd_some_z]
/-- what all kinds tell -/
theorem x6_look54_z (σ : Me_) (d c : Int32) (kk : Me_ → Option (Int32 × Me_)) : F_X6_look_L54 d c kk FU_ 0 σ = kk (me_arr σ 99 (cp_ (fun i => F_X6_needsAs (nI i) d c) (σ.1 99) 6)) := by
  have L := loop2_z (F_X6_look_L54 d c kk) (fun k => nI k) (fun k => me_arr σ 99 (cp_ (fun i => F_X6_needsAs (nI i) d c) (σ.1 99) k)) (kk (me_arr σ 99 (cp_ (fun i => F_X6_needsAs (nI i) d c) (σ.1 99) 6))) 6 ?_ ?_ FU_ 0 (Nat.zero_le _) (fu_lt_z (by omega))
  · rw [cp_zero_z, ma_self_z] at L; exact L
  · intro q
    rw [F_X6_look_L54, if_pos (by decide)]
  · intro k q hk
    have e6' : (6 : Int32) = nI 6 := rfl
    rw [F_X6_look_L54, e6', if_neg (by rw [nI_le_z (by omega) (by omega)]; omega), if_pos (by rw [nI_inb_z (by omega)]; omega), nI_nat_z (by omega)]
    simp only [nm_eq_z, nI_s_z, ms_arr_z, ma_same_z, ma_ma_z]
    rw [← cp_upd_z]
def vLook_z (x : Nat) : Nat → Option Int32 := fun code => if code % 10 ≤ 8 then some (nI (tpk_z x (fun i => F_X6_needsAs (nI i) (nI (code / 10)) (nI (code % 10))) 6)) else none
theorem tpk_congr_z {x : Nat} {v v' : Nat → Int32} (h : ∀ i, i < 6 → v i = v' i) : tpk_z x v 6 = tpk_z x v' 6 := by
  have ha : ∀ a, a < 6 → ∀ b, b ≤ 6 → alk_z x v a b = alk_z x v' a b := by
    intro a ha b
    induction b with
    | zero => intro _; rfl
    | succ b ih => intro hb; rw [alk_z, alk_z, ih (by omega), h a ha, h b (by omega)]
  have : ∀ a, a ≤ 6 → tpk_z x v a = tpk_z x v' a := by
    intro a
    induction a with
    | zero => intro _; rfl
    | succ a ih => intro hb; rw [tpk_z, tpk_z, ih (by omega), ha a (by omega) 6 (by omega)]
  exact this 6 (by omega)
theorem x6_look44_z {σ : Me_} {x d : Nat} (hx : x < 64) (hd : d < 31) (hd1 : 1 ≤ d) (kk : Int32 → Int32 → Me_ → Option (Int32 × Me_)) : ∃ G, F_X6_look_L44 (nI x) (nI d) kk FU_ (spc_z (vLook_z x) 10 (10 * (d - 1))).1 (spc_z (vLook_z x) 10 (10 * (d - 1))).2 0 σ = kk (spc_z (vLook_z x) 10 (10 * (d - 1) + 9)).1 (spc_z (vLook_z x) 10 (10 * (d - 1) + 9)).2 (me_arr σ 99 G) := by
  have L := loopP_z (fun q (s : Int32 × Int32 × Int32 × Me_) => F_X6_look_L44 (nI x) (nI d) kk q s.1 s.2.1 s.2.2.1 s.2.2.2) (fun k s => ∃ G, s = ((spc_z (vLook_z x) 10 (10 * (d - 1) + k)).1, (spc_z (vLook_z x) 10 (10 * (d - 1) + k)).2, nI k, me_arr σ 99 G)) 9 (fun s => kk s.1 s.2.1 s.2.2.2) ?_ ?_ FU_ 0 ((spc_z (vLook_z x) 10 (10 * (d - 1))).1, (spc_z (vLook_z x) 10 (10 * (d - 1))).2, nI 0, σ) (Nat.zero_le _) (fu_lt_z (by omega)) ⟨σ.1 99, by rw [ma_self_z]; rfl⟩
  · obtain ⟨s', ⟨G, e⟩, es⟩ := L
    refine ⟨G, ?_⟩
    rw [e] at es
    exact es
  · intro q s ⟨G, e⟩
    subst e
    show F_X6_look_L44 (nI x) (nI d) kk (q + 1) _ _ (nI 9) _ = _
    rw [F_X6_look_L44, if_pos (by decide)]
  · intro k q s hk ⟨G, e⟩
    subst e
    have e9 : (9 : Int32) = nI 9 := rfl
    have e10 : (10 : Int32) * nI d = nI (10 * d) := nI_mul_z 10 d
    have hval : vLook_z x (10 + (10 * (d - 1) + k)) = some (nI (tpk_z x (fun i => F_X6_needsAs (nI i) (nI d) (nI k)) 6)) := by
      unfold vLook_z
      rw [show (10 + (10 * (d - 1) + k)) % 10 = k by omega, show (10 + (10 * (d - 1) + k)) / 10 = d by omega, if_pos (by omega)]
    obtain ⟨s1, _, s3⟩ := spc_1_z hval
    refine ⟨_, ⟨cp_ (fun i => F_X6_needsAs (nI i) (nI d) (nI k)) G 6, rfl⟩, ?_⟩
    show F_X6_look_L44 (nI x) (nI d) kk (q + 1) (spc_z (vLook_z x) 10 (10 * (d - 1) + k)).1 (spc_z (vLook_z x) 10 (10 * (d - 1) + k)).2 (nI k) (me_arr σ 99 G) = F_X6_look_L44 (nI x) (nI d) kk q (spc_z (vLook_z x) 10 (10 * (d - 1) + (k + 1))).1 (spc_z (vLook_z x) 10 (10 * (d - 1) + (k + 1))).2 (nI (k + 1)) (me_arr σ 99 (cp_ (fun i => F_X6_needsAs (nI i) (nI d) (nI k)) G 6))
    rw [F_X6_look_L44, e9, if_neg (by rw [nI_le_z (by omega) (by omega)]; omega), nm_eq_z, x6_look54_z, ma_same_z, ma_ma_z, x6_alike_z hx (v := fun i => F_X6_needsAs (nI i) (nI d) (nI k)) (fun i hi => by rw [ma_same_z]; exact if_pos hi), bd_some_z]
    simp only [nm_eq_z, nI_s_z, e10, nI_add_z]
    rw [← Nat.add_assoc, s1, s3, show 10 + (10 * (d - 1) + k) = 10 * d + k by omega]
theorem x6_look30_z {σ : Me_} {x : Nat} (hx : x < 64) (hx0 : x ≠ 0) : ∃ G, F_X6_look_L30 (nI x) FU_ (-1) 1000000 1 σ = some ((spc_z (vLook_z x) 10 300).1, me_arr σ 99 G) := by
  have hnz : ¬ nI x ≤ 0 := by rw [nI_lit_z, nI_le_z (by omega) (by omega)]; omega
  have L := loopP_z (fun q (s : Int32 × Int32 × Int32 × Me_) => F_X6_look_L30 (nI x) q s.1 s.2.1 s.2.2.1 s.2.2.2) (fun k s => ∃ G, s = ((spc_z (vLook_z x) 10 (10 * k)).1, (spc_z (vLook_z x) 10 (10 * k)).2, nI (k + 1), me_arr σ 99 G)) 30 (fun s => some (s.1, s.2.2.2)) ?_ ?_ FU_ 0 (-1, 1000000, nI 1, σ) (Nat.zero_le _) (fu_lt_z (by omega)) ⟨σ.1 99, by rw [ma_self_z]; rfl⟩
  · obtain ⟨s', ⟨G, e⟩, es⟩ := L
    refine ⟨G, ?_⟩
    rw [e] at es
    exact es
  · intro q s ⟨G, e⟩
    subst e
    show F_X6_look_L30 (nI x) (q + 1) _ _ (nI (30 + 1)) _ = _
    rw [F_X6_look_L30, if_pos (by decide), nm_eq_z, if_pos rfl]
  · intro k q s hk ⟨G, e⟩
    subst e
    have e30 : (30 : Int32) = nI 30 := rfl
    obtain ⟨G', eG⟩ := x6_look44_z (σ := me_arr σ 99 G) hx (show k + 1 < 31 by omega) (by omega) (fun (x3_1 : Int32) (x4_1 : Int32) (σ_2 : Me_) => nm_ (α := Int32) (nI (k + 1) + (1 : Int32)) fun x5_1 => F_X6_look_L30 (nI x) q x3_1 x4_1 x5_1 σ_2)
    rw [Nat.add_sub_cancel] at eG
    refine ⟨_, ⟨G', rfl⟩, ?_⟩
    show F_X6_look_L30 (nI x) (q + 1) (spc_z (vLook_z x) 10 (10 * k)).1 (spc_z (vLook_z x) 10 (10 * k)).2 (nI (k + 1)) (me_arr σ 99 G) = F_X6_look_L30 (nI x) q (spc_z (vLook_z x) 10 (10 * (k + 1))).1 (spc_z (vLook_z x) 10 (10 * (k + 1))).2 (nI (k + 1 + 1)) (me_arr σ 99 G')
    rw [F_X6_look_L30, e30, if_neg (by rw [nI_lt_z (by omega) (by omega)]; omega), if_neg hnz, nm_eq_z, if_neg (by decide), nm_eq_z, eG, nm_eq_z, nI_s_z, ma_ma_z]
    have : spc_z (vLook_z x) 10 (10 * (k + 1)) = spc_z (vLook_z x) 10 (10 * k + 9) := by
      rw [show 10 * (k + 1) = 10 * k + 9 + 1 by omega]
      exact spc_none_z (by unfold vLook_z; rw [if_neg (by omega)])
    rw [this]
theorem op_look_z {σ : Me_} (g : Rel_z σ) (x : Int32) : Op_z σ (fun σ => F_X0_look σ x) (fun σ => F_X6_look σ x) := by
  obtain ⟨n, f, a, c, e, w, z⟩ := g.fu; have hn8 := z.iv.n8; have hf3 := z.iv.f3; have ha5 := z.a5; have hc6 := z.c6; have he6 := z.e6; have hw8 := z.w8; have i4 := z.sr.e4; have i1 := z.sr.e1; have t0 := z.iv.t0; have t1 := z.iv.t1; have r2 := z.r2; have r3 := z.r3; have r4 := z.r4; have r5 := z.r5; have q2 := z.q2; have q3 := z.q3; have q4 := z.q4; have q5 := z.q5
  by_cases h : F_X6_in x.toInt64 (0 : Int64) ((nI f - 1 : Int32).toInt64) = 0
  · refine op_rf_z g 0 (by omega) (r := -2) ?_ ?_
    · show F_X0_look σ x = _
      unfold F_X0_look
      simp only [in06_z, in_and_z, i_z1_z, x0_bad_z, x0_no_z, x0_full_z, x0_badAsk_z, x6_bad_z, x6_no_z, x6_full_z, bi_some_z, bd_some_z, nm_eq_z, F_X0_isKind, F_X6_isKind, F_X0_isSkill, F_X6_isSkill, F_X0_isFar, F_X6_isFar, F_X0_isLong, F_X0_isShip, F_X6_isShip, F_X0_isMan, F_X6_isMan, F_X6_many, rf0_ne_z _ _ (show 91 ≠ 76 by omega), rf0_ne_z _ _ (show 90 ≠ 76 by omega), i1, h, if_true]
    · show F_X6_look _ x = _
      unfold F_X6_look
      simp only [in06_z, in_and_z, i_z1_z, x0_bad_z, x0_no_z, x0_full_z, x0_badAsk_z, x6_bad_z, x6_no_z, x6_full_z, bi_some_z, bd_some_z, nm_eq_z, F_X0_isKind, F_X6_isKind, F_X0_isSkill, F_X6_isSkill, F_X0_isFar, F_X6_isFar, F_X0_isLong, F_X0_isShip, F_X6_isShip, F_X0_isMan, F_X6_isMan, F_X6_many, rf0_ne_z _ _ (show 91 ≠ 76 by omega), rf0_ne_z _ _ (show 90 ≠ 76 by omega), t1, h, if_true]
  obtain ⟨u, hu, eu⟩ := in_okn_z (by omega) h
  subst eu
  have hx := ksb_lt_z (fun kd => ntk_z F_X6_needsAs (σ.1 91) 56 u kd c) 6
  have hS0 := x0_sails_z (u := u) z
  have hS6 := x6_kship_z (σ := σ) (u := u) rfl r3 hc6
  generalize ksb_z (fun kd => ntk_z F_X6_needsAs (σ.1 91) 56 u kd c) 6 = X at *
  obtain ⟨Q, hQ⟩ : ∃ Q, FU_ = Q + 1 := ⟨99999, rfl⟩
  by_cases hX : X = 0
  · subst hX
    refine op_ro_z g (r := -1) (σ1 := σ) (σ2 := σ) ?_ ?_ (Same_z.refl _) (Same_z.refl _)
    · show F_X0_look σ (nI u) = _
      unfold F_X0_look
      simp only [in06_z, in_and_z, F_X0_isShip, i1, h, if_false, hS0, bd_some_z]
      rw [hQ, F_X0_look_L29, if_neg (by decide), if_pos (by decide)]
    · show F_X6_look σ (nI u) = _
      unfold F_X6_look
      rw [hS6]
      simp only [in_and_z, F_X6_isShip, t1, h, if_false, bd_some_z]
      rw [hQ, F_X6_look_L30, if_neg (by decide), if_pos (by decide), nm_eq_z, if_pos rfl]
  · obtain ⟨G, eG⟩ := x6_look30_z (σ := σ) (show X < 64 from hx) hX
    have hskip : spc_z (vLook_z X) 10 300 = spc_z (vLook_z X) 10 299 := spc_none_z (by unfold vLook_z; rw [if_neg (by decide)])
    refine op_ro_z g (r := (spc_z (vLook_z X) 10 299).1) (σ1 := σ) (σ2 := me_arr σ 99 G) ?_ ?_ (Same_z.refl _) ((Same_z.refl _).arr _ (by omega))
    · show F_X0_look σ (nI u) = _
      unfold F_X0_look
      simp only [in06_z, in_and_z, F_X0_isShip, i1, h, if_false, hS0, bd_some_z]
      have hnz : ¬ nI X = 0 := by rw [nI_lit_z, nI_inj_z (by omega) (by omega)]; exact hX
      refine loop3_z (F_X0_look_L29 σ (nI X)) (fun k => (spc_z (vLook_z X) 10 k).1) (fun k => (spc_z (vLook_z X) 10 k).2) (fun k => nI (10 + k)) _ 299 ?_ ?_ FU_ 0 (Nat.zero_le _) (fu_lt_z (by omega))
      · intro q
        rw [F_X0_look_L29, if_pos (by decide)]
      · intro k q hk
        have e309 : (309 : Int32) = nI 309 := rfl
        have e8 : (8 : Int32) = nI 8 := rfl
        have e10 : (10 : Int32) = nI 10 := rfl
        obtain ⟨d1, d2⟩ := nI_dm_z (c := 10 + k) (B := 10) (by omega) (by omega) (by omega)
        have hdl : (10 + k) % 10 < 10 := Nat.mod_lt _ (by omega)
        rw [F_X0_look_L29, e309, if_neg (by rw [nI_le_z (by omega) (by omega)]; omega), if_neg hnz]
        simp only [nm_eq_z, nI_s_z]
        rw [e10, d2, e8]
        have hlt : nI 8 < nI ((10 + k) % 10) ↔ 8 < (10 + k) % 10 := nI_lt_z (by omega) (by omega)
        by_cases q1 : 8 < (10 + k) % 10
        · have hval : vLook_z X (10 + k) = none := by unfold vLook_z; rw [if_neg (by omega)]
          obtain ⟨s1, s2⟩ := spc_0_z hval
          rw [if_pos (hlt.mpr q1), s1, s2]; rfl
        · have hval : vLook_z X (10 + k) = some (nI (tpk_z X (fun i => F_X6_needsAs (nI i) (nI ((10 + k) / 10)) (nI ((10 + k) % 10))) 6)) := by unfold vLook_z; rw [if_pos (by omega)]
          obtain ⟨s1, s2, _⟩ := spc_1_z hval
          rw [if_neg (fun t => q1 (hlt.mp t)), x0_alike_z (v := fun i => F_X6_needsAs (nI i) (nI ((10 + k) / 10)) (nI ((10 + k) % 10))) hx (fun i hi => by rw [e10, d2, d1]; exact nd_eq_z i hi _ (by omega) _ (by omega)), bd_some_z, s1, s2]; rfl
    · show F_X6_look σ (nI u) = _
      unfold F_X6_look
      rw [hS6]
      simp only [in_and_z, F_X6_isShip, t1, h, if_false, bd_some_z]
      rw [eG, hskip]
/-! ask -/
theorem x6_ask44_z (σ : Me_) {m : Nat} (hm : m < 8) (c : Int32) (kk : Me_ → Option (Int32 × Me_)) : F_X6_ask_L44 (nI m) c kk FU_ 0 σ = kk (me_arr σ 99 (cp_ (fun i => F_X6_likedAs (nI i) (σ.1 91 (28 + m)) c) (σ.1 99) 6)) := by
  have L := loop2_z (F_X6_ask_L44 (nI m) c kk) (fun k => nI k) (fun k => me_arr σ 99 (cp_ (fun i => F_X6_likedAs (nI i) (σ.1 91 (28 + m)) c) (σ.1 99) k)) (kk (me_arr σ 99 (cp_ (fun i => F_X6_likedAs (nI i) (σ.1 91 (28 + m)) c) (σ.1 99) 6))) 6 ?_ ?_ FU_ 0 (Nat.zero_le _) (fu_lt_z (by omega))
  · rw [cp_zero_z, ma_self_z] at L; exact L
  · intro q
    rw [F_X6_ask_L44, if_pos (by decide)]
  · intro k q hk
    have e6' : (6 : Int32) = nI 6 := rfl
    have e28 : (28 : Int32) + nI m = nI (28 + m) := nI_add_z 28 m
    rw [F_X6_ask_L44, e6', if_neg (by rw [nI_le_z (by omega) (by omega)]; omega), e28, if_pos (by rw [nI_inb_z (by omega)]; omega), if_pos (by rw [nI_inb_z (by omega)]; omega), nI_nat_z (by omega), nI_nat_z (by omega)]
    simp only [nm_eq_z, nI_s_z, ms_arr_z, ma_same_z, ma_ma_z, ma_ne_z _ _ (show 91 ≠ 99 by omega)]
    rw [← cp_upd_z]
def vAsk_z (x : Nat) (s : Int32) : Nat → Option Int32 := fun c => some (nI (tpk_z x (fun i => F_X6_likedAs (nI i) s (nI c)) 6))
theorem x6_ask30_z {σ : Me_} {x m : Nat} (hx : x < 64) (hx0 : x ≠ 0) (hm : m < 8) : ∃ G, F_X6_ask_L30 (nI m) (nI x) FU_ (-1) 1000000 0 σ = some ((spc_z (vAsk_z x (σ.1 91 (28 + m))) 0 10).1, me_arr σ 99 G) := by
  have hnz : ¬ nI x ≤ 0 := by rw [nI_lit_z, nI_le_z (by omega) (by omega)]; omega
  generalize hs : σ.1 91 (28 + m) = s
  have L := loopP_z (fun q (w : Int32 × Int32 × Int32 × Me_) => F_X6_ask_L30 (nI m) (nI x) q w.1 w.2.1 w.2.2.1 w.2.2.2) (fun k w => ∃ G, w = ((spc_z (vAsk_z x s) 0 k).1, (spc_z (vAsk_z x s) 0 k).2, nI k, me_arr σ 99 G)) 10 (fun w => some (w.1, w.2.2.2)) ?_ ?_ FU_ 0 (-1, 1000000, nI 0, σ) (Nat.zero_le _) (fu_lt_z (by omega)) ⟨σ.1 99, by rw [ma_self_z]; rfl⟩
  · obtain ⟨s', ⟨G, e⟩, es⟩ := L
    refine ⟨G, ?_⟩
    rw [e] at es
    exact es
  · intro q w ⟨G, e⟩
    subst e
    show F_X6_ask_L30 (nI m) (nI x) (q + 1) _ _ (nI 10) _ = _
    rw [F_X6_ask_L30, if_pos (by decide), nm_eq_z, if_pos rfl]
  · intro k q w hk ⟨G, e⟩
    subst e
    have e10 : (10 : Int32) = nI 10 := rfl
    have hval : vAsk_z x s (0 + k) = some (nI (tpk_z x (fun i => F_X6_likedAs (nI i) s (nI k)) 6)) := by unfold vAsk_z; rw [Nat.zero_add]
    obtain ⟨s1, _, s3⟩ := spc_1_z hval
    refine ⟨_, ⟨cp_ (fun i => F_X6_likedAs (nI i) s (nI k)) G 6, rfl⟩, ?_⟩
    show F_X6_ask_L30 (nI m) (nI x) (q + 1) (spc_z (vAsk_z x s) 0 k).1 (spc_z (vAsk_z x s) 0 k).2 (nI k) (me_arr σ 99 G) = F_X6_ask_L30 (nI m) (nI x) q (spc_z (vAsk_z x s) 0 (k + 1)).1 (spc_z (vAsk_z x s) 0 (k + 1)).2 (nI (k + 1)) (me_arr σ 99 (cp_ (fun i => F_X6_likedAs (nI i) s (nI k)) G 6))
    rw [F_X6_ask_L30, e10, if_neg (by rw [nI_le_z (by omega) (by omega)]; omega), if_neg hnz, nm_eq_z, if_neg (by decide), nm_eq_z, x6_ask44_z _ hm, ma_same_z, ma_ma_z, ma_ne_z _ _ (show 91 ≠ 99 by omega), hs, x6_alike_z hx (v := fun i => F_X6_likedAs (nI i) s (nI k)) (fun i hi => by rw [ma_same_z]; exact if_pos hi), bd_some_z]
    simp only [nm_eq_z, nI_s_z]
    rw [s1, s3, Nat.zero_add]
theorem op_ask_z {σ : Me_} (g : Rel_z σ) (x : Int32) : Op_z σ (fun σ => F_X0_ask σ x) (fun σ => F_X6_ask σ x) := by
  obtain ⟨n, f, a, c, e, w, z⟩ := g.fu; have hn8 := z.iv.n8; have hf3 := z.iv.f3; have ha5 := z.a5; have hc6 := z.c6; have he6 := z.e6; have hw8 := z.w8; have i4 := z.sr.e4; have i1 := z.sr.e1; have t0 := z.iv.t0; have t1 := z.iv.t1; have r2 := z.r2; have r3 := z.r3; have r4 := z.r4; have r5 := z.r5; have q2 := z.q2; have q3 := z.q3; have q4 := z.q4; have q5 := z.q5
  by_cases h : F_X6_in x.toInt64 (0 : Int64) ((nI n - 1 : Int32).toInt64) = 0
  · refine op_rf_z g 0 (by omega) (r := -2) ?_ ?_
    · show F_X0_ask σ x = _
      unfold F_X0_ask
      simp only [in06_z, in_and_z, i_z1_z, x0_bad_z, x0_no_z, x0_full_z, x0_badAsk_z, x6_bad_z, x6_no_z, x6_full_z, bi_some_z, bd_some_z, nm_eq_z, F_X0_isKind, F_X6_isKind, F_X0_isSkill, F_X6_isSkill, F_X0_isFar, F_X6_isFar, F_X0_isLong, F_X0_isShip, F_X6_isShip, F_X0_isMan, F_X6_isMan, F_X6_many, rf0_ne_z _ _ (show 91 ≠ 76 by omega), rf0_ne_z _ _ (show 90 ≠ 76 by omega), i4, h, if_true]
    · show F_X6_ask _ x = _
      unfold F_X6_ask
      simp only [in06_z, in_and_z, i_z1_z, x0_bad_z, x0_no_z, x0_full_z, x0_badAsk_z, x6_bad_z, x6_no_z, x6_full_z, bi_some_z, bd_some_z, nm_eq_z, F_X0_isKind, F_X6_isKind, F_X0_isSkill, F_X6_isSkill, F_X0_isFar, F_X6_isFar, F_X0_isLong, F_X0_isShip, F_X6_isShip, F_X0_isMan, F_X6_isMan, F_X6_many, rf0_ne_z _ _ (show 91 ≠ 76 by omega), rf0_ne_z _ _ (show 90 ≠ 76 by omega), t0, h, if_true]
  obtain ⟨m, hm, em⟩ := in_okn_z (by omega) h
  subst em
  have hx := ksb_lt_z (fun kd => ntk_z F_X6_likedAs (σ.1 91) 80 m kd e) 6
  have hS0 := x0_beach_z (u := m) z
  have hS6 := x6_kman_z (σ := σ) (u := m) rfl r4 he6
  generalize ksb_z (fun kd => ntk_z F_X6_likedAs (σ.1 91) 80 m kd e) 6 = X at *
  obtain ⟨Q, hQ⟩ : ∃ Q, FU_ = Q + 1 := ⟨99999, rfl⟩
  have b1 : inb_ (nI m) 8 = true := by rw [nI_inb_z (by omega)]; omega
  have sk : σ.1 4 m = σ.1 91 (28 + m) := z.sr.sk m hm
  obtain ⟨s, _, hs, es⟩ := z.iv.sk m hm
  by_cases hX : X = 0
  · subst hX
    refine op_ro_z g (r := -1) (σ1 := σ) (σ2 := σ) ?_ ?_ (Same_z.refl _) (Same_z.refl _)
    · show F_X0_ask σ (nI m) = _
      unfold F_X0_ask
      simp only [in06_z, in_and_z, F_X0_isMan, i4, h, if_false, hS0, bd_some_z, b1, if_true, nm_eq_z]
      rw [hQ, F_X0_ask_L39, if_neg (by decide), if_pos (by decide), nm_eq_z, if_pos rfl]
    · show F_X6_ask σ (nI m) = _
      unfold F_X6_ask
      rw [hS6]
      simp only [in_and_z, F_X6_isMan, F_X6_many, t0, h, if_false, bd_some_z]
      rw [hQ, F_X6_ask_L30, if_neg (by decide), if_pos (by decide), nm_eq_z, if_pos rfl]
  · obtain ⟨G, eG⟩ := x6_ask30_z (σ := σ) (m := m) (show X < 64 from hx) hX (by omega)
    refine op_ro_z g (r := (spc_z (vAsk_z X (σ.1 91 (28 + m))) 0 10).1) (σ1 := σ) (σ2 := me_arr σ 99 G) ?_ ?_ (Same_z.refl _) ((Same_z.refl _).arr _ (by omega))
    · show F_X0_ask σ (nI m) = _
      unfold F_X0_ask
      simp only [in06_z, in_and_z, F_X0_isMan, i4, h, if_false, hS0, bd_some_z, b1, if_true, nm_eq_z]
      rw [nI_nat_z (by omega), sk]
      have hnz : ¬ nI X = 0 := by rw [nI_lit_z, nI_inj_z (by omega) (by omega)]; exact hX
      refine loop3_z (F_X0_ask_L39 σ (nI X) (σ.1 91 (28 + m))) (fun k => (spc_z (vAsk_z X (σ.1 91 (28 + m))) 0 k).1) (fun k => (spc_z (vAsk_z X (σ.1 91 (28 + m))) 0 k).2) (fun k => nI k) _ 10 ?_ ?_ FU_ 0 (Nat.zero_le _) (fu_lt_z (by omega))
      · intro q
        rw [F_X0_ask_L39, if_pos (by decide), nm_eq_z, if_pos rfl]
      · intro k q hk
        have e9 : (9 : Int32) = nI 9 := rfl
        have hval : vAsk_z X (σ.1 91 (28 + m)) (0 + k) = some (nI (tpk_z X (fun i => F_X6_likedAs (nI i) (σ.1 91 (28 + m)) (nI k)) 6)) := by unfold vAsk_z; rw [Nat.zero_add]
        obtain ⟨s1, s2, _⟩ := spc_1_z hval
        rw [F_X0_ask_L39, e9, if_neg (by rw [nI_lt_z (by omega) (by omega)]; omega), if_neg hnz, nm_eq_z, if_neg (by decide), nm_eq_z, x0_alikeM_z (v := fun i => F_X6_likedAs (nI i) (σ.1 91 (28 + m)) (nI k)) hx (fun i hi => by rw [es]; exact (lk_eq_z i hi s (by omega) k (by omega)).1)]
        simp only [nm_eq_z, nI_s_z]
        rw [s1, s2, Nat.zero_add]
    · show F_X6_ask σ (nI m) = _
      unfold F_X6_ask
      rw [hS6]
      simp only [in_and_z, F_X6_isMan, F_X6_many, t0, h, if_false, bd_some_z]
      exact eG
