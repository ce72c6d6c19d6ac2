set_option maxRecDepth 100000
set_option linter.unusedSimpArgs false
set_option linter.unusedVariables false

/-! PURE K: calls, boards, undo -/
theorem fu_st_z {σ τ : Me_} {R R' : Nat → Int32} {n f a c e w w' : Nat} (z : Fu_z σ 1 R n f a c e w) (iv' : Iv_z R' n f) (sr' : Sr_z τ 1 (1 + 7) R' n f) (o : ∀ j, 2 ≤ j → j < 36 → j ≠ 9 → j ≠ 10 → τ.1 j = σ.1 j) (o1 : ∀ k, k ≠ 13 → τ.1 1 k = σ.1 1 k) (k5 : τ.1 1 13 = nI w') (oR : ∀ i, i ≠ 5 → (i < 6 ∨ 17 ≤ i) → R' i = R i) (h5 : R' 5 = nI w') (hw : w' ≤ w) : Fu_z τ 1 R' n f a c e w' := by
  have hn8 := z.iv.n8; have hf3 := z.iv.f3; have ha5 := z.a5; have hc6 := z.c6; have he6 := z.e6; have hw8 := z.w8
  refine ⟨iv', sr', ha5, hc6, he6, by omega, ?_, ?_, ?_, h5, ?_, ?_, ?_, k5, ?_, ?_, ?_, ?_, ?_, ?_, ?_, ?_, ?_⟩
  · rw [oR _ (by omega) (by omega)]; exact z.r2
  · rw [oR _ (by omega) (by omega)]; exact z.r3
  · rw [oR _ (by omega) (by omega)]; exact z.r4
  · rw [o1 _ (by omega)]; exact z.q2
  · rw [o1 _ (by omega)]; exact z.q3
  · rw [o1 _ (by omega)]; exact z.q4
  · intro m hm; rw [o _ (by omega) (by omega) (by omega) (by omega), oR _ (by omega) (by omega)]; exact z.se m (by omega)
  · intro m hm; rw [o _ (by omega) (by omega) (by omega) (by omega), oR _ (by omega) (by omega)]; exact z.no m (by omega)
  · intro m hm; rw [o _ (by omega) (by omega) (by omega) (by omega), oR _ (by omega) (by omega)]; exact z.ma m (by omega)
  · intro m hm; rw [oR _ (by omega) (by omega)]; exact z.sv m (by omega)
  · intro m hm; rw [oR _ (by omega) (by omega), oR _ (by omega) (by omega)]; exact z.nv m (by omega)
  · intro m hm; rw [oR _ (by omega) (by omega), oR _ (by omega) (by omega)]; exact z.mv m (by omega)
  · intro j hj m hm; rw [o _ (by omega) (by omega) (by omega) (by omega), oR _ (by omega) (by omega)]; exact z.pa j (by omega) m hm
  · intro j hj m hm; rw [o _ (by omega) (by omega) (by omega) (by omega), oR _ (by omega) (by omega)]; exact z.pc j (by omega) m hm
  · intro j hj m hm hq; rw [oR _ (by omega) (by omega)]; exact z.pz j (by omega) m hm hq
theorem mcl_ne_z (σ : Me_) (s m u j : Nat) (h1 : j ≠ s + 1) (h2 : j ≠ s + 2) : (mcl_z σ s m u).1 j = σ.1 j := by
  unfold mcl_z; rw [ma_ne_z _ _ h2, ma_ne_z _ _ h1]
theorem gcr_ne_z {T : Nat → Int32} {u n i : Nat} (hu : u < 3) (h : i < 6 ∨ 17 ≤ i) (hn : n ≤ 8) : gcr_z T u n i = T i := by
  cases e : lst_z T u n with
  | none => rw [gcr_none_z e]
  | some m =>
    have := (lst_lt_z T u n m e).1
    rw [gcr_some_z e, upd_ne_z _ _ (by omega), upd_ne_z _ _ (by omega)]
theorem Fu_z.call {σ : Me_} {T : Nat → Int32} {n f a c e w u m : Nat} (z : Fu_z σ 1 T n f a c e w) (hu : u < f) (el : lst_z T u n = some m) : Fu_z (mcl_z σ 8 m u) 1 (gcr_z T u n) n f a c e w := by
  have hf3 := z.iv.f3
  have hn8 := z.iv.n8
  exact fu_st_z z (z.iv.gcr_z hu) (Sr_z.gcr_z z.iv z.sr hu el (by omega) (by omega)) (fun j _ _ h1 h2 => mcl_ne_z _ _ _ _ _ (by omega) (by omega)) (fun k _ => by rw [mcl_ne_z _ _ _ _ _ (by omega) (by omega)]) (by rw [mcl_ne_z _ _ _ _ _ (by omega) (by omega)]; exact z.q5) (fun i _ hi => gcr_ne_z (by omega) hi hn8) (by rw [gcr_ne_z (by omega) (by omega) hn8]; exact z.r5) (Nat.le_refl _)
theorem cnt_congr_z {T T' : Nat → Int32} (p : Int32) : ∀ n, (∀ m, m < n → T' (6 + m) = T (6 + m)) → cnt_z T' p n = cnt_z T p n := by
  intro n
  induction n with
  | zero => intro _; rfl
  | succ k ih => intro h; rw [cnt_z, cnt_z, ih (fun m hm => h m (by omega)), h k (by omega)]
theorem svr_lo_z (T : Nat → Int32) (w i : Nat) (h : i < 104) (h5 : i ≠ 5) : svr_z T w i = T i := by
  unfold svr_z
  split
  · rw [upd_ne_z _ _ h5, pst_lo_z _ _ _ _ h, upd_ne_z _ _ h5, shf_lo_z _ _ _ h]
  · rw [upd_ne_z _ _ h5, pst_lo_z _ _ _ _ h]
theorem bst_z_z {T : Nat → Int32} {p : Int32} {n : Nat} (hn : n ≤ 8) : (nI (bst_z T p n) = 0) ↔ cnt_z T p n = 0 := by
  have hb := bst_lt_z T p n
  have : 2 ^ n ≤ 2 ^ 8 := Nat.pow_le_pow_right (by decide) hn
  rw [nI_lit_z, nI_inj_z (by omega) (by omega), bst_zero_z]
theorem cnt_z_z {T : Nat → Int32} {p : Int32} {n : Nat} (hn : n ≤ 8) : (nI (cnt_z T p n) = 0) ↔ cnt_z T p n = 0 := by
  have hb := cnt_le_z T p n
  rw [nI_lit_z, nI_inj_z (by omega) (by omega)]
theorem x0_manned_z {σ : Me_} {b s n f : Nat} {T : Nat → Int32} (h : Iv_z T n f) (g : Sr_z σ 1 8 T n f) (x : Int32) : F_X0_isManned σ x = some (if cnt_z T (x + 1) n = 0 then 0 else 1) := by
  unfold F_X0_isManned
  rw [x1_at_z h g, bd_some_z]
  by_cases q : cnt_z T (x + 1) n = 0
  · rw [if_pos ((bst_z_z h.n8).mpr q), if_pos q]
  · rw [if_neg (fun t => q ((bst_z_z h.n8).mp t)), if_neg q]
theorem op_calls_z {σ : Me_} (g : Rel_z σ) (x : Int32) : Op_z σ (fun σ => F_X0_calls σ x) (fun σ => F_X6_calls σ x) := by
  obtain ⟨n, f, a, c, e, w, z⟩ := g.fu; have hn8 := z.iv.n8; have hf3 := z.iv.f3; have ha5 := z.a5; have hc6 := z.c6; have he6 := z.e6; have hw8 := z.w8; have i4 := z.sr.e4; have i1 := z.sr.e1; have t0 := z.iv.t0; have t1 := z.iv.t1; have r2 := z.r2; have r3 := z.r3; have r4 := z.r4; have r5 := z.r5; have q2 := z.q2; have q3 := z.q3; have q4 := z.q4; have q5 := z.q5
  by_cases h : F_X6_in x.toInt64 (0 : Int64) ((nI f - 1 : Int32).toInt64) = 0
  · refine op_rf_z g 0 (by omega) (r := -2) ?_ ?_
    · show F_X0_calls σ x = _
      unfold F_X0_calls
      simp only [in06_z, in_and_z, i_z1_z, x0_bad_z, x0_no_z, x0_full_z, x0_badAsk_z, x6_bad_z, x6_no_z, x6_full_z, bi_some_z, bd_some_z, nm_eq_z, F_X0_isKind, F_X6_isKind, F_X0_isSkill, F_X6_isSkill, F_X0_isFar, F_X6_isFar, F_X0_isLong, F_X0_isShip, F_X6_isShip, F_X0_isMan, F_X6_isMan, F_X6_many, rf0_ne_z _ _ (show 91 ≠ 76 by omega), rf0_ne_z _ _ (show 90 ≠ 76 by omega), i1, h, if_true]
    · show F_X6_calls _ x = _
      unfold F_X6_calls
      simp only [in06_z, in_and_z, i_z1_z, x0_bad_z, x0_no_z, x0_full_z, x0_badAsk_z, x6_bad_z, x6_no_z, x6_full_z, bi_some_z, bd_some_z, nm_eq_z, F_X0_isKind, F_X6_isKind, F_X0_isSkill, F_X6_isSkill, F_X0_isFar, F_X6_isFar, F_X0_isLong, F_X0_isShip, F_X6_isShip, F_X0_isMan, F_X6_isMan, F_X6_many, rf0_ne_z _ _ (show 91 ≠ 76 by omega), rf0_ne_z _ _ (show 90 ≠ 76 by omega), t1, h, if_true]
  obtain ⟨u, hu, eu⟩ := in_okn_z (by omega) h
  subst eu
  by_cases q : cnt_z (σ.1 91) (nI (u + 1)) n = 0
  · refine op_rf_z g 1 (by omega) (r := -3) ?_ ?_
    · show F_X0_calls σ (nI u) = _
      unfold F_X0_calls
      rw [x0_manned_z (b := 0) (s := 0) z.iv z.sr]
      simp only [in06_z, in_and_z, i_z1_z, x0_bad_z, x0_no_z, x0_full_z, x0_badAsk_z, x6_bad_z, x6_no_z, x6_full_z, bi_some_z, bd_some_z, nm_eq_z, F_X0_isKind, F_X6_isKind, F_X0_isSkill, F_X6_isSkill, F_X0_isFar, F_X6_isFar, F_X0_isLong, F_X0_isShip, F_X6_isShip, F_X0_isMan, F_X6_isMan, F_X6_many, rf0_ne_z _ _ (show 91 ≠ 76 by omega), rf0_ne_z _ _ (show 90 ≠ 76 by omega), nI_s_z, i1, h, if_true, if_false, q]
    · show F_X6_calls _ (nI u) = _
      unfold F_X6_calls
      rw [x6_aboard_z (T := σ.1 91) (rf0_ne_z _ _ (by omega)) z.iv (by omega)]
      simp only [in06_z, in_and_z, i_z1_z, x0_bad_z, x0_no_z, x0_full_z, x0_badAsk_z, x6_bad_z, x6_no_z, x6_full_z, bi_some_z, bd_some_z, nm_eq_z, F_X0_isKind, F_X6_isKind, F_X0_isSkill, F_X6_isSkill, F_X0_isFar, F_X6_isFar, F_X0_isLong, F_X0_isShip, F_X6_isShip, F_X0_isMan, F_X6_isMan, F_X6_many, rf0_ne_z _ _ (show 91 ≠ 76 by omega), rf0_ne_z _ _ (show 90 ≠ 76 by omega), nI_s_z, t1, h, if_true, if_false, q, show nI 0 = 0 from rfl]
  · obtain ⟨σa, ea, a2, ao, za⟩ := x1_rem_z z
    have hcnt : cnt_z (svr_z (σ.1 91) w) (nI (u + 1)) n = cnt_z (σ.1 91) (nI (u + 1)) n := cnt_congr_z _ n (fun m hm => svr_lo_z _ _ _ (by omega) (by omega))
    cases el : lst_z (svr_z (σ.1 91) w) u n with
    | none => exact absurd (hcnt ▸ (lst_none_z _ _ _).mp el) q
    | some m =>
      have a91 : (mcl_z σa 8 m u).1 91 = σ.1 91 := by rw [mcl_ne_z _ _ _ _ _ (by omega) (by omega)]; exact ao 91 (by omega) (by omega)
      have hq : ¬ nI (cnt_z (σ.1 91) (nI (u + 1)) n) = 0 := fun t => q ((cnt_z_z hn8).mp t)
      refine ⟨nI m, mcl_z σa 8 m u, me_arr (mcl_z σa 8 m u) 91 (gcr_z (svr_z (σ.1 91) w) u n), ?_, ?_, ?_, ?_, ma_ne_z _ _ (by omega)⟩
      · show F_X0_calls σ (nI u) = _
        unfold F_X0_calls
        rw [x0_manned_z (b := 0) (s := 0) z.iv z.sr, ea]
        simp only [in06_z, in_and_z, i_z1_z, x0_bad_z, x0_no_z, x0_full_z, x0_badAsk_z, x6_bad_z, x6_no_z, x6_full_z, bi_some_z, bd_some_z, nm_eq_z, F_X0_isKind, F_X6_isKind, F_X0_isSkill, F_X6_isSkill, F_X0_isFar, F_X6_isFar, F_X0_isLong, F_X0_isShip, F_X6_isShip, F_X0_isMan, F_X6_isMan, F_X6_many, rf0_ne_z _ _ (show 91 ≠ 76 by omega), rf0_ne_z _ _ (show 90 ≠ 76 by omega), nI_s_z, i1, h, if_true, if_false, q, x1_calls_z za.iv za.sr hu el, i_10_z]
      · show F_X6_calls (mcl_z σa 8 m u) (nI u) = _
        unfold F_X6_calls
        rw [x6_aboard_z a91 z.iv (by omega), x6_save_z a91 r5 hw8]
        simp only [in_and_z, F_X6_isShip, bd_some_z, bi_some_z, nI_s_z, a91, t1, h, if_false, hq]
        rw [x6_goCall_z (ma_same_z _ _ _) za.iv (by omega) hu, bi_some_z, el, oI_some_z, ma_ma_z]
      · refine rel_isl_z g (by rw [ma_2_z]; exact a2) (fun j hj => by rw [ma_ne_z _ _ (by omega), mcl_ne_z _ _ _ _ _ (by omega) (by omega)]; exact ao j (by omega) (by omega)) (n := n) (f := f) (a := a) (c := c) (e := e) (w := if w = 8 then 8 else w + 1) ?_
        rw [ma_same_z]
        exact (za.call hu el).congr (fun k hk => ma_ne_z _ _ (by omega))
      · rw [mcl_ne_z _ _ _ _ _ (by omega) (by omega)]; exact ao 71 (by omega) (by omega)
theorem i_m1_z (y : Int32) : (y - 1 = -1) ↔ y = 0 := by
  rw [i_sub1_z]; exact Iff.rfl
/-- one is put into a place -/
theorem Fu_z.place {σ : Me_} {T : Nat → Int32} {n f a c e w m p : Nat} (z : Fu_z σ 1 T n f a c e w) (hm : m < n) (hp : p ≤ f) : Fu_z (me_set σ 9 m (nI p - 1)) 1 (upd T (6 + m) (nI p)) n f a c e w := by
  have hf3 := z.iv.f3
  have hn8 := z.iv.n8
  have iv := z.iv
  have sr := z.sr
  refine fu_st_z z ⟨hn8, hf3, ?_, ?_, ?_, ?_, ?_, ?_, ?_, ?_⟩ ⟨?_, ?_, ?_, ?_, ?_, ?_, ?_⟩ (fun j _ _ h1 h2 => ms_ne_z _ _ _ h1) (fun k _ => by rw [ms_ne_z _ _ _ (by omega)]) (by rw [ms_ne_z _ _ _ (by omega)]; exact z.q5) (fun i _ hi => upd_ne_z _ _ (by omega)) (by rw [upd_ne_z _ _ (by omega)]; exact z.r5) (Nat.le_refl _)
  · simp (disch := omega) only [ms_ne_z, ms_same_z, upd_ne_z, upd_same_z]; exact iv.t0
  · simp (disch := omega) only [ms_ne_z, ms_same_z, upd_ne_z, upd_same_z]; exact iv.t1
  · intro k hk; by_cases q : k = m
    · subst q; simp (disch := omega) only [ms_ne_z, ms_same_z, upd_ne_z, upd_same_z]; exact ⟨p, hp, rfl⟩
    · simp (disch := omega) only [ms_ne_z, ms_same_z, upd_ne_z, upd_same_z]; exact iv.pl k hk
  · intro k hk; simp (disch := omega) only [ms_ne_z, ms_same_z, upd_ne_z, upd_same_z]; exact iv.cl k hk
  · intro k hk hq; simp (disch := omega) only [ms_ne_z, ms_same_z, upd_ne_z, upd_same_z]; exact iv.cz k hk hq
  · intro k hk; simp (disch := omega) only [ms_ne_z, ms_same_z, upd_ne_z, upd_same_z]; exact iv.so k hk
  · intro k hk; simp (disch := omega) only [ms_ne_z, ms_same_z, upd_ne_z, upd_same_z]; exact iv.kd k hk
  · intro k hk; simp (disch := omega) only [ms_ne_z, ms_same_z, upd_ne_z, upd_same_z]; exact iv.sk k hk
  · simp (disch := omega) only [ms_ne_z, ms_same_z, upd_ne_z, upd_same_z]; exact sr.e4
  · simp (disch := omega) only [ms_ne_z, ms_same_z, upd_ne_z, upd_same_z]; exact sr.e1
  · intro k hk; rw [show 1 + 7 + 1 = 9 from rfl, ms_same_z]; by_cases q : k = m
    · subst q; simp (disch := omega) only [ms_ne_z, ms_same_z, upd_ne_z, upd_same_z]
    · simp (disch := omega) only [ms_ne_z, ms_same_z, upd_ne_z, upd_same_z]; exact sr.pl k hk
  · intro k hk; simp (disch := omega) only [ms_ne_z, ms_same_z, upd_ne_z, upd_same_z]; exact sr.cl k hk
  · intro k hk; simp (disch := omega) only [ms_ne_z, ms_same_z, upd_ne_z, upd_same_z]; exact sr.so k hk
  · intro k hk; simp (disch := omega) only [ms_ne_z, ms_same_z, upd_ne_z, upd_same_z]; exact sr.kd k hk
  · intro k hk; simp (disch := omega) only [ms_ne_z, ms_same_z, upd_ne_z, upd_same_z]; exact sr.sk k hk
theorem op_boards_z {σ : Me_} (g : Rel_z σ) (x y : Int32) : Op_z σ (fun σ => F_X0_boards σ x y) (fun σ => F_X6_boards σ x y) := by
  obtain ⟨n, f, a, c, e, w, z⟩ := g.fu; have hn8 := z.iv.n8; have hf3 := z.iv.f3; have ha5 := z.a5; have hc6 := z.c6; have he6 := z.e6; have hw8 := z.w8; have i4 := z.sr.e4; have i1 := z.sr.e1; have t0 := z.iv.t0; have t1 := z.iv.t1; have r2 := z.r2; have r3 := z.r3; have r4 := z.r4; have r5 := z.r5; have q2 := z.q2; have q3 := z.q3; have q4 := z.q4; have q5 := z.q5
  by_cases h : F_X6_in x.toInt64 (0 : Int64) ((nI f - 1 : Int32).toInt64) = 0
  · refine op_rf_z g 0 (by omega) (r := -2) ?_ ?_
    · show F_X0_boards σ x y = _
      unfold F_X0_boards
      simp only [in06_z, in_and_z, i_z1_z, x0_bad_z, x0_no_z, x0_full_z, x0_badAsk_z, x6_bad_z, x6_no_z, x6_full_z, bi_some_z, bd_some_z, nm_eq_z, F_X0_isKind, F_X6_isKind, F_X0_isSkill, F_X6_isSkill, F_X0_isFar, F_X6_isFar, F_X0_isLong, F_X0_isShip, F_X6_isShip, F_X0_isMan, F_X6_isMan, F_X6_many, rf0_ne_z _ _ (show 91 ≠ 76 by omega), rf0_ne_z _ _ (show 90 ≠ 76 by omega), i1, h, if_true]
    · show F_X6_boards _ x y = _
      unfold F_X6_boards
      simp only [in06_z, in_and_z, i_z1_z, x0_bad_z, x0_no_z, x0_full_z, x0_badAsk_z, x6_bad_z, x6_no_z, x6_full_z, bi_some_z, bd_some_z, nm_eq_z, F_X0_isKind, F_X6_isKind, F_X0_isSkill, F_X6_isSkill, F_X0_isFar, F_X6_isFar, F_X0_isLong, F_X0_isShip, F_X6_isShip, F_X0_isMan, F_X6_isMan, F_X6_many, rf0_ne_z _ _ (show 91 ≠ 76 by omega), rf0_ne_z _ _ (show 90 ≠ 76 by omega), t1, h, if_true]
  by_cases h' : F_X6_in y.toInt64 (0 : Int64) ((nI n - 1 : Int32).toInt64) = 0
  · refine op_rf_z g 0 (by omega) (r := -2) ?_ ?_
    · show F_X0_boards σ x y = _
      unfold F_X0_boards
      simp only [in06_z, in_and_z, i_z1_z, x0_bad_z, x0_no_z, x0_full_z, x0_badAsk_z, x6_bad_z, x6_no_z, x6_full_z, bi_some_z, bd_some_z, nm_eq_z, F_X0_isKind, F_X6_isKind, F_X0_isSkill, F_X6_isSkill, F_X0_isFar, F_X6_isFar, F_X0_isLong, F_X0_isShip, F_X6_isShip, F_X0_isMan, F_X6_isMan, F_X6_many, rf0_ne_z _ _ (show 91 ≠ 76 by omega), rf0_ne_z _ _ (show 90 ≠ 76 by omega), i1, i4, h, h', if_true, if_false]
    · show F_X6_boards _ x y = _
      unfold F_X6_boards
      simp only [in06_z, in_and_z, i_z1_z, x0_bad_z, x0_no_z, x0_full_z, x0_badAsk_z, x6_bad_z, x6_no_z, x6_full_z, bi_some_z, bd_some_z, nm_eq_z, F_X0_isKind, F_X6_isKind, F_X0_isSkill, F_X6_isSkill, F_X0_isFar, F_X6_isFar, F_X0_isLong, F_X0_isShip, F_X6_isShip, F_X0_isMan, F_X6_isMan, F_X6_many, rf0_ne_z _ _ (show 91 ≠ 76 by omega), rf0_ne_z _ _ (show 90 ≠ 76 by omega), t1, t0, h, h', if_true, if_false]
  obtain ⟨u, hu, eu⟩ := in_okn_z (by omega) h
  obtain ⟨m, hm, em⟩ := in_okn_z (by omega) h'
  subst eu
  subst em
  have b1 : inb_ (nI m) 8 = true := by rw [nI_inb_z (by omega)]; omega
  have b2 : inb_ (nI (6 + m)) 192 = true := by rw [nI_inb_z (by omega)]; omega
  have e6' : (6 : Int32) + nI m = nI (6 + m) := nI_add_z 6 m
  have pl : σ.1 9 m = σ.1 91 (6 + m) - 1 := z.sr.pl m hm
  by_cases q : σ.1 91 (6 + m) = 0
  · obtain ⟨σa, ea, a2, ao, za⟩ := x1_rem_z z
    have a91 : σa.1 91 = σ.1 91 := ao 91 (by omega) (by omega)
    have zb := za.place (m := m) (p := u + 1) hm (by omega)
    have hp : nI (u + 1) - 1 = nI u := by rw [← nI_s_z]; exact i_add1s_z _
    rw [hp] at zb
    generalize hsb : me_set σa 9 m (nI u) = σb at zb
    have b91 : σb.1 91 = σ.1 91 := by rw [← hsb, ms_ne_z _ _ _ (by omega)]; exact a91
    refine ⟨nI (cnt_z (upd (svr_z (σ.1 91) w) (6 + m) (nI (u + 1))) (nI (u + 1)) n), σb, me_arr σb 91 (upd (svr_z (σ.1 91) w) (6 + m) (nI (u + 1))), ?_, ?_, ?_, ?_, ma_ne_z _ _ (by omega)⟩
    · show F_X0_boards σ (nI u) (nI m) = _
      unfold F_X0_boards
      simp (disch := omega) only [in06_z, in_and_z, F_X0_isShip, F_X0_isMan, i1, i4, h, h', if_false, if_true, b1, nI_nat_z, pl, i_m1_z, q, ea, bd_some_z, nm_eq_z, hsb]
      rw [x1_at_z zb.iv zb.sr, bd_some_z, nI_s_z, bc_bst_z _ _ hn8]
    · show F_X6_boards σb (nI u) (nI m) = _
      unfold F_X6_boards
      simp (disch := omega) only [in_and_z, F_X6_isShip, F_X6_isMan, F_X6_many, b91, t0, t1, h, h', if_false, if_true, e6', b2, nI_nat_z, q, x6_save_z b91 r5 hw8, bd_some_z, nm_eq_z, ms_arr_z, ma_same_z, ma_ma_z, nI_s_z]
      rw [x6_aboard_z (ma_same_z _ _ _) zb.iv (by omega), bd_some_z, nI_s_z]
    · refine rel_isl_z g (by rw [ma_2_z, ← hsb, ms_2_z]; exact a2) (fun j hj => by rw [ma_ne_z _ _ (by omega), ← hsb, ms_ne_z _ _ _ (by omega)]; exact ao j (by omega) (by omega)) (n := n) (f := f) (a := a) (c := c) (e := e) (w := if w = 8 then 8 else w + 1) ?_
      rw [ma_same_z]
      exact zb.congr (fun k hk => ma_ne_z _ _ (by omega))
    · rw [← hsb, ms_ne_z _ _ _ (by omega)]; exact ao 71 (by omega) (by omega)
  · refine op_rf_z g 1 (by omega) (r := -3) ?_ ?_
    · show F_X0_boards σ (nI u) (nI m) = _
      unfold F_X0_boards
      simp (disch := omega) only [in06_z, in_and_z, F_X0_isShip, F_X0_isMan, i1, i4, h, h', if_false, if_true, b1, nI_nat_z, pl, i_m1_z, q, x0_no_z, bi_some_z]
    · show F_X6_boards _ (nI u) (nI m) = _
      unfold F_X6_boards
      simp (disch := omega) only [in_and_z, F_X6_isShip, F_X6_isMan, F_X6_many, rf0_ne_z _ _ (show 91 ≠ 76 by omega), t0, t1, h, h', if_false, if_true, e6', b2, nI_nat_z, q, x6_no_z, bi_some_z]
/-- places and calls taken back -/
def und_z (T : Nat → Int32) (w k : Nat) : Nat → Int32 := fun i => if 6 ≤ i ∧ i < 6 + k then T (104 + 11 * w + (i - 6)) else T i
theorem und_zero_z (T : Nat → Int32) (w : Nat) : und_z T w 0 = T := by funext i; exact if_neg (by omega)
theorem und_upd_z (T : Nat → Int32) (w k : Nat) (hk : k < 11) : upd (und_z T w k) (6 + k) (und_z T w k (104 + 11 * w + k)) = und_z T w (k + 1) := by
  funext j; unfold upd und_z
  by_cases h : j = 6 + k
  · rw [if_pos h, if_neg (by omega), if_pos (by omega), h]; congr 1; omega
  · rw [if_neg h]; by_cases q : 6 ≤ j ∧ j < 6 + k
    · rw [if_pos q, if_pos (by omega)]
    · rw [if_neg q, if_neg (by omega)]
theorem und_out_z (T : Nat → Int32) (w i : Nat) (h : i < 6 ∨ 17 ≤ i) : und_z T w 11 i = T i := if_neg (by omega)
theorem und_pl_z (T : Nat → Int32) (w m : Nat) (h : m < 8) : und_z T w 11 (6 + m) = T (104 + (11 * w + m)) := by
  unfold und_z; rw [if_pos (by omega)]; congr 1; omega
theorem und_cl_z (T : Nat → Int32) (w m : Nat) (h : m < 3) : und_z T w 11 (14 + m) = T (112 + (11 * w + m)) := by
  unfold und_z; rw [if_pos (by omega)]; congr 1; omega
theorem x6_undo_z {σ : Me_} {T : Nat → Int32} {w : Nat} (hT : σ.1 91 = T) (h5 : T 5 = nI w) (hw : w < 8) : F_X6_undo_L26 FU_ 0 σ = Option.bind (F_X6_ashore (me_arr σ 91 (und_z T w 11)) 91 192) fun r => some (r, me_arr σ 91 (und_z T w 11)) := by
  have := loop2_z F_X6_undo_L26 (fun k => nI k) (fun k => me_arr σ 91 (und_z T w k)) (Option.bind (F_X6_ashore (me_arr σ 91 (und_z T w 11)) 91 192) fun r => some (r, me_arr σ 91 (und_z T w 11))) 11 ?_ ?_ FU_ 0 (Nat.zero_le _) (fu_lt_z (by omega))
  · rw [und_zero_z, ← hT, ma_self_z] at this; rw [← hT]; exact this
  · intro q
    simp (disch := omega) only [F_X6_undo_L26, nI_lit_z, nI_le_z]
    rw [if_pos (by omega)]
  · intro k q hk
    have e1 : (6 : Int32) + nI k = nI (6 + k) := nI_add_z 6 k
    have e2 : (11 : Int32) * nI w = nI (11 * w) := nI_mul_z 11 w
    have e3 : (104 : Int32) + nI (11 * w) = nI (104 + 11 * w) := nI_add_z 104 _
    have e4 : (11 : Int32) = nI 11 := rfl
    have l5 : und_z T w k 5 = nI w := by rw [← h5]; exact if_neg (by omega)
    simp (disch := omega) only [F_X6_undo_L26, nm_eq_z, ms_arr_z, ma_same_z, ma_ma_z, l5, e1, e2, e3, nI_add_z, nI_inb_z, nI_nat_z, nI_s_z]
    rw [e4, if_neg (by rw [nI_le_z (by omega) (by omega)]; omega), if_pos (by omega), if_pos (by omega), und_upd_z _ _ _ hk]
theorem op_undo_z {σ : Me_} (g : Rel_z σ) : Op_z σ F_X0_undo F_X6_undo := by
  obtain ⟨n, f, a, c, e, w, z⟩ := g.fu; have hn8 := z.iv.n8; have hf3 := z.iv.f3; have ha5 := z.a5; have hc6 := z.c6; have he6 := z.e6; have hw8 := z.w8; have i4 := z.sr.e4; have i1 := z.sr.e1; have t0 := z.iv.t0; have t1 := z.iv.t1; have r2 := z.r2; have r3 := z.r3; have r4 := z.r4; have r5 := z.r5; have q2 := z.q2; have q3 := z.q3; have q4 := z.q4; have q5 := z.q5
  by_cases h : w = 0
  · have h0 : nI w = 0 := by rw [h]; rfl
    refine op_rf_z g 1 (by omega) (r := -3) ?_ ?_
    · unfold F_X0_undo; rw [q5, if_pos h0]; rfl
    · unfold F_X6_undo; rw [rf0_ne_z _ _ (by omega), r5, if_pos h0]; rfl
  · have h0 : ¬ nI w = 0 := by rw [nI_lit_z, nI_inj_z (by omega) (by omega)]; exact h
    have p1 : nI w - 1 = nI (w - 1) := nI_sub_z (b := 1) (by omega)
    obtain ⟨σa, ea, a2, ao, a8, a3⟩ := x2_tk_z (me_set σ 1 13 (nI (w - 1))) 8 (11 + 1 + 3 * (w - 1)) (by omega)
    have o9 : ∀ j, j ≠ 1 → j ≠ 9 → j ≠ 10 → σa.1 j = σ.1 j := fun j h1 h2 h3 => by rw [ao j (by omega) (by omega), ms_ne_z _ _ _ h1]
    have a1 : σa.1 1 = upd (σ.1 1) 13 (nI (w - 1)) := by rw [ao 1 (by omega) (by omega), ms_same_z]
    have b91 : σa.1 91 = σ.1 91 := o9 91 (by omega) (by omega) (by omega)
    have iv := z.iv
    have sr := z.sr
    generalize hU : und_z (upd (σ.1 91) 5 (nI (w - 1))) (w - 1) 11 = U
    have Uo : ∀ i, i ≠ 5 → (i < 6 ∨ 17 ≤ i) → U i = σ.1 91 i := fun i h1 h2 => by rw [← hU, und_out_z _ _ _ h2, upd_ne_z _ _ h1]
    have U5 : U 5 = nI (w - 1) := by rw [← hU, und_out_z _ _ _ (by omega), upd_same_z]
    have Up : ∀ m, m < 8 → U (6 + m) = σ.1 91 (104 + (11 * (w - 1) + m)) := fun m hm => by rw [← hU, und_pl_z _ _ _ hm, upd_ne_z _ _ (by omega)]
    have Uc : ∀ m, m < 3 → U (14 + m) = σ.1 91 (112 + (11 * (w - 1) + m)) := fun m hm => by rw [← hU, und_cl_z _ _ _ hm, upd_ne_z _ _ (by omega)]
    have zb : Fu_z σa 1 U n f a c e (w - 1) := by
      refine fu_st_z z ⟨hn8, hf3, ?_, ?_, ?_, ?_, ?_, ?_, ?_, ?_⟩ ⟨?_, ?_, ?_, ?_, ?_, ?_, ?_⟩ (fun j _ _ h1 h2 => o9 j (by omega) h1 h2) (fun k hk => by rw [a1, upd_ne_z _ _ hk]) (by rw [a1, upd_same_z]) Uo U5 (by omega)
      · rw [Uo _ (by omega) (by omega)]; exact t0
      · rw [Uo _ (by omega) (by omega)]; exact t1
      · intro m hm; obtain ⟨p, hp, ep, _⟩ := z.pa (w - 1) (by omega) m hm; exact ⟨p, hp, by rw [Up m (by omega), ep]⟩
      · intro u hu; obtain ⟨p, hp, ep, _⟩ := z.pc (w - 1) (by omega) u hu; exact ⟨p, hp, by rw [Uc u (by omega), ep]⟩
      · intro u hu hq; rw [Uc u hu]; exact z.pz (w - 1) (by omega) u hu hq
      · intro u hu; rw [Uo _ (by omega) (by omega)]; exact iv.so u hu
      · intro u hu; rw [Uo _ (by omega) (by omega)]; exact iv.kd u hu
      · intro u hu; rw [Uo _ (by omega) (by omega)]; exact iv.sk u hu
      · rw [a1, upd_ne_z _ _ (by omega)]; exact i4
      · rw [a1, upd_ne_z _ _ (by omega)]; exact i1
      · intro m hm; obtain ⟨p, hp, ep, eq⟩ := z.pa (w - 1) (by omega) m hm
        rw [Up m (by omega), ep, ← eq, a8 m (by omega), ms_ne_z _ _ _ (by omega)]; exact congrArg (fun j => σ.1 j m) (by omega)
      · intro u hu; obtain ⟨p, hp, ep, eq⟩ := z.pc (w - 1) (by omega) u hu
        rw [Uc u (by omega), ep, ← eq, a3 u (by omega), ms_ne_z _ _ _ (by omega)]; exact congrArg (fun j => σ.1 j u) (by omega)
      · intro u hu; rw [Uo _ (by omega) (by omega), o9 _ (by omega) (by omega) (by omega)]; exact sr.so u hu
      · intro u hu; rw [Uo _ (by omega) (by omega), o9 _ (by omega) (by omega) (by omega)]; exact sr.kd u hu
      · intro u hu; rw [Uo _ (by omega) (by omega), o9 _ (by omega) (by omega) (by omega)]; exact sr.sk u hu
    have m0 : (-1 : Int32) + 1 = 0 := by decide
    refine ⟨nI (cnt_z U 0 n), σa, me_arr σa 91 U, ?_, ?_, ?_, o9 71 (by omega) (by omega) (by omega), ma_ne_z _ _ (by omega)⟩
    · unfold F_X0_undo F_X0_ashore
      rw [q5, if_neg h0, p1]
      simp (disch := omega) only [nm_eq_z, ms_same_z, upd_same_z, nI_nat_z, ea, bd_some_z]
      rw [if_pos (by rw [nI_inb_z (by omega)]; omega), x1_at_z zb.iv zb.sr, bd_some_z, bd_some_z, m0, bc_bst_z _ _ hn8]
    · unfold F_X6_undo
      rw [b91, r5, if_neg h0, p1]
      simp only [nm_eq_z]
      rw [x6_undo_z (T := upd (σ.1 91) 5 (nI (w - 1))) (w := w - 1) (by rw [ms_same_z, b91]) (upd_same_z _ _ _) (by omega), hU]
      unfold F_X6_ashore
      rw [x6_aboard_z (ma_same_z _ _ _) zb.iv (by omega)]
      simp only [bd_some_z, m0, ms_arr_z, ma_ma_z]
    · refine rel_isl_z g (by rw [ma_2_z]; exact a2) (fun j hj => by rw [ma_ne_z _ _ (by omega)]; exact o9 j (by omega) (by omega) (by omega)) (n := n) (f := f) (a := a) (c := c) (e := e) (w := w - 1) ?_
      rw [ma_same_z]
      exact zb.congr (fun k hk => ma_ne_z _ _ (by omega))
