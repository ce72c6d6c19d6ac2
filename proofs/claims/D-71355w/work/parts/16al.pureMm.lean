set_option maxRecDepth 100000
set_option linter.unusedSimpArgs false
set_option linter.unusedVariables false

/-! PURE M: calls ahead -/
theorem Iv_z.congr {T T' : Nat → Int32} {n f : Nat} (h : Iv_z T n f) (o : ∀ i, i < 36 → T' i = T i) : Iv_z T' n f := by
  have := h.n8; have := h.f3
  refine ⟨h.n8, h.f3, ?_, ?_, ?_, ?_, ?_, ?_, ?_, ?_⟩
  · rw [o _ (by omega)]; exact h.t0
  · rw [o _ (by omega)]; exact h.t1
  · intro m hm; rw [o _ (by omega)]; exact h.pl m hm
  · intro m hm; rw [o _ (by omega)]; exact h.cl m hm
  · intro m hm hq; rw [o _ (by omega)]; exact h.cz m hm hq
  · intro m hm; rw [o _ (by omega)]; exact h.so m hm
  · intro m hm; rw [o _ (by omega)]; exact h.kd m hm
  · intro m hm; rw [o _ (by omega)]; exact h.sk m hm
theorem x6_layHand_z (σ : Me_) : F_X6_layHand σ = some (me_arr σ 95 (cp_ (σ.1 91) (σ.1 95) 36)) := by
  unfold F_X6_layHand
  have := loop2_z F_X6_layHand_L2 (fun k => nI k) (fun k => me_arr σ 95 (cp_ (σ.1 91) (σ.1 95) k)) (some (me_arr σ 95 (cp_ (σ.1 91) (σ.1 95) 36))) 36 ?_ ?_ FU_ 0 (Nat.zero_le _) (fu_lt_z (by omega))
  · rw [cp_zero_z, ma_self_z] at this; exact this
  · intro q
    simp (disch := omega) only [F_X6_layHand_L2, nI_lit_z, nI_le_z]
    rw [if_pos (by omega)]
  · intro k q hk
    have e4 : (36 : Int32) = nI 36 := rfl
    simp (disch := omega) only [F_X6_layHand_L2, nm_eq_z, ms_arr_z, ma_same_z, ma_ma_z, nI_inb_z, nI_nat_z, nI_s_z, ma_ne_z]
    rw [e4, if_neg (by rw [nI_le_z (by omega) (by omega)]; omega), if_pos (by omega), if_pos (by omega), cp_upd_z]
/-- the row at hand -/
def hnd_z (R H : Nat → Int32) : Nat → Int32 := cp_ R H 36
theorem hnd_lt_z (R H : Nat → Int32) {i : Nat} (h : i < 36) : hnd_z R H i = R i := if_pos h
/-- LeftBehind's trial state -/
theorem x0_trial_z {σ : Me_} {T T' : Nat → Int32} {n f : Nat} (iv : Iv_z T n f) (sr : Sr_z σ 1 8 T n f) (o : ∀ i, i < 36 → T' i = T i) : ∃ τ, F_X2_takes σ 72 8 = some τ ∧ τ.2 = σ.2 ∧ (∀ j, j ≠ 73 → j ≠ 74 → τ.1 j = σ.1 j) ∧ Sr_z τ 1 72 T' n f := by
  have := iv.n8; have := iv.f3
  obtain ⟨τ, e1, e2, e3, e4, e5⟩ := x2_tk_z σ 72 8 (by omega)
  refine ⟨τ, e1, e2, e3, ?_, ?_, ?_, ?_, ?_, ?_, ?_⟩
  · rw [e3 _ (by omega) (by omega)]; exact sr.e4
  · rw [e3 _ (by omega) (by omega)]; exact sr.e1
  · intro m hm; rw [e4 m (by omega), o _ (by omega)]; exact sr.pl m hm
  · intro m hm; rw [e5 m (by omega), o _ (by omega)]; exact sr.cl m hm
  · intro m hm; rw [e3 _ (by omega) (by omega), o _ (by omega)]; exact sr.so m hm
  · intro m hm; rw [e3 _ (by omega) (by omega), o _ (by omega)]; exact sr.kd m hm
  · intro m hm; rw [e3 _ (by omega) (by omega), o _ (by omega)]; exact sr.sk m hm
theorem Same_z.of {σ τ : Me_} (h2 : τ.2 = σ.2) (h : ∀ j, j ≠ 73 → j ≠ 74 → τ.1 j = σ.1 j) : Same_z σ τ := ⟨h2, fun j q => h j (by omega) (by omega), by rw [h 90 (by omega) (by omega)]⟩
/-- a call on the trial state; nobody aboard: none -/
def tcl_z (τ : Me_) (T : Nat → Int32) (u n : Nat) : Me_ := match lst_z T u n with
  | none => τ
  | some m => mcl_z τ 72 m u
theorem tcl_ne_z (τ : Me_) (T : Nat → Int32) (u n j : Nat) (h1 : j ≠ 73) (h2 : j ≠ 74) : (tcl_z τ T u n).1 j = τ.1 j := by
  unfold tcl_z; split
  · rfl
  · exact mcl_ne_z _ _ _ _ _ h1 h2
theorem tcl_2_z (τ : Me_) (T : Nat → Int32) (u n : Nat) : (tcl_z τ T u n).2 = τ.2 := by
  unfold tcl_z; split <;> rfl
theorem tcl_sr_z {τ : Me_} {T : Nat → Int32} {n f u : Nat} (iv : Iv_z T n f) (sr : Sr_z τ 1 72 T n f) (hu : u < f) : Sr_z (tcl_z τ T u n) 1 72 (gcr_z T u n) n f := by
  cases e : lst_z T u n with
  | none => unfold tcl_z; rw [e, gcr_none_z e]; exact sr
  | some m => unfold tcl_z; rw [e]; exact Sr_z.gcr_z iv sr hu e (by omega) (by omega)
theorem tcl_some_z {τ : Me_} {T : Nat → Int32} {n u m : Nat} (e : lst_z T u n = some m) : tcl_z τ T u n = mcl_z τ 72 m u := by unfold tcl_z; rw [e]
theorem tcl_none_z {τ : Me_} {T : Nat → Int32} {n u : Nat} (e : lst_z T u n = none) : tcl_z τ T u n = τ := by unfold tcl_z; rw [e]
def itr_z (T : Nat → Int32) (u n : Nat) : Nat → Nat → Int32
  | 0 => T
  | k + 1 => gcr_z (itr_z T u n k) u n
def rsb_z (T : Nat → Int32) (u n : Nat) : Nat → Int32
  | 0 => -1
  | k + 1 => oI_z (lst_z (itr_z T u n k) u n)
def tit_z (τ : Me_) (T : Nat → Int32) (u n : Nat) : Nat → Me_
  | 0 => τ
  | k + 1 => tcl_z (tit_z τ T u n k) (itr_z T u n k) u n
theorem itr_iv_z {T : Nat → Int32} {n f u : Nat} (iv : Iv_z T n f) (hu : u < f) (k : Nat) : Iv_z (itr_z T u n k) n f := by
  induction k with
  | zero => exact iv
  | succ k ih => exact ih.gcr_z hu
theorem tit_sr_z {τ : Me_} {T : Nat → Int32} {n f u : Nat} (iv : Iv_z T n f) (sr : Sr_z τ 1 72 T n f) (hu : u < f) (k : Nat) : Sr_z (tit_z τ T u n k) 1 72 (itr_z T u n k) n f := by
  induction k with
  | zero => exact sr
  | succ k ih => exact tcl_sr_z (itr_iv_z iv hu k) ih hu
theorem tit_ne_z (τ : Me_) (T : Nat → Int32) (u n k j : Nat) (h1 : j ≠ 73) (h2 : j ≠ 74) : (tit_z τ T u n k).1 j = τ.1 j := by
  induction k with
  | zero => rfl
  | succ k ih => rw [tit_z, tcl_ne_z _ _ _ _ _ h1 h2, ih]
theorem tit_2_z (τ : Me_) (T : Nat → Int32) (u n k : Nat) : (tit_z τ T u n k).2 = τ.2 := by
  induction k with
  | zero => rfl
  | succ k ih => rw [tit_z, tcl_2_z, ih]
theorem op_behind_z {σ : Me_} (g : Rel_z σ) (x y : Int32) : Op_z σ (fun σ => F_X0_behind σ x y) (fun σ => F_X6_behind σ x y) := by
  obtain ⟨n, f, a, c, e, w, z⟩ := g.fu; have hn8 := z.iv.n8; have hf3 := z.iv.f3; have ha5 := z.a5; have hc6 := z.c6; have he6 := z.e6; have hw8 := z.w8; have i4 := z.sr.e4; have i1 := z.sr.e1; have t0 := z.iv.t0; have t1 := z.iv.t1; have r2 := z.r2; have r3 := z.r3; have r4 := z.r4; have r5 := z.r5; have q2 := z.q2; have q3 := z.q3; have q4 := z.q4; have q5 := z.q5
  by_cases h : F_X6_in x.toInt64 (0 : Int64) ((nI f - 1 : Int32).toInt64) = 0
  · refine op_rf_z g 0 (by omega) (r := -2) ?_ ?_
    · show F_X0_behind σ x y = _
      unfold F_X0_behind
      simp only [in06_z, in_and_z, i_z1_z, x0_bad_z, x0_no_z, x0_full_z, x0_badAsk_z, x6_bad_z, x6_no_z, x6_full_z, bi_some_z, bd_some_z, nm_eq_z, F_X0_isKind, F_X6_isKind, F_X0_isSkill, F_X6_isSkill, F_X0_isFar, F_X6_isFar, F_X0_isLong, F_X0_isShip, F_X6_isShip, F_X0_isMan, F_X6_isMan, F_X6_many, rf0_ne_z _ _ (show 91 ≠ 76 by omega), rf0_ne_z _ _ (show 90 ≠ 76 by omega), i1, h, if_true]
    · show F_X6_behind _ x y = _
      unfold F_X6_behind
      simp only [in06_z, in_and_z, i_z1_z, x0_bad_z, x0_no_z, x0_full_z, x0_badAsk_z, x6_bad_z, x6_no_z, x6_full_z, bi_some_z, bd_some_z, nm_eq_z, F_X0_isKind, F_X6_isKind, F_X0_isSkill, F_X6_isSkill, F_X0_isFar, F_X6_isFar, F_X0_isLong, F_X0_isShip, F_X6_isShip, F_X0_isMan, F_X6_isMan, F_X6_many, rf0_ne_z _ _ (show 91 ≠ 76 by omega), rf0_ne_z _ _ (show 90 ≠ 76 by omega), t1, h, if_true]
  by_cases h' : F_X6_in y.toInt64 (1 : Int64) (8 : Int64) = 0
  · refine op_rf_z g 0 (by omega) (r := -2) ?_ ?_
    · show F_X0_behind σ x y = _
      unfold F_X0_behind
      simp only [in06_z, in_and_z, i_z1_z, x0_bad_z, x0_no_z, x0_full_z, x0_badAsk_z, x6_bad_z, x6_no_z, x6_full_z, bi_some_z, bd_some_z, nm_eq_z, F_X0_isKind, F_X6_isKind, F_X0_isSkill, F_X6_isSkill, F_X0_isFar, F_X6_isFar, F_X0_isLong, F_X0_isShip, F_X6_isShip, F_X0_isMan, F_X6_isMan, F_X6_many, rf0_ne_z _ _ (show 91 ≠ 76 by omega), rf0_ne_z _ _ (show 90 ≠ 76 by omega), i1, h, h', if_true, if_false]
    · show F_X6_behind _ x y = _
      unfold F_X6_behind
      simp only [in06_z, in_and_z, i_z1_z, x0_bad_z, x0_no_z, x0_full_z, x0_badAsk_z, x6_bad_z, x6_no_z, x6_full_z, bi_some_z, bd_some_z, nm_eq_z, F_X0_isKind, F_X6_isKind, F_X0_isSkill, F_X6_isSkill, F_X0_isFar, F_X6_isFar, F_X0_isLong, F_X0_isShip, F_X6_isShip, F_X0_isMan, F_X6_isMan, F_X6_many, rf0_ne_z _ _ (show 91 ≠ 76 by omega), rf0_ne_z _ _ (show 90 ≠ 76 by omega), t1, h, h', if_true, if_false]
  obtain ⟨u, hu, eu⟩ := in_okn_z (by omega) h
  obtain ⟨d, hd1, hd, ed⟩ := in_oka_z (a := 1) (b := 8) (by decide) (by decide) h'
  subst eu
  subst ed
  have oT : ∀ i, i < 36 → hnd_z (σ.1 91) (σ.1 95) i = σ.1 91 i := fun i hi => hnd_lt_z _ _ hi
  obtain ⟨τ, e1, e2, e3, sr⟩ := x0_trial_z z.iv z.sr oT
  have iv := z.iv.congr oT
  generalize hT : hnd_z (σ.1 91) (σ.1 95) = T at *
  have s1 : Same_z σ (tit_z τ T u n d) := Same_z.of (by rw [tit_2_z, e2]) (fun j h1 h2 => by rw [tit_ne_z _ _ _ _ _ _ h1 h2, e3 j h1 h2])
  refine op_ro_z g (r := rsb_z T u n d) (σ1 := tit_z τ T u n d) (σ2 := me_arr (tit_z τ T u n d) 95 (itr_z T u n d)) ?_ ?_ s1 ((Same_z.refl _).arr _ (by omega))
  · show F_X0_behind σ (nI u) (nI d) = _
    unfold F_X0_behind
    simp only [in06_z, in_and_z, F_X0_isShip, i1, h, h', if_false, nm_eq_z, Bool.false_eq_true, e1, bd_some_z]
    refine loop3_z (F_X0_behind_L44 (nI u) (nI d)) (fun k => rsb_z T u n k) (fun k => nI k) (fun k => tit_z τ T u n k) _ d ?_ ?_ FU_ 0 (Nat.zero_le _) (fu_lt_z (by omega))
    · intro q
      simp (disch := omega) only [F_X0_behind_L44, nI_le_z]
      rw [if_pos (by omega)]
    · intro k q hk
      have ivk := itr_iv_z iv hu k
      have srk := tit_sr_z iv sr hu k
      rw [F_X0_behind_L44, x1_at_z ivk srk, if_neg (by rw [nI_le_z (by omega) (by omega)]; omega)]
      simp only [bd_some_z, nm_eq_z, nI_s_z]
      cases el : lst_z (itr_z T u n k) u n with
      | none =>
        have : cnt_z (itr_z T u n k) (nI (u + 1)) n = 0 := (lst_none_z _ _ _).mp el
        rw [if_pos ((bst_z_z hn8).mpr this), rsb_z, tit_z, tcl_none_z el, el, oI_none_z]
      | some m =>
        have : ¬ cnt_z (itr_z T u n k) (nI (u + 1)) n = 0 := fun t => by rw [(lst_none_z _ _ _).mpr t] at el; cases el
        rw [if_neg (fun t => this ((bst_z_z hn8).mp t)), x1_calls_z ivk srk hu el, bi_some_z, rsb_z, tit_z, tcl_some_z el, el, oI_some_z]
  · show F_X6_behind (tit_z τ T u n d) (nI u) (nI d) = _
    have k91 : (tit_z τ T u n d).1 91 = σ.1 91 := by rw [tit_ne_z _ _ _ _ _ _ (by omega) (by omega), e3 _ (by omega) (by omega)]
    have k95 : (tit_z τ T u n d).1 95 = σ.1 95 := by rw [tit_ne_z _ _ _ _ _ _ (by omega) (by omega), e3 _ (by omega) (by omega)]
    unfold F_X6_behind
    rw [x6_layHand_z, k91, k95, show cp_ (σ.1 91) (σ.1 95) 36 = T from hT]
    simp only [in_and_z, F_X6_isShip, k91, t1, h, h', if_false, nm_eq_z, Bool.false_eq_true, bd_some_z]
    generalize tit_z τ T u n d = ρ
    refine loop3_z (F_X6_behind_L36 (nI u) (nI d)) (fun k => rsb_z T u n k) (fun k => nI k) (fun k => me_arr ρ 95 (itr_z T u n k)) _ d ?_ ?_ FU_ 0 (Nat.zero_le _) (fu_lt_z (by omega))
    · intro q
      simp (disch := omega) only [F_X6_behind_L36, nI_le_z]
      rw [if_pos (by omega)]
    · intro k q hk
      rw [F_X6_behind_L36, x6_goCall_z (ma_same_z _ _ _) (itr_iv_z iv hu k) (by omega) hu, if_neg (by rw [nI_le_z (by omega) (by omega)]; omega), bi_some_z, ma_ma_z]
      simp only [nm_eq_z, nI_s_z]
      rfl
/-! how long -/
theorem cnt_upd_z {T : Nat → Int32} {p : Int32} {m : Nat} (e : T (6 + m) = p) (hp : ¬ (0 : Int32) = p) : ∀ k, cnt_z (upd T (6 + m) 0) p k + (if m < k then 1 else 0) = cnt_z T p k := by
  intro k
  induction k with
  | zero => rfl
  | succ k ih =>
    rw [cnt_z, cnt_z, ← ih]
    by_cases q : k = m
    · subst q; rw [upd_same_z, e, if_neg hp, if_pos rfl, if_pos (by omega), if_neg (by omega)]
    · rw [upd_ne_z _ _ (show 6 + k ≠ 6 + m by omega)]
      generalize (if T (6 + k) = p then 1 else 0) = t
      by_cases r : m < k
      · rw [if_pos r, if_pos (by omega)]; omega
      · rw [if_neg r, if_neg (by omega)]; omega
theorem cnt_gcr_z {T : Nat → Int32} {n f u m : Nat} (iv : Iv_z T n f) (hu : u < f) (e : lst_z T u n = some m) : cnt_z (gcr_z T u n) (nI (u + 1)) n + 1 = cnt_z T (nI (u + 1)) n := by
  have := iv.n8; have := iv.f3
  obtain ⟨hm, hp⟩ := lst_lt_z T u n m e
  rw [gcr_some_z e, cnt_congr_z (T := upd T (6 + m) 0) _ n (fun k hk => upd_ne_z _ _ (by omega)), ← cnt_upd_z hp (by intro q; rw [nI_lit_z, nI_inj_z (by omega) (by omega)] at q; omega) n, if_pos hm]
def las_z (u d n : Nat) : Nat → (Nat → Int32) → Nat
  | 0, _ => 0
  | c + 1, T => if canT_z T n u d = true then las_z u d n c (gcr_z T u n) + 1 else 0
theorem can_cnt_z {T : Nat → Int32} {n u d : Nat} (h : canT_z T n u d = true) : ∃ m, lst_z T u n = some m := by
  cases e : lst_z T u n with
  | none =>
    have := (lst_none_z _ _ _).mp e
    unfold canT_z at h
    simp [this] at h
  | some m => exact ⟨m, rfl⟩
theorem x0_lasts_z {f n u d : Nat} (hu : u < f) (hd : d < 31) : ∀ c q j (T : Nat → Int32) (τ : Me_), Iv_z T n f → Sr_z τ 1 72 T n f → cnt_z T (nI (u + 1)) n ≤ c → c < q → ∃ τ', τ'.2 = τ.2 ∧ (∀ i, i ≠ 73 → i ≠ 74 → τ'.1 i = τ.1 i) ∧ F_X0_lasts_L36 (nI u) (nI d) q (nI j) τ = some (nI (j + las_z u d n (c + 1) T), τ') := by
  intro c
  induction c with
  | zero =>
    intro q j T τ iv sr hc hq
    obtain ⟨q, rfl⟩ : ∃ k, q = k + 1 := ⟨q - 1, by omega⟩
    have hcan : ¬ canT_z T n u d = true := fun t => by
      obtain ⟨m, e⟩ := can_cnt_z t
      rw [(lst_none_z _ _ _).mpr (by omega)] at e; cases e
    refine ⟨τ, rfl, fun _ _ _ => rfl, ?_⟩
    rw [F_X0_lasts_L36, x1_can_z iv sr hu hd, bd_some_z, if_pos ((bI_z_z _).mpr hcan), las_z, if_neg hcan]; rfl
  | succ c ih =>
    intro q j T τ iv sr hc hq
    obtain ⟨q, rfl⟩ : ∃ k, q = k + 1 := ⟨q - 1, by omega⟩
    by_cases hcan : canT_z T n u d = true
    · obtain ⟨m, e⟩ := can_cnt_z hcan
      have hg := cnt_gcr_z iv hu e
      obtain ⟨τ', a1, a2, a3⟩ := ih q (j + 1) (gcr_z T u n) (tcl_z τ T u n) (iv.gcr_z hu) (tcl_sr_z iv sr hu) (by omega) (by omega)
      refine ⟨τ', by rw [a1, tcl_2_z], fun i h1 h2 => by rw [a2 i h1 h2, tcl_ne_z _ _ _ _ _ h1 h2], ?_⟩
      rw [F_X0_lasts_L36, x1_can_z iv sr hu hd, bd_some_z, if_neg (fun t => (bI_z_z _).mp t hcan), x1_calls_z iv sr hu e, bi_some_z]
      simp only [nm_eq_z, nI_s_z]
      rw [tcl_some_z e] at a3
      rw [a3, show las_z u d n (c + 1 + 1) T = las_z u d n (c + 1) (gcr_z T u n) + 1 by rw [las_z, if_pos hcan]]
      congr 3; omega
    · refine ⟨τ, rfl, fun _ _ _ => rfl, ?_⟩
      rw [F_X0_lasts_L36, x1_can_z iv sr hu hd, bd_some_z, if_pos ((bI_z_z _).mpr hcan), las_z, if_neg hcan]; rfl
theorem x6_lasts_z {f n u d : Nat} (hu : u < f) : ∀ c q j (T : Nat → Int32) (τ : Me_), Iv_z T n f → cnt_z T (nI (u + 1)) n ≤ c → c < q → ∃ H, F_X6_lasts_L28 (nI u) (nI d) q (nI j) (me_arr τ 95 T) = some (nI (j + las_z u d n (c + 1) T), me_arr τ 95 H) := by
  intro c
  induction c with
  | zero =>
    intro q j T τ iv hc hq
    obtain ⟨q, rfl⟩ : ∃ k, q = k + 1 := ⟨q - 1, by omega⟩
    have hcan : ¬ canT_z T n u d = true := fun t => by
      obtain ⟨m, e⟩ := can_cnt_z t
      rw [(lst_none_z _ _ _).mpr (by omega)] at e; cases e
    refine ⟨T, ?_⟩
    rw [F_X6_lasts_L28, x6_canSail_z (ma_same_z _ _ _) iv (by omega) hu, bd_some_z, if_pos ((bI_z_z _).mpr hcan), las_z, if_neg hcan]; rfl
  | succ c ih =>
    intro q j T τ iv hc hq
    obtain ⟨q, rfl⟩ : ∃ k, q = k + 1 := ⟨q - 1, by omega⟩
    by_cases hcan : canT_z T n u d = true
    · obtain ⟨m, e⟩ := can_cnt_z hcan
      have hg := cnt_gcr_z iv hu e
      obtain ⟨H, a3⟩ := ih q (j + 1) (gcr_z T u n) τ (iv.gcr_z hu) (by omega) (by omega)
      refine ⟨H, ?_⟩
      rw [F_X6_lasts_L28, x6_canSail_z (ma_same_z _ _ _) iv (by omega) hu, bd_some_z, if_neg (fun t => (bI_z_z _).mp t hcan), x6_goCall_z (ma_same_z _ _ _) iv (by omega) hu, bi_some_z, ma_ma_z]
      simp only [nm_eq_z, nI_s_z]
      rw [a3, show las_z u d n (c + 1 + 1) T = las_z u d n (c + 1) (gcr_z T u n) + 1 by rw [las_z, if_pos hcan]]
      congr 3; omega
    · refine ⟨T, ?_⟩
      rw [F_X6_lasts_L28, x6_canSail_z (ma_same_z _ _ _) iv (by omega) hu, bd_some_z, if_pos ((bI_z_z _).mpr hcan), las_z, if_neg hcan]; rfl
theorem op_lasts_z {σ : Me_} (g : Rel_z σ) (x y : Int32) : Op_z σ (fun σ => F_X0_lasts σ x y) (fun σ => F_X6_lasts σ x y) := by
  obtain ⟨n, f, a, c, e, w, z⟩ := g.fu; have hn8 := z.iv.n8; have hf3 := z.iv.f3; have ha5 := z.a5; have hc6 := z.c6; have he6 := z.e6; have hw8 := z.w8; have i4 := z.sr.e4; have i1 := z.sr.e1; have t0 := z.iv.t0; have t1 := z.iv.t1; have r2 := z.r2; have r3 := z.r3; have r4 := z.r4; have r5 := z.r5; have q2 := z.q2; have q3 := z.q3; have q4 := z.q4; have q5 := z.q5
  by_cases h : F_X6_in x.toInt64 (0 : Int64) ((nI f - 1 : Int32).toInt64) = 0
  · refine op_rf_z g 0 (by omega) (r := -2) ?_ ?_
    · show F_X0_lasts σ x y = _
      unfold F_X0_lasts
      simp only [in06_z, in_and_z, i_z1_z, x0_bad_z, x0_no_z, x0_full_z, x0_badAsk_z, x6_bad_z, x6_no_z, x6_full_z, bi_some_z, bd_some_z, nm_eq_z, F_X0_isKind, F_X6_isKind, F_X0_isSkill, F_X6_isSkill, F_X0_isFar, F_X6_isFar, F_X0_isLong, F_X0_isShip, F_X6_isShip, F_X0_isMan, F_X6_isMan, F_X6_many, rf0_ne_z _ _ (show 91 ≠ 76 by omega), rf0_ne_z _ _ (show 90 ≠ 76 by omega), i1, h, if_true]
    · show F_X6_lasts _ x y = _
      unfold F_X6_lasts
      simp only [in06_z, in_and_z, i_z1_z, x0_bad_z, x0_no_z, x0_full_z, x0_badAsk_z, x6_bad_z, x6_no_z, x6_full_z, bi_some_z, bd_some_z, nm_eq_z, F_X0_isKind, F_X6_isKind, F_X0_isSkill, F_X6_isSkill, F_X0_isFar, F_X6_isFar, F_X0_isLong, F_X0_isShip, F_X6_isShip, F_X0_isMan, F_X6_isMan, F_X6_many, rf0_ne_z _ _ (show 91 ≠ 76 by omega), rf0_ne_z _ _ (show 90 ≠ 76 by omega), t1, h, if_true]
  by_cases h' : F_X6_in y.toInt64 (1 : Int64) (30 : Int64) = 0
  · refine op_rf_z g 0 (by omega) (r := -2) ?_ ?_
    · show F_X0_lasts σ x y = _
      unfold F_X0_lasts
      simp only [in06_z, in_and_z, i_z1_z, x0_bad_z, x0_no_z, x0_full_z, x0_badAsk_z, x6_bad_z, x6_no_z, x6_full_z, bi_some_z, bd_some_z, nm_eq_z, F_X0_isKind, F_X6_isKind, F_X0_isSkill, F_X6_isSkill, F_X0_isFar, F_X6_isFar, F_X0_isLong, F_X0_isShip, F_X6_isShip, F_X0_isMan, F_X6_isMan, F_X6_many, rf0_ne_z _ _ (show 91 ≠ 76 by omega), rf0_ne_z _ _ (show 90 ≠ 76 by omega), i1, h, h', if_true, if_false]
    · show F_X6_lasts _ x y = _
      unfold F_X6_lasts
      simp only [in06_z, in_and_z, i_z1_z, x0_bad_z, x0_no_z, x0_full_z, x0_badAsk_z, x6_bad_z, x6_no_z, x6_full_z, bi_some_z, bd_some_z, nm_eq_z, F_X0_isKind, F_X6_isKind, F_X0_isSkill, F_X6_isSkill, F_X0_isFar, F_X6_isFar, F_X0_isLong, F_X0_isShip, F_X6_isShip, F_X0_isMan, F_X6_isMan, F_X6_many, rf0_ne_z _ _ (show 91 ≠ 76 by omega), rf0_ne_z _ _ (show 90 ≠ 76 by omega), t1, h, h', if_true, if_false]
  obtain ⟨u, hu, eu⟩ := in_okn_z (by omega) h
  obtain ⟨d, hd1, hd, ed⟩ := in_oka_z (a := 1) (b := 30) (by decide) (by decide) h'
  subst eu
  subst ed
  have oT : ∀ i, i < 36 → hnd_z (σ.1 91) (σ.1 95) i = σ.1 91 i := fun i hi => hnd_lt_z _ _ hi
  obtain ⟨τ, e1, e2, e3, sr⟩ := x0_trial_z z.iv z.sr oT
  have iv := z.iv.congr oT
  generalize hT : hnd_z (σ.1 91) (σ.1 95) = T at *
  have hc := cnt_le_z T (nI (u + 1)) n
  obtain ⟨τ', a1, a2, a3⟩ := x0_lasts_z hu (show d < 31 by omega) 8 FU_ 0 T τ iv sr (by omega) (fu_lt_z (by omega))
  obtain ⟨H, b3⟩ := x6_lasts_z (d := d) hu 8 FU_ 0 T τ' iv (by omega) (fu_lt_z (by omega))
  refine op_ro_z g (r := nI (0 + las_z u d n (8 + 1) T)) (σ1 := τ') (σ2 := me_arr τ' 95 H) ?_ ?_ (Same_z.of (by rw [a1, e2]) (fun j h1 h2 => by rw [a2 j h1 h2, e3 j h1 h2])) ((Same_z.refl _).arr _ (by omega))
  · show F_X0_lasts σ (nI u) (nI d) = _
    unfold F_X0_lasts
    simp only [in06_z, in_and_z, F_X0_isShip, F_X0_isFar, i1, h, h', if_false, nm_eq_z, Bool.false_eq_true, e1, bd_some_z]
    exact a3
  · show F_X6_lasts τ' (nI u) (nI d) = _
    have k91 : τ'.1 91 = σ.1 91 := by rw [a2 _ (by omega) (by omega), e3 _ (by omega) (by omega)]
    have k95 : τ'.1 95 = σ.1 95 := by rw [a2 _ (by omega) (by omega), e3 _ (by omega) (by omega)]
    unfold F_X6_lasts
    rw [x6_layHand_z, k91, k95, show cp_ (σ.1 91) (σ.1 95) 36 = T from hT]
    simp only [in_and_z, F_X6_isShip, F_X6_isFar, k91, t1, h, h', if_false, nm_eq_z, Bool.false_eq_true, bd_some_z]
    exact b3
