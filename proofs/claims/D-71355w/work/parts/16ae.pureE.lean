set_option maxRecDepth 100000
set_option linter.unusedSimpArgs false
set_option linter.unusedVariables false
/-! PURE E: plain calls -/
theorem op_status_z {σ : Me_} (g : Rel_z σ) (x : Int32) : Op_z σ (fun σ => F_X0_status σ x) (fun σ => F_X6_status σ x) := by
  by_cases h : F_X6_in x.toInt64 (0 : Int64) (2 : Int64) = 0
  · refine op_rf_z g 0 (by omega) (r := -1) ?_ ?_
    · show F_X0_status σ x = _
      unfold F_X0_status
      rw [in06_z, if_pos h]; rfl
    · show F_X6_status _ x = _
      unfold F_X6_status
      rw [if_pos h]; rfl
  · obtain ⟨k, _, hk, e⟩ := in_oka_z (a := 0) (b := 2) (by decide) (by decide) h
    have hb : inb_ x 3 = true := by rw [e, nI_inb_z (by omega)]; omega
    refine op_ro_z g (r := σ.1 76 x.toNatClampNeg) (σ1 := σ) (σ2 := σ) ?_ ?_ (Same_z.refl _) (Same_z.refl _)
    · show F_X0_status σ x = _
      unfold F_X0_status
      rw [in06_z, if_neg h, if_pos hb]
    · show F_X6_status σ x = _
      unfold F_X6_status
      rw [if_neg h, if_pos hb, g.re.rf _ (by rw [e, nI_nat_z (by omega)]; omega)]
/-- both count a text -/
theorem op_clear_z {σ : Me_} (g : Rel_z σ) : Op_z σ F_X0_clear F_X6_clear := by
  obtain ⟨t, ht, e0, e9, _⟩ := g.re.tx
  obtain ⟨n, f, a, c, e, w, z⟩ := g.fu
  refine ⟨nI t, me_set σ 0 5 0, me_set (me_set σ 0 5 0) 90 12 0, ?_, ?_, ?_, ms_ne_z _ _ _ (by omega), ms_ne_z _ _ _ (by omega)⟩
  · unfold F_X0_clear; simp only [nm_eq_z, e0]
  · unfold F_X6_clear; simp only [nm_eq_z]; rw [ms_ne_z _ _ _ (by omega), e9]
  · have o : ∀ j, j ≠ 0 → j ≠ 90 → (me_set (me_set σ 0 5 0) 90 12 0).1 j = σ.1 j := fun j a b => by rw [ms_ne_z _ _ _ b, ms_ne_z _ _ _ a]
    refine ⟨⟨n, f, a, c, e, w, ?_⟩, ?_⟩
    · rw [o 91 (by omega) (by omega)]; exact z.congr (fun k hk => o _ (by omega) (by omega))
    · have q := g.re
      refine ⟨⟨0, by omega, ?_, ?_, fun i hi => absurd hi (Nat.not_lt_zero _)⟩, ?_, q.ab, q.be, ?_⟩
      · rw [ms_ne_z _ _ _ (by omega), ms_same_z, upd_same_z]; rfl
      · rw [ms_same_z, upd_same_z]; rfl
      · rw [o 76 (by omega) (by omega), o 94 (by omega) (by omega)]; exact q.rf
      · intro j hj
        rw [o 71 (by omega) (by omega), o 93 (by omega) (by omega), o 92 (by omega) (by omega)]
        refine ⟨(q.im j hj).1, fun t => ?_⟩
        obtain ⟨n, f, a, c, e, w, z⟩ := (q.im j hj).2 t
        exact ⟨n, f, a, c, e, w, z.congr (fun k hk => o _ (by omega) (by omega))⟩
theorem by_nar_z : ∀ k, k < 128 → vp_nar .byte (nI k).toInt8.toInt32 = nI k := by decide +kernel
theorem op_type_z {σ : Me_} (g : Rel_z σ) (x : Int32) : Op_z σ (fun σ => F_X0_type σ x) (fun σ => F_X6_type σ x) := by
  obtain ⟨t, ht, e0, e9, ev⟩ := g.re.tx
  by_cases h : F_X6_in x.toInt64 (0 : Int64) (127 : Int64) = 0
  · refine op_rf_z g 0 (by omega) (r := -2) ?_ ?_
    · show F_X0_type σ x = _
      unfold F_X0_type
      simp only [in06_z, in_and_z, i_z1_z, x0_bad_z, x0_no_z, x0_full_z, x0_badAsk_z, x6_bad_z, x6_no_z, x6_full_z, bi_some_z, bd_some_z, nm_eq_z, F_X0_isKind, F_X6_isKind, F_X0_isSkill, F_X6_isSkill, F_X0_isFar, F_X6_isFar, F_X0_isLong, F_X0_isShip, F_X6_isShip, F_X0_isMan, F_X6_isMan, F_X6_many, rf0_ne_z _ _ (show 91 ≠ 76 by omega), rf0_ne_z _ _ (show 90 ≠ 76 by omega), h, if_true]
    · show F_X6_type _ x = _
      unfold F_X6_type
      simp only [in06_z, in_and_z, i_z1_z, x0_bad_z, x0_no_z, x0_full_z, x0_badAsk_z, x6_bad_z, x6_no_z, x6_full_z, bi_some_z, bd_some_z, nm_eq_z, F_X0_isKind, F_X6_isKind, F_X0_isSkill, F_X6_isSkill, F_X0_isFar, F_X6_isFar, F_X0_isLong, F_X0_isShip, F_X6_isShip, F_X0_isMan, F_X6_isMan, F_X6_many, rf0_ne_z _ _ (show 91 ≠ 76 by omega), rf0_ne_z _ _ (show 90 ≠ 76 by omega), h, if_true]
  · obtain ⟨k, _, hk, ek⟩ := in_oka_z (a := 0) (b := 127) (by decide) (by decide) h
    by_cases hf : t = 150
    · have h15 : (nI t = 150) := by rw [hf]; rfl
      refine op_rf_z g 2 (by omega) (r := -4) ?_ ?_
      · show F_X0_type σ x = _
        unfold F_X0_type
        simp only [in06_z, in_and_z, i_z1_z, x0_bad_z, x0_no_z, x0_full_z, x0_badAsk_z, x6_bad_z, x6_no_z, x6_full_z, bi_some_z, bd_some_z, nm_eq_z, F_X0_isKind, F_X6_isKind, F_X0_isSkill, F_X6_isSkill, F_X0_isFar, F_X6_isFar, F_X0_isLong, F_X0_isShip, F_X6_isShip, F_X0_isMan, F_X6_isMan, F_X6_many, rf0_ne_z _ _ (show 91 ≠ 76 by omega), rf0_ne_z _ _ (show 90 ≠ 76 by omega), h, if_true, if_false, e0, h15]
      · show F_X6_type _ x = _
        unfold F_X6_type
        simp only [in06_z, in_and_z, i_z1_z, x0_bad_z, x0_no_z, x0_full_z, x0_badAsk_z, x6_bad_z, x6_no_z, x6_full_z, bi_some_z, bd_some_z, nm_eq_z, F_X0_isKind, F_X6_isKind, F_X0_isSkill, F_X6_isSkill, F_X0_isFar, F_X6_isFar, F_X0_isLong, F_X0_isShip, F_X6_isShip, F_X0_isMan, F_X6_isMan, F_X6_many, rf0_ne_z _ _ (show 91 ≠ 76 by omega), rf0_ne_z _ _ (show 90 ≠ 76 by omega), h, if_true, if_false, e9, h15]
    · have h15 : ¬ (nI t = 150) := by rw [nI_lit_z, nI_inj_z (by omega) (by omega)]; exact hf
      have hb : inb_ (nI t) 150 = true := by rw [nI_inb_z (by omega)]; omega
      refine ⟨nI (t + 1), me_set (me_set σ 75 t x) 0 5 (nI (t + 1)), me_set (me_set (me_set (me_set σ 75 t x) 0 5 (nI (t + 1))) 100 t x) 90 12 (nI (t + 1)), ?_, ?_, ?_, ?_, ?_⟩
      · show F_X0_type σ x = _
        unfold F_X0_type
        have : vp_nar .byte x.toInt8.toInt32 = x := by rw [ek]; exact by_nar_z k (by omega)
        simp (disch := omega) only [in06_z, h, if_false, e0, h15, hb, if_true, nm_eq_z, this, nI_nat_z, ms_ne_z, ms_same_z, upd_same_z, nI_s_z]
      · show F_X6_type _ x = _
        unfold F_X6_type
        simp (disch := omega) only [in06_z, h, if_false, e9, h15, hb, if_true, nm_eq_z, nI_nat_z, ms_ne_z, ms_same_z, upd_same_z, nI_s_z]
      · have o : ∀ j, j ≠ 0 → j ≠ 90 → j ≠ 75 → j ≠ 100 → (me_set (me_set (me_set (me_set σ 75 t x) 0 5 (nI (t + 1))) 100 t x) 90 12 (nI (t + 1))).1 j = σ.1 j := fun j a b c d => by rw [ms_ne_z _ _ _ b, ms_ne_z _ _ _ d, ms_ne_z _ _ _ a, ms_ne_z _ _ _ c]
        obtain ⟨n, f, a, c, e, w, z⟩ := g.fu
        refine ⟨⟨n, f, a, c, e, w, ?_⟩, ?_⟩
        · rw [o 91 (by omega) (by omega) (by omega) (by omega)]; exact z.congr (fun k hk => o _ (by omega) (by omega) (by omega) (by omega))
        · have q := g.re
          refine ⟨⟨t + 1, by omega, ?_, ?_, ?_⟩, ?_, q.ab, q.be, ?_⟩
          · simp (disch := omega) only [ms_ne_z, ms_same_z, upd_same_z]
          · simp (disch := omega) only [ms_ne_z, ms_same_z, upd_same_z]
          · intro i hi
            simp (disch := omega) only [ms_ne_z, ms_same_z]
            by_cases u : i = t
            · subst u; rw [upd_same_z, upd_same_z]; exact ⟨rfl, k, by omega, ek⟩
            · rw [upd_ne_z _ _ u, upd_ne_z _ _ u]; exact ev i (by omega)
          · rw [o 76 (by omega) (by omega) (by omega) (by omega), o 94 (by omega) (by omega) (by omega) (by omega)]; exact q.rf
          · intro j hj
            rw [o 71 (by omega) (by omega) (by omega) (by omega), o 93 (by omega) (by omega) (by omega) (by omega), o 92 (by omega) (by omega) (by omega) (by omega)]
            refine ⟨(q.im j hj).1, fun t => ?_⟩
            obtain ⟨n, f, a, c, e, w, z⟩ := (q.im j hj).2 t
            exact ⟨n, f, a, c, e, w, z.congr (fun k hk => o _ (by omega) (by omega) (by omega) (by omega))⟩
      · rw [ms_ne_z _ _ _ (by omega), ms_ne_z _ _ _ (by omega)]
      · rw [ms_ne_z _ _ _ (by omega), ms_ne_z _ _ _ (by omega)]
/-- the island alone is new -/
theorem rel_isl_z {σ τ : Me_} (g : Rel_z σ) (h2 : τ.2 = σ.2) (o : ∀ j, j = 0 ∨ j = 71 ∨ j = 75 ∨ j = 76 ∨ j = 90 ∨ (92 ≤ j ∧ j ≤ 94) ∨ j = 100 ∨ 110 ≤ j → τ.1 j = σ.1 j) {n f a c e w : Nat} (z : Fu_z τ 1 (τ.1 91) n f a c e w) : Rel_z τ :=
  ⟨⟨n, f, a, c, e, w, z⟩, g.re.congr h2 (o 0 (by omega)) (by rw [o 90 (by omega)]) (o 71 (by omega)) (o 75 (by omega)) (o 76 (by omega)) (o 92 (by omega)) (o 93 (by omega)) (o 94 (by omega)) (o 100 (by omega)) (fun k _ => o (110 + k) (by omega))⟩
/-- begin: a row of naughts -/
def zr_z (T : Nat → Int32) (k : Nat) : Nat → Int32 := fun i => if i < k then 0 else T i
theorem zr_upd_z (T : Nat → Int32) (k : Nat) : upd (zr_z T k) k 0 = zr_z T (k + 1) := by
  funext j; unfold upd zr_z
  by_cases h : j = k
  · rw [if_pos h, if_pos (by omega)]
  · rw [if_neg h]; by_cases q : j < k
    · rw [if_pos q, if_pos (by omega)]
    · rw [if_neg q, if_neg (by omega)]
theorem zr_zero_z (T : Nat → Int32) : zr_z T 0 = T := by funext j; exact if_neg (Nat.not_lt_zero _)
theorem zr_lt_z (T : Nat → Int32) {k i : Nat} (h : i < k) : zr_z T k i = 0 := if_pos h
theorem x6_begin_z (σ : Me_) (o n0 : Nat) (hn : 104 ≤ n0) : F_X6_begin σ o n0 = some (me_arr σ o (zr_z (σ.1 o) 104)) := by
  unfold F_X6_begin
  have := loop2_z (F_X6_begin_L2 o n0) (fun k => nI k) (fun k => me_arr σ o (zr_z (σ.1 o) k)) (some (me_arr σ o (zr_z (σ.1 o) 104))) 104 ?_ ?_ FU_ 0 (Nat.zero_le _) (fu_lt_z (by omega))
  · rw [zr_zero_z, ma_self_z] at this; exact this
  · intro q
    simp (disch := omega) only [F_X6_begin_L2, nI_lit_z, nI_le_z]
    rw [if_pos (by omega)]
  · intro k q hk
    simp (disch := omega) only [F_X6_begin_L2, nI_lit_z, nI_le_z, nI_inb_z, nm_eq_z, nI_nat_z, ms_arr_z, ma_same_z, ma_ma_z, nI_add_z]
    rw [if_neg (by omega), if_pos (by omega)]
    rw [← nI_lit_z, show (OfNat.ofNat 0 : Int32) = 0 from rfl, zr_upd_z]
theorem op_island_z {σ : Me_} (g : Rel_z σ) : Op_z σ F_X0_island F_X6_island := by
  obtain ⟨n, f, a, c, e, w, z⟩ := g.fu
  have i4 := z.sr.e4
  have t0 := z.iv.t0
  have hs : F_X1_begins σ 1 = some (me_arr σ 1 (upd (upd (upd (upd (upd (upd (σ.1 1) 1 0) 4 0) 6 0) 8 0) 10 0) 13 0)) := by
    unfold F_X1_begins
    simp only [nm_eq_z, ms_arr_z, ma_same_z, ma_ma_z]
  generalize hU : upd (upd (upd (upd (upd (upd (σ.1 1) 1 0) 4 0) 6 0) 8 0) 10 0) 13 0 = U at hs
  refine ⟨nI n, me_arr σ 1 U, me_arr (me_arr σ 1 U) 91 (zr_z (σ.1 91) 104), ?_, ?_, ?_, ma_ne_z _ _ (by omega), ma_ne_z _ _ (by omega)⟩
  · unfold F_X0_island; simp only [nm_eq_z, hs, bd_some_z, i4]
  · unfold F_X6_island; simp only [nm_eq_z, x6_begin_z _ 91 192 (by omega), bd_some_z, F_X6_many]
    rw [ma_ne_z _ _ (by omega), t0]
  · have o1 : (me_arr (me_arr σ 1 U) 91 (zr_z (σ.1 91) 104)).1 1 = U := by rw [ma_ne_z _ _ (by omega), ma_same_z]
    have o9 : (me_arr (me_arr σ 1 U) 91 (zr_z (σ.1 91) 104)).1 91 = zr_z (σ.1 91) 104 := ma_same_z _ _ _
    refine rel_isl_z g rfl (fun j hj => by rw [ma_ne_z _ _ (by omega), ma_ne_z _ _ (by omega)]) (n := 0) (f := 0) (a := 0) (c := 0) (e := 0) (w := 0) ?_
    have n0 : ∀ {P : Nat → Prop} (m : Nat), m < 0 → P m := fun m h => absurd h (Nat.not_lt_zero _)
    have n4 : ∀ {P : Nat → Prop} (m : Nat), m < 4 * 0 → P m := fun m h => absurd h (Nat.not_lt_zero _)
    rw [o9]
    have z0 : ∀ i, i < 104 → zr_z (σ.1 91) 104 i = nI 0 := fun i h => zr_lt_z _ h
    refine ⟨⟨by omega, by omega, z0 _ (by omega), z0 _ (by omega), n0, n0, fun h hh _ => zr_lt_z _ (by omega), n0, n0, n0⟩, ⟨?_, ?_, n0, n0, n0, n0, n0⟩, by omega, by omega, by omega, by omega, z0 _ (by omega), z0 _ (by omega), z0 _ (by omega), z0 _ (by omega), ?_, ?_, ?_, ?_, n4, n4, n4, n0, n0, n0, n0, n0, n0⟩
    · rw [o1, ← hU]; rfl
    · rw [o1, ← hU]; rfl
    · rw [o1, ← hU]; rfl
    · rw [o1, ← hU]; rfl
    · rw [o1, ← hU]; rfl
    · rw [o1, ← hU]; rfl
