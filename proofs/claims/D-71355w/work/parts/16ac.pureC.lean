set_option maxRecDepth 100000
set_option linter.unusedSimpArgs false
set_option linter.unusedVariables false
/-! PURE C: calls -/
def lvl_z (T : Nat → Int32) (u : Nat) : Option Nat → Int32
  | none => 1000000
  | some b => lkT_z T b u
theorem lvl_none_z (T : Nat → Int32) (u : Nat) : lvl_z T u none = 1000000 := Eq.trans (Eq.refl (lvl_z T u none)) (Eq.refl 1000000)
theorem lvl_some_z (T : Nat → Int32) (u b : Nat) : lvl_z T u (some b) = lkT_z T b u := Eq.trans (Eq.refl (lvl_z T u (some b))) (Eq.refl (lkT_z T b u))
theorem lk_T_z {n f : Nat} {T : Nat → Int32} (h : Iv_z T n f) {u m : Nat} (hu : u < f) (hm : m < n) : FV_M_liked ((T (20 + m)).toNatClampNeg % 6) (T (28 + m)) (T (14 + u)) = lkT_z T m u ∧ lkT_z T m u < 1000000 ∧ ¬ T (20 + m) < 0 := by
  obtain ⟨k, hk, e1⟩ := h.kd m hm
  obtain ⟨s, _, hs, e2⟩ := h.sk m hm
  obtain ⟨c, hc, e3⟩ := h.cl u hu
  unfold lkT_z
  rw [e1, e2, e3, nI_nat_z (by omega), Nat.mod_eq_of_lt hk]
  have := lk_eq_z k hk s (by omega) c (by omega)
  exact ⟨this.1, this.2, nI_nn_z (by omega)⟩
theorem i_le_of_lt_z {x y : Int32} (h : x < y) : x ≤ y := Int32.le_of_lt h
theorem i_le_refl_z (x : Int32) : x ≤ x := Int32.le_refl x
theorem i_lt_irr_z (x : Int32) : ¬ x < x := Int32.lt_irrefl
theorem x1_left_z {σ : Me_} {b s n f : Nat} {T : Nat → Int32} (h : Iv_z T n f) (g : Sr_z σ b s T n f) {u : Nat} (hu : u < f) : F_X1_left σ b s (nI u) = some (oI_z (lst_z T u n)) := by
  have hn8 := h.n8
  have hf3 := h.f3
  unfold F_X1_left
  refine loop3_z (F_X1_left_L9 σ b s (nI u)) (fun k => oI_z (lst_z T u k)) (fun k => lvl_z T u (lst_z T u k)) (fun k => nI k) _ n ?_ ?_ FU_ 0 (Nat.zero_le _) (fu_lt_z (by omega))
  · intro q
    simp (disch := omega) only [nI_lit_z, nI_add_z, nI_mul_z, nI_le_z, nI_lt_z, nI_inj_z, nI_inb_z, nI_nat_z, nm_eq_z, F_X1_left_L9, g.e4]
    rw [if_pos (by omega)]
  · intro k q hk
    obtain ⟨l1, l2, l3⟩ := lk_T_z h hu hk
    simp (disch := omega) only [F_X1_left_L9, g.e4, nI_le_z, nI_inb_z, nI_nat_z, nm_eq_z, nI_s_z, g.pl k hk, g.kd k hk, g.sk k hk, g.cl u hu, i_sub1_z, l1]
    have d1 : ¬ n ≤ k := by omega
    have d2 : k < 8 := by omega
    have d3 : u < 3 := by omega
    simp only [d1, d2, d3, l3, if_true, if_false]
    rw [lst_z]
    cases e : lst_z T u k with
    | none =>
      simp only [oI_none_z, lvl_none_z]
      by_cases q : T (6 + k) = nI (u + 1)
      · simp only [q, if_true, oI_some_z, lvl_some_z, l2, (i_nlt_z _ _).mpr l2, if_false]
      · simp only [q, if_false, oI_none_z, lvl_none_z, i_le_refl_z, if_true, ite_self]
    | some b =>
      have hb := lst_lt_z T u k b e
      have hl := (lk_T_z h hu (show b < n by omega)).2.1
      simp only [oI_some_z, lvl_some_z]
      by_cases q : T (6 + k) = nI (u + 1)
      · simp only [q, if_true]
        by_cases w : lkT_z T b u ≤ lkT_z T k u
        · simp only [w, if_true, oI_some_z, lvl_some_z, (i_nle_z _ _).mpr w, if_false]
        · simp only [w, if_false, oI_some_z, lvl_some_z, (i_nlt_z _ _).mp w, if_true]
      · simp only [q, if_false, oI_some_z, lvl_some_z, i_le_of_lt_z hl, if_true, (i_nle_z _ _).mpr (i_le_of_lt_z hl)]
/-- the row behind a call -/
def gcr_z (T : Nat → Int32) (u n : Nat) : Nat → Int32 := match lst_z T u n with
  | none => T
  | some m => upd (upd T (6 + m) 0) (14 + u) (T (14 + u) + if 99 ≤ T (14 + u) then 0 else 1)
theorem gcr_none_z {T : Nat → Int32} {u n : Nat} (e : lst_z T u n = none) : gcr_z T u n = T := by unfold gcr_z; rw [e]
theorem gcr_some_z {T : Nat → Int32} {u n m : Nat} (e : lst_z T u n = some m) : gcr_z T u n = upd (upd T (6 + m) 0) (14 + u) (T (14 + u) + if 99 ≤ T (14 + u) then 0 else 1) := by unfold gcr_z; rw [e]
theorem x6_goCall_z {σ : Me_} {o n0 n f : Nat} {T : Nat → Int32} (hT : σ.1 o = T) (h : Iv_z T n f) (hn : 36 ≤ n0) {u : Nat} (hu : u < f) : F_X6_goCall σ o n0 (nI u) = some (oI_z (lst_z T u n), me_arr σ o (gcr_z T u n)) := by
  have hn8 := h.n8
  have hf3 := h.f3
  unfold F_X6_goCall
  rw [x6_leastOf_z hT h hn hu]
  simp only [Option.bind]
  cases e : lst_z T u n with
  | none => rw [oI_none_z, if_pos rfl, gcr_none_z e, ← hT, ma_self_z]
  | some m =>
    have hm := (lst_lt_z T u n m e).1
    have e6 : (6 : Int32) + nI m = nI (6 + m) := nI_add_z 6 m
    have e14 : (14 : Int32) + nI u = nI (14 + u) := nI_add_z 14 u
    have hm1 : ¬ nI m = -1 := oI_neg_z (by omega)
    rw [gcr_some_z e, oI_some_z]
    simp (disch := omega) only [hm1, if_false, e6, e14, nI_inb_z, nI_nat_z, nm_eq_z, ms_arr_z, hT, ma_same_z, ma_ma_z]
    rw [upd_ne_z _ _ (show 14 + u ≠ 6 + m by omega), if_pos (by omega), if_pos (by omega), if_pos (by omega), if_pos (by omega)]
def ccl_z (c : Int32) : Int32 := if c + 1 < 99 then c + 1 else 99
theorem ccl_eq_z : ∀ c, c < 100 → ccl_z (nI c) = nI c + (if 99 ≤ nI c then 0 else 1) ∧ ∃ d, d < 100 ∧ ccl_z (nI c) = nI d := by decide +kernel
/-- LeftBehind's memory behind a call -/
def mcl_z (σ : Me_) (s m u : Nat) : Me_ := me_arr (me_arr σ (s + 1) (upd (σ.1 (s + 1)) m (-1))) (s + 2) (upd (σ.1 (s + 2)) u (ccl_z (σ.1 (s + 2) u)))
theorem x1_calls_z {σ : Me_} {b s n f : Nat} {T : Nat → Int32} (h : Iv_z T n f) (g : Sr_z σ b s T n f) {u m : Nat} (hu : u < f) (e : lst_z T u n = some m) : F_X1_calls σ b s (nI u) = some (nI m, mcl_z σ s m u) := by
  have hn8 := h.n8
  have hf3 := h.f3
  have hm := (lst_lt_z T u n m e).1
  unfold F_X1_calls
  rw [x1_left_z h g hu, e, oI_some_z]
  simp (disch := omega) only [Option.bind, nI_inb_z, nI_nat_z, nm_eq_z, ms_arr_z]
  have n1 : (s + 2 : Nat) ≠ s + 1 := by omega
  rw [if_pos (by omega), if_pos (by omega), if_pos (by omega)]
  simp only [ma_ne_z _ _ n1]
  rfl
/-- what a call keeps -/
theorem Iv_z.gcr_z {n f : Nat} {T : Nat → Int32} (h : Iv_z T n f) {u : Nat} (hu : u < f) : Iv_z (gcr_z T u n) n f := by
  cases e : lst_z T u n with
  | none => rw [gcr_none_z e]; exact h
  | some m =>
    rw [gcr_some_z e]
    have hm := (lst_lt_z T u n m e).1
    have hn8 := h.n8
    have hf3 := h.f3
    obtain ⟨c, hc, ec⟩ := h.cl u hu
    have hcc := ccl_eq_z c (by omega)
    rw [ec, ← hcc.1]
    refine ⟨h.n8, h.f3, ?_, ?_, ?_, ?_, ?_, ?_, ?_, ?_⟩
    · rw [upd_ne_z _ _ (by omega), upd_ne_z _ _ (by omega)]; exact h.t0
    · rw [upd_ne_z _ _ (by omega), upd_ne_z _ _ (by omega)]; exact h.t1
    · intro k hk
      rw [upd_ne_z _ _ (by omega)]
      by_cases q : k = m
      · subst q; rw [upd_same_z]; exact ⟨0, by omega, rfl⟩
      · rw [upd_ne_z _ _ (by omega)]; exact h.pl k hk
    · intro k hk
      by_cases q : k = u
      · subst q; rw [upd_same_z]; obtain ⟨d, hd, ed⟩ := hcc.2; exact ⟨d, by omega, ed⟩
      · rw [upd_ne_z _ _ (by omega), upd_ne_z _ _ (by omega)]; exact h.cl k hk
    · intro k hk hq
      rw [upd_ne_z _ _ (by omega), upd_ne_z _ _ (by omega)]; exact h.cz k hk hq
    · intro k hk; rw [upd_ne_z _ _ (by omega), upd_ne_z _ _ (by omega)]; exact h.so k hk
    · intro k hk; rw [upd_ne_z _ _ (by omega), upd_ne_z _ _ (by omega)]; exact h.kd k hk
    · intro k hk; rw [upd_ne_z _ _ (by omega), upd_ne_z _ _ (by omega)]; exact h.sk k hk
theorem m1_eq_z : (0 : Int32) - 1 = -1 := by decide
theorem Sr_z.gcr_z {σ : Me_} {b s n f : Nat} {T : Nat → Int32} (h : Iv_z T n f) (g : Sr_z σ b s T n f) {u m : Nat} (hu : u < f) (e : lst_z T u n = some m) (d1 : b < s) (d2 : b + 3 ≤ s) : Sr_z (mcl_z σ s m u) b s (gcr_z T u n) n f := by
  rw [gcr_some_z e]
  have hm := (lst_lt_z T u n m e).1
  have hn8 := h.n8
  have hf3 := h.f3
  obtain ⟨c, hc, ec⟩ := h.cl u hu
  have hcc := ccl_eq_z c (by omega)
  have hs := g.cl u hu
  unfold mcl_z
  have o1 : ∀ j, j ≠ s + 1 → j ≠ s + 2 → (me_arr (me_arr σ (s + 1) (upd (σ.1 (s + 1)) m (-1))) (s + 2) (upd (σ.1 (s + 2)) u (ccl_z (σ.1 (s + 2) u)))).1 j = σ.1 j := fun j a c => by rw [ma_ne_z _ _ c, ma_ne_z _ _ a]
  refine ⟨?_, ?_, ?_, ?_, ?_, ?_, ?_⟩
  · rw [o1 b (by omega) (by omega)]; exact g.e4
  · rw [o1 b (by omega) (by omega)]; exact g.e1
  · intro k hk
    rw [ma_ne_z _ _ (by omega), ma_same_z, upd_ne_z _ _ (show 6 + k ≠ 14 + u by omega)]
    by_cases q : k = m
    · subst q; rw [upd_same_z, upd_same_z, m1_eq_z]
    · rw [upd_ne_z _ _ q, upd_ne_z _ _ (by omega)]; exact g.pl k hk
  · intro k hk
    rw [ma_same_z]
    by_cases q : k = u
    · subst q; rw [upd_same_z, upd_same_z, hs, ec, hcc.1]
    · rw [upd_ne_z _ _ q, upd_ne_z _ _ (by omega), upd_ne_z _ _ (by omega)]; exact g.cl k hk
  · intro k hk; rw [o1 _ (by omega) (by omega), upd_ne_z _ _ (by omega), upd_ne_z _ _ (by omega)]; exact g.so k hk
  · intro k hk; rw [o1 _ (by omega) (by omega), upd_ne_z _ _ (by omega), upd_ne_z _ _ (by omega)]; exact g.kd k hk
  · intro k hk; rw [o1 _ (by omega) (by omega), upd_ne_z _ _ (by omega), upd_ne_z _ _ (by omega)]; exact g.sk k hk
