set_option maxRecDepth 100000
set_option linter.unusedSimpArgs false
set_option linter.unusedVariables false

/-! PURE Zc_z: words, numbers taken -/
def wlt_z : List (List Nat) := [[105, 115, 108, 97, 110, 100], [115, 104, 105, 112], [109, 97, 110], [99, 97, 108, 108], [98, 111, 97, 114, 100]]
def lt__z (o i : Nat) : Nat := (wlt_z.getD o []).getD i 0
theorem sc_lt_z : ∀ o, o < 5 → ∀ i, i < 6 → sc_ o i = nI (lt__z o i) ∧ lt__z o i < 128 := by decide +kernel
theorem sn_le_z : ∀ o, o < 5 → sn_l o ≤ 6 ∧ 1 ≤ sn_l o := by decide +kernel
def wmk_z (X : Nat → Nat) (a o : Nat) : Nat → Bool
  | 0 => true
  | k + 1 => wmk_z X a o k && decide (X (a + k) = lt__z o k)
theorem wmk_mono_z {X : Nat → Nat} {a o k : Nat} (h : wmk_z X a o k = false) : ∀ d, wmk_z X a o (k + d) = false := by
  intro d
  induction d with
  | zero => exact h
  | succ d ih => rw [← Nat.add_assoc, wmk_z, ih]; rfl
/-- whether the token at a is a word -/
def wd_z (X : Nat → Nat) (t a o : Nat) : Bool := decide (tkK_z X t a = 1) && (decide (tkL_z X t a = sn_l o) && wmk_z X a o (sn_l o))
theorem tkK_le_z (X : Nat → Nat) (t a : Nat) : tkK_z X t a ≤ 4 := by
  unfold tkK_z; split
  · omega
  · split
    · omega
    · split
      · split <;> omega
      · split <;> omega
theorem lbk_eq_z : ∀ k, k ≤ 4 → (lbk_z k = 4 ↔ k = 1) ∧ (lbk_z k = 2 ↔ k = 2) ∧ (lbk_z k = 0 ↔ k = 0) ∧ (lbk_z k = 3 ↔ k = 3) := by decide
theorem nI_sub'_z {a b : Nat} : nI (a + b) - nI a = nI b := by rw [nI_sub_z (by omega), Nat.add_sub_cancel_left]
theorem x3_word_z {s : Me_} {X : Nat → Nat} {t a o : Nat} (h : Tx_z s X t) (k : Tk_z s X t a) (ha : a ≤ t) (ho : o < 5) : F_X3_isWord s o = some (bI_z (wd_z X t a o)) := by
  have ht := h.le
  have hl := tkL_le_z (X := X) ha
  have hs := sn_le_z o ho
  have hK := tkK_le_z X t a
  obtain ⟨k4, _, _, _⟩ := lbk_eq_z _ hK
  unfold F_X3_isWord
  rw [k.tk, k.aa, k.st, nI_sub'_z, nm_eq_z]
  have hsl : nI (sn_l o) = nI (tkL_z X t a) ↔ sn_l o = tkL_z X t a := nI_inj_z (by omega) (by omega)
  have hv : (if lbk_z (tkK_z X t a) = 4 then if nI (sn_l o) = nI (tkL_z X t a) then (1 : Int32) else 0 else 0) = bI_z (decide (tkK_z X t a = 1) && decide (tkL_z X t a = sn_l o)) := by
    by_cases c1 : tkK_z X t a = 1
    · rw [if_pos (k4.mpr c1)]
      by_cases c2 : sn_l o = tkL_z X t a
      · rw [if_pos (hsl.mpr c2)]; simp only [c1, c2, decide_true, Bool.and_self, bI_t_z]
      · rw [if_neg (fun u => c2 (hsl.mp u))]; simp only [c1, show ¬ tkL_z X t a = sn_l o from fun u => c2 u.symm, decide_true, decide_false, Bool.and_false, bI_f_z]
    · rw [if_neg (fun u => c1 (k4.mp u))]; simp only [c1, decide_false, Bool.false_and, bI_f_z]
  rw [hv]
  unfold wd_z
  by_cases c : (decide (tkK_z X t a = 1) && decide (tkL_z X t a = sn_l o)) = true
  · have c' := c
    simp only [Bool.and_eq_true, decide_eq_true_eq] at c'
    rw [c, show (decide (tkK_z X t a = 1) && (decide (tkL_z X t a = sn_l o) && wmk_z X a o (sn_l o))) = wmk_z X a o (sn_l o) by simp only [c'.1, c'.2, decide_true, Bool.true_and]]
    refine loopE2_z (F_X3_isWord_L32 s o) (fun k => bI_z (wmk_z X a o k)) (fun k => nI k) _ (sn_l o) ?_ ?_ FU_ 0 (Nat.zero_le _) (fu_lt_z (by omega))
    · intro q
      rw [F_X3_isWord_L32, if_pos (i_le_refl_z _), nm_eq_z, if_pos rfl, bI_and_z]
    · intro i q hi
      rw [F_X3_isWord_L32, if_neg (by rw [nI_le_z (by omega) (by omega)]; omega)]
      cases hb : wmk_z X a o i with
      | false =>
        right
        rw [bI_f_z, if_pos rfl, nm_eq_z, if_pos rfl]
        have := wmk_mono_z hb (sn_l o - i)
        rw [Nat.add_sub_of_le (by omega)] at this
        rw [this]; rfl
      | true =>
        left
        obtain ⟨hx, hx2⟩ := h.ch (a + i) (by omega)
        obtain ⟨l1, l2⟩ := sc_lt_z o ho i (by omega)
        have he : nI (lt__z o i) = nI (X (a + i)) ↔ lt__z o i = X (a + i) := nI_inj_z (by omega) (by omega)
        rw [bI_t_z, if_neg i_10_z, nm_eq_z, if_neg (by decide), if_pos (by rw [nI_inb_z (by omega)]; omega), k.st, nI_add_z, if_pos (by rw [nI_inb_z (by omega)]; omega), nI_nat_z (by omega), nI_nat_z (by omega), hx, l1, nm_eq_z, nm_eq_z, nI_s_z, wmk_z, hb, Bool.true_and]
        by_cases e : X (a + i) = lt__z o i
        · rw [if_pos (he.mpr e.symm)]; simp only [e, decide_true, bI_t_z]
        · rw [if_neg (fun u => e (he.mp u).symm)]; simp only [e, decide_false, bI_f_z]
  · have hcf : (decide (tkK_z X t a = 1) && decide (tkL_z X t a = sn_l o)) = false := Bool.eq_false_iff.mpr c
    rw [hcf, ← Bool.and_assoc, hcf, Bool.false_and, bI_f_z]
    obtain ⟨Q, hQ⟩ : ∃ Q, FU_ = Q + 1 := ⟨99999, rfl⟩
    rw [hQ, F_X3_isWord_L32, if_pos rfl]
    by_cases q : nI (sn_l o) ≤ 0
    · rw [if_pos q, nm_eq_z, if_pos rfl]; rfl
    · rw [if_neg q, nm_eq_z, if_pos rfl]; rfl
theorem x6_word_z {s : Me_} {X : Nat → Nat} {t a o : Nat} {x1 x2 x3 x4 x5 x6 x7 : Int32} (h : Ty_z s X t) (k : Mk_z s X t a) (ha : a ≤ t) (ho : o < 5) (h1 : x1 = nI (sn_l o)) (hx : ∀ i, i < sn_l o → (if nI i = 0 then x2 else if nI i = 1 then x3 else if nI i = 2 then x4 else if nI i = 3 then x5 else if nI i = 4 then x6 else x7) = nI (lt__z o i)) : F_X6_spells s x1 x2 x3 x4 x5 x6 x7 = some (bI_z (wd_z X t a o)) := by
  subst h1
  have ht := h.le
  have hl := tkL_le_z (X := X) ha
  have hs := sn_le_z o ho
  have hK := tkK_le_z X t a
  have k1 : nI (tkK_z X t a) = 1 ↔ tkK_z X t a = 1 := by rw [nI_lit_z, nI_inj_z (by omega) (by omega)]
  have hsl : nI (tkL_z X t a) = nI (sn_l o) ↔ tkL_z X t a = sn_l o := nI_inj_z (by omega) (by omega)
  unfold F_X6_spells
  rw [k.tk, k.ln, nm_eq_z]
  have hv : (if nI (tkK_z X t a) = 1 then if nI (tkL_z X t a) = nI (sn_l o) then (1 : Int32) else 0 else 0) = bI_z (decide (tkK_z X t a = 1) && decide (tkL_z X t a = sn_l o)) := by
    by_cases c1 : tkK_z X t a = 1
    · rw [if_pos (k1.mpr c1)]
      by_cases c2 : tkL_z X t a = sn_l o
      · rw [if_pos (hsl.mpr c2)]; simp only [c1, c2, decide_true, Bool.and_self, bI_t_z]
      · rw [if_neg (fun u => c2 (hsl.mp u))]; simp only [c1, c2, decide_true, decide_false, Bool.and_false, bI_f_z]
    · rw [if_neg (fun u => c1 (k1.mp u))]; simp only [c1, decide_false, Bool.false_and, bI_f_z]
  rw [hv]
  unfold wd_z
  by_cases c : (decide (tkK_z X t a = 1) && decide (tkL_z X t a = sn_l o)) = true
  · have c' := c
    simp only [Bool.and_eq_true, decide_eq_true_eq] at c'
    rw [c, show (decide (tkK_z X t a = 1) && (decide (tkL_z X t a = sn_l o) && wmk_z X a o (sn_l o))) = wmk_z X a o (sn_l o) by simp only [c'.1, c'.2, decide_true, Bool.true_and]]
    refine loopE2_z (F_X6_spells_L26 s (nI (sn_l o)) x2 x3 x4 x5 x6 x7) (fun k => bI_z (wmk_z X a o k)) (fun k => nI k) _ (sn_l o) ?_ ?_ FU_ 0 (Nat.zero_le _) (fu_lt_z (by omega))
    · intro q
      rw [F_X6_spells_L26, if_pos (i_le_refl_z _), bI_and_z]
    · intro i q hi
      rw [F_X6_spells_L26, if_neg (by rw [nI_le_z (by omega) (by omega)]; omega)]
      cases hb : wmk_z X a o i with
      | false =>
        right
        rw [bI_f_z, if_pos rfl]
        have := wmk_mono_z hb (sn_l o - i)
        rw [Nat.add_sub_of_le (by omega)] at this
        rw [this]; rfl
      | true =>
        left
        obtain ⟨hx1, hx2⟩ := h.ch (a + i) (by omega)
        obtain ⟨l1, l2⟩ := sc_lt_z o ho i (by omega)
        have he : nI (X (a + i)) = nI (lt__z o i) ↔ X (a + i) = lt__z o i := nI_inj_z (by omega) (by omega)
        rw [bI_t_z, if_neg i_10_z, k.st, nI_add_z, if_pos (by rw [nI_inb_z (by omega)]; omega), nI_nat_z (by omega), hx1, hx i hi, nm_eq_z, nm_eq_z, nm_eq_z, nI_s_z, wmk_z, hb, Bool.true_and]
        by_cases e : X (a + i) = lt__z o i
        · rw [if_pos (he.mpr e)]; simp only [e, decide_true, bI_t_z]
        · rw [if_neg (fun u => e (he.mp u))]; simp only [e, decide_false, bI_f_z]
  · have hcf : (decide (tkK_z X t a = 1) && decide (tkL_z X t a = sn_l o)) = false := Bool.eq_false_iff.mpr c
    rw [hcf, ← Bool.and_assoc, hcf, Bool.false_and, bI_f_z]
    obtain ⟨Q, hQ⟩ : ∃ Q, FU_ = Q + 1 := ⟨99999, rfl⟩
    rw [hQ, F_X6_spells_L26]
    by_cases q : nI (sn_l o) ≤ 0
    · rw [if_pos q]; rfl
    · rw [if_neg q, if_pos rfl]; rfl
/-- the token behind -/
def nx_z (X : Nat → Nat) (t a : Nat) : Nat := tkA_z X t (a + tkL_z X t a)
theorem nx_le_z {X : Nat → Nat} {t a : Nat} (ha : a ≤ t) : nx_z X t a ≤ t ∧ a ≤ nx_z X t a ∧ (a ≠ t → a < nx_z X t a) := by
  have hl := tkL_le_z (X := X) ha
  have := en_le_z (X := X) (P := pSp_z) (t := t) _ (a + tkL_z X t a) rfl hl.1
  unfold nx_z tkA_z
  refine ⟨this.2, by omega, fun u => by have := hl.2 u; omega⟩
def vT_z (X : Nat → Nat) (t a : Nat) : Nat := vlD_z X a (tkL_z X t a)
theorem vT_lt_z {X : Nat → Nat} {t a : Nat} (ha : a ≤ t) (h2 : tkK_z X t a = 2) : vT_z X t a < 100 := by
  unfold vT_z
  unfold tkK_z at h2
  by_cases c0 : a = t
  · rw [if_pos c0] at h2; cases h2
  rw [if_neg c0] at h2
  by_cases c1 : pLt_z (X a) = true
  · rw [if_pos c1] at h2; cases h2
  rw [if_neg c1] at h2
  by_cases c2 : pDg_z (X a) = true
  · have l0 : tkL_z X t a = en_z X pDg_z t a - a := by unfold tkL_z; rw [if_neg c0, if_neg c1, if_pos c2]
    refine (vlD_le_z (X := X) (a := a) _ (fun i hi => ?_)).1
    have := run_dg_z (X := X) (P := pDg_z) (t := t) _ a rfl ha (a + i) (by omega) (by omega)
    unfold pDg_z at this; simp only [Bool.and_eq_true, decide_eq_true_eq] at this; exact this.2
  · rw [if_neg c2] at h2; split at h2 <;> cases h2
def tOK_z (X : Nat → Nat) (t a lo H : Nat) : Bool := decide (tkK_z X t a = 2) && (decide (lo ≤ vT_z X t a) && decide (vT_z X t a < H))
theorem in_tOK_z {v lo H : Nat} (hv : v < 100) (hlo : lo < 100) (hH : H < 1000) : (F_X6_in (nI v).toInt64 (nI lo).toInt64 (nI H - 1 : Int32).toInt64 = 0) ↔ ¬ (lo ≤ v ∧ v < H) := by
  rw [in_no_z, nI_pred64_z hH, nI_int_z (by omega), Int32.toInt_toInt64, nI_int_z (by omega)]; omega
theorem bt_inl_z (v : Int32) (σ : Me_) (k : Int32 → Me_ → Option Ex_) : bt_ (some (.inl v, σ)) k = k v σ := Eq.trans (Eq.refl (bt_ (some (.inl v, σ)) k)) (Eq.refl (k v σ))
theorem bt_inr_z (v : Int32) (σ : Me_) (k : Int32 → Me_ → Option Ex_) : bt_ (some (.inr v, σ)) k = some (.inr v, σ) := Eq.trans (Eq.refl (bt_ (some (.inr v, σ)) k)) (Eq.refl (some (Sum.inr v, σ) : Option Ex_))
theorem x3_takes_z {s : Me_} {X : Nat → Nat} {t a lo H : Nat} (h : Tx_z s X t) (k : Tk_z s X t a) (ha : a ≤ t) (hlo : lo < 100) (hH : H < 1000) : (tOK_z X t a lo H = false → F_X3_takes s (nI lo) (nI H - 1) = some (.inr (nI a), s)) ∧ (tOK_z X t a lo H = true → ∃ s', F_X3_takes s (nI lo) (nI H - 1) = some (.inl (nI (vT_z X t a)), s') ∧ s'.2 = s.2 ∧ (∀ j, j ≠ 77 → s'.1 j = s.1 j) ∧ s'.1 77 4 = s.1 77 4 ∧ Tk_z s' X t (nx_z X t a)) := by
  have hK := tkK_le_z X t a
  obtain ⟨_, k2, _, _⟩ := lbk_eq_z _ hK
  have hl := tkL_le_z (X := X) ha
  unfold F_X3_takes
  rw [k.tk, in06_z]
  by_cases c : tkK_z X t a = 2
  · have hv := vT_lt_z ha c
    have hin := in_tOK_z (v := vT_z X t a) (lo := lo) (H := H) hv hlo hH
    rw [if_pos (k2.mpr c), show s.1 77 3 = nI (vT_z X t a) from k.vl c]
    by_cases q : lo ≤ vT_z X t a ∧ vT_z X t a < H
    · refine ⟨fun u => absurd u (by unfold tOK_z; simp only [c, q.1, q.2, decide_true, Bool.and_self]; decide), fun _ => ?_⟩
      obtain ⟨s', b1, b2, b3, b4, b5⟩ := x3_scans_z h hl.1 k.aa
      refine ⟨s', ?_, b2, b3, b4, b5⟩
      rw [if_neg (fun u => hin.mp u q), nm_eq_z, F_X3_wants, if_neg i_10_z]
      rw [bt_inl_z, nm_eq_z, b1, bd_some_z, show s.1 77 3 = nI (vT_z X t a) from k.vl c]
    · refine ⟨fun _ => ?_, fun u => ?_⟩
      · rw [if_pos (hin.mpr q), nm_eq_z, F_X3_wants, if_pos rfl, k.st]; rfl
      · unfold tOK_z at u; simp only [Bool.and_eq_true, decide_eq_true_eq] at u; exact absurd u.2 q
  · rw [if_neg (fun u => c (k2.mp u))]
    refine ⟨fun _ => ?_, fun u => ?_⟩
    · rw [nm_eq_z, F_X3_wants, if_pos rfl, k.st]; rfl
    · unfold tOK_z at u; simp only [Bool.and_eq_true, decide_eq_true_eq] at u; exact absurd u.1 c
theorem x6_goBehind_z {s : Me_} {X : Nat → Nat} {t a : Nat} (h : Ty_z s X t) (k : Mk_z s X t a) (ha : a ≤ t) : ∃ s', F_X6_goBehind s = some s' ∧ s'.2 = s.2 ∧ (∀ j, j ≠ 90 → s'.1 j = s.1 j) ∧ (∀ k, (k < 13 ∨ 17 ≤ k) → s'.1 90 k = s.1 90 k) ∧ Mk_z s' X t (nx_z X t a) := by
  have hl := tkL_le_z (X := X) ha
  obtain ⟨s', b1, b2, b3, b4, b5⟩ := x6_lookAt_z h hl.1
  refine ⟨s', ?_, b2, b3, b4, b5⟩
  unfold F_X6_goBehind
  rw [k.st, k.ln, nI_add_z, b1, bd_some_z]
theorem Ty_z.keep {s s' : Me_} {X : Nat → Nat} {t : Nat} (h : Ty_z s X t) (h1 : s'.1 90 12 = s.1 90 12) (h2 : s'.1 100 = s.1 100) : Ty_z s' X t := ⟨by rw [h1]; exact h.t5, h.le, by rw [h2]; exact h.ch⟩
theorem Tx_z.keep {s s' : Me_} {X : Nat → Nat} {t : Nat} (h : Tx_z s X t) (h1 : s'.1 0 = s.1 0) (h2 : s'.1 75 = s.1 75) : Tx_z s' X t := ⟨by rw [h1]; exact h.t5, h.le, by rw [h2]; exact h.ch⟩
theorem x6_takes_z {s : Me_} {X : Nat → Nat} {t a lo H i : Nat} (h : Ty_z s X t) (k : Mk_z s X t a) (ha : a ≤ t) (hlo : lo < 100) (hH : H < 1000) (hi : i < 3) : (tOK_z X t a lo H = false → F_X6_takes s (nI i) (nI lo) (nI H - 1) = some (0, s)) ∧ (tOK_z X t a lo H = true → ∃ s', F_X6_takes s (nI i) (nI lo) (nI H - 1) = some (1, s') ∧ s'.2 = s.2 ∧ (∀ j, j ≠ 90 → j ≠ 102 → s'.1 j = s.1 j) ∧ (∀ k, (k < 13 ∨ 17 ≤ k) → s'.1 90 k = s.1 90 k) ∧ s'.1 102 = upd (s.1 102) i (nI (vT_z X t a)) ∧ Mk_z s' X t (nx_z X t a)) := by
  have hK := tkK_le_z X t a
  have k2 : nI (tkK_z X t a) = 2 ↔ tkK_z X t a = 2 := by rw [nI_lit_z, nI_inj_z (by omega) (by omega)]
  unfold F_X6_takes
  rw [k.tk]
  by_cases c : tkK_z X t a = 2
  · have hv := vT_lt_z ha c
    have hin := in_tOK_z (v := vT_z X t a) (lo := lo) (H := H) hv hlo hH
    have e16 : s.1 90 16 = nI (vT_z X t a) := k.vl c
    rw [if_pos (k2.mpr c), e16]
    by_cases q : lo ≤ vT_z X t a ∧ vT_z X t a < H
    · refine ⟨fun u => absurd u (by unfold tOK_z; simp only [c, q.1, q.2, decide_true, Bool.and_self]; decide), fun _ => ?_⟩
      have k' : Mk_z (me_set s 102 i (nI (vT_z X t a))) X t a := ⟨by rw [ms_ne_z _ _ _ (by omega)]; exact k.st, by rw [ms_ne_z _ _ _ (by omega)]; exact k.ln, by rw [ms_ne_z _ _ _ (by omega)]; exact k.tk, fun u => by rw [ms_ne_z _ _ _ (by omega)]; exact k.vl u⟩
      obtain ⟨s', b1, b2, b3, b4, b5⟩ := x6_goBehind_z (h.keep (s' := me_set s 102 i (nI (vT_z X t a))) (by rw [ms_ne_z _ _ _ (by omega)]) (ms_ne_z _ _ _ (by omega))) k' ha
      refine ⟨s', ?_, by rw [b2, ms_2_z], fun j e1 e2 => by rw [b3 j e1, ms_ne_z _ _ _ e2], fun k e => by rw [b4 k e, ms_ne_z _ _ _ (by omega)], by rw [b3 102 (by omega), ms_same_z], b5⟩
      rw [if_neg (fun u => hin.mp u q), nm_eq_z, if_neg (by decide), if_pos (by rw [nI_inb_z (by omega)]; omega), nI_nat_z (by omega), nm_eq_z, b1, bd_some_z]
    · refine ⟨fun _ => ?_, fun u => ?_⟩
      · rw [if_pos (hin.mpr q), nm_eq_z, if_pos rfl]
      · unfold tOK_z at u; simp only [Bool.and_eq_true, decide_eq_true_eq] at u; exact absurd u.2 q
  · rw [if_neg (fun u => c (k2.mp u))]
    refine ⟨fun _ => ?_, fun u => ?_⟩
    · rw [nm_eq_z, if_pos rfl]
    · unfold tOK_z at u; simp only [Bool.and_eq_true, decide_eq_true_eq] at u; exact absurd u.1 c
