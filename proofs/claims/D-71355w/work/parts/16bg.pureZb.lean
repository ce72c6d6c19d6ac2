set_option maxRecDepth 100000
set_option linter.unusedSimpArgs false
set_option linter.unusedVariables false

/-! PURE Zb: the model's tokens -/
def Ty_z (s : Me_) (X : Nat → Nat) (t : Nat) : Prop :=
  (s.1 90 12 = nI t) ∧
  (t ≤ 150) ∧
  (∀ i, i < t → s.1 100 i = nI (X i) ∧ X i < 128)
theorem Ty_z.t5 {s : Me_} {X : Nat → Nat} {t : Nat} (h : Ty_z s X t) : s.1 90 12 = nI t := h.1
theorem Ty_z.le {s : Me_} {X : Nat → Nat} {t : Nat} (h : Ty_z s X t) : t ≤ 150 := h.2.1
theorem Ty_z.ch {s : Me_} {X : Nat → Nat} {t : Nat} (h : Ty_z s X t) : ∀ i, i < t → s.1 100 i = nI (X i) ∧ X i < 128 := h.2.2
theorem Ty_z.set {s : Me_} {X : Nat → Nat} {t : Nat} (h : Ty_z s X t) {k : Nat} (v : Int32) (hk : k ≠ 12) : Ty_z (me_set s 90 k v) X t := ⟨by rw [ms_same_z, upd_ne_z _ _ (by omega)]; exact h.t5, h.le, fun i hi => by rw [ms_ne_z _ _ _ (by omega)]; exact h.ch i hi⟩
theorem sm_fg_z : ∀ x, x < 128 → F_X6_isSmall (nI x) = bI_z (pLt_z x) ∧ F_X6_isFigure (nI x) = bI_z (pDg_z x) := by decide +kernel
theorem x6_sp_z {s : Me_} {X : Nat → Nat} {t : Nat} (h : Ty_z s X t) (kk : Me_ → Option Me_) : ∀ d p q, t - p = d → p ≤ t → d < q → F_X6_lookAt_L5 kk q (me_set s 90 13 (nI p)) = kk (me_set s 90 13 (nI (en_z X pSp_z t p))) := by
  have ht := h.le
  have h12 : ∀ p, (me_set s 90 13 (nI p)).1 90 12 = nI t := fun p => (h.set (k := 13) _ (by omega)).t5
  have h13 : ∀ p, (me_set s 90 13 (nI p)).1 90 13 = nI p := fun p => by rw [ms_same_z, upd_same_z]
  intro d
  induction d with
  | zero =>
    intro p q hd hp hq
    obtain ⟨q, rfl⟩ : ∃ r, q = r + 1 := ⟨q - 1, by omega⟩
    rw [F_X6_lookAt_L5, h12, h13, if_pos (by rw [nI_le_z (by omega) (by omega)]; omega), en_stop_z (fun u => by omega)]
  | succ d ih =>
    intro p q hd hp hq
    obtain ⟨q, rfl⟩ : ∃ r, q = r + 1 := ⟨q - 1, by omega⟩
    obtain ⟨hx, hx2⟩ := (h.set (k := 13) (nI p) (by omega)).ch p (by omega)
    have e32 : nI (X p) = 32 ↔ X p = 32 := by rw [nI_lit_z, nI_inj_z (by omega) (by omega)]
    rw [F_X6_lookAt_L5, h12, h13, if_neg (by rw [nI_le_z (by omega) (by omega)]; omega), if_pos (by rw [nI_inb_z (by omega)]; omega), nI_nat_z (by omega), hx]
    by_cases c : X p = 32
    · rw [if_pos (e32.mpr c), nm_eq_z, nI_s_z, ms_ms_z, ih (p + 1) q (by omega) (by omega) (by omega), en_go_z (p := p) (by omega) (by unfold pSp_z; rw [c]; rfl)]
    · rw [if_neg (fun u => c (e32.mp u)), en_stop_z (fun u => c (by have := u.2; unfold pSp_z at this; exact of_decide_eq_true this))]
/-- a run of letters of one sort -/
theorem x6_run_z {s : Me_} {X : Nat → Nat} {t a : Nat} {P : Nat → Bool} (h : Ty_z s X t) (h13 : s.1 90 13 = nI a) (hP : ∀ x, x < 128 → (if s.1 90 15 = (1 : Int32) then F_X6_isSmall (nI x) else F_X6_isFigure (nI x)) = bI_z (P x)) (kk : Me_ → Option Me_) : ∀ d l q, t - (a + l) = d → a + l ≤ t → d + 1 < q → F_X6_lookAt_L136 kk q 1 (me_set s 90 14 (nI l)) = kk (me_set s 90 14 (nI (en_z X P t (a + l) - a))) := by
  have ht := h.le
  have g12 : ∀ l, (me_set s 90 14 (nI l)).1 90 12 = nI t := fun l => (h.set (k := 14) _ (by omega)).t5
  have g13 : ∀ l, (me_set s 90 14 (nI l)).1 90 13 = nI a := fun l => by rw [ms_same_z, upd_ne_z _ _ (by omega)]; exact h13
  have g14 : ∀ l, (me_set s 90 14 (nI l)).1 90 14 = nI l := fun l => by rw [ms_same_z, upd_same_z]
  have g15 : ∀ l, (me_set s 90 14 (nI l)).1 90 15 = s.1 90 15 := fun l => by rw [ms_same_z, upd_ne_z _ _ (by omega)]
  intro d
  induction d with
  | zero =>
    intro l q hd hp hq
    obtain ⟨q, rfl⟩ : ∃ r, q = r + 1 := ⟨q - 1, by omega⟩
    rw [F_X6_lookAt_L136, if_neg i_10_z, g12, g13, g14, nI_add_z, if_pos (by rw [nI_le_z (by omega) (by omega)]; omega), nm_eq_z, if_pos rfl, en_stop_z (fun u => by omega), Nat.add_sub_cancel_left]
  | succ d ih =>
    intro l q hd hp hq
    obtain ⟨q, rfl⟩ : ∃ r, q = r + 1 := ⟨q - 1, by omega⟩
    obtain ⟨hx, hx2⟩ := (h.set (k := 14) (nI l) (by omega)).ch (a + l) (by omega)
    rw [F_X6_lookAt_L136, if_neg i_10_z, g12, g13, g14, nI_add_z, if_neg (by rw [nI_le_z (by omega) (by omega)]; omega), nm_eq_z, if_neg (by decide), if_pos (by rw [nI_inb_z (by omega)]; omega), nI_nat_z (by omega), hx, g15]
    simp only [nm_eq_z]
    rw [hP _ hx2]
    by_cases c : P (X (a + l)) = true
    · rw [c, bI_t_z, if_neg i_10_z, nI_s_z, ms_ms_z, ih (l + 1) q (by omega) (by omega) (by omega), en_go_z (p := a + l) (by omega) c]; rfl
    · obtain ⟨q, rfl⟩ : ∃ r, q = r + 1 := ⟨q - 1, by omega⟩
      rw [show P (X (a + l)) = false from Bool.eq_false_iff.mpr c, bI_f_z, if_pos rfl, i_zadd_z, ms_ms_z, F_X6_lookAt_L136, if_pos rfl, nm_eq_z, if_pos rfl, en_stop_z (fun u => c u.2), Nat.add_sub_cancel_left]
def Mk_z (s : Me_) (X : Nat → Nat) (t a : Nat) : Prop :=
  (s.1 90 13 = nI a) ∧
  (s.1 90 14 = nI (tkL_z X t a)) ∧
  (s.1 90 15 = nI (tkK_z X t a)) ∧
  (tkK_z X t a = 2 → s.1 90 16 = nI (vlD_z X a (tkL_z X t a)))
theorem Mk_z.st {s : Me_} {X : Nat → Nat} {t a : Nat} (h : Mk_z s X t a) : s.1 90 13 = nI a := h.1
theorem Mk_z.ln {s : Me_} {X : Nat → Nat} {t a : Nat} (h : Mk_z s X t a) : s.1 90 14 = nI (tkL_z X t a) := h.2.1
theorem Mk_z.tk {s : Me_} {X : Nat → Nat} {t a : Nat} (h : Mk_z s X t a) : s.1 90 15 = nI (tkK_z X t a) := h.2.2.1
theorem Mk_z.vl {s : Me_} {X : Nat → Nat} {t a : Nat} (h : Mk_z s X t a) : tkK_z X t a = 2 → s.1 90 16 = nI (vlD_z X a (tkL_z X t a)) := h.2.2.2
theorem vlD_2_z {X : Nat → Nat} {a : Nat} : ∀ d, vlD_z X a (2 + d) = vlD_z X a 2 := by
  intro d
  induction d with
  | zero => rfl
  | succ d ih => rw [← Nat.add_assoc, vlD_z, if_neg (by omega), ih]
/-- the value, of two digits at most -/
theorem x6_val_z {s : Me_} {X : Nat → Nat} {t a l : Nat} (h : Ty_z s X t) (h13 : s.1 90 13 = nI a) (h14 : s.1 90 14 = nI l) (h15 : s.1 90 15 = 2) (hl : a + l ≤ t) (hd : ∀ i, i < l → 48 ≤ X (a + i) ∧ X (a + i) ≤ 57) (kk : Me_ → Option Me_) : F_X6_lookAt_L218 kk FU_ 0 (me_set s 90 16 0) = kk (me_set s 90 16 (nI (vlD_z X a l))) := by
  have ht := h.le
  have g13 : ∀ v, (me_set s 90 16 v).1 90 13 = nI a := fun v => by rw [ms_same_z, upd_ne_z _ _ (by omega)]; exact h13
  have g14 : ∀ v, (me_set s 90 16 v).1 90 14 = nI l := fun v => by rw [ms_same_z, upd_ne_z _ _ (by omega)]; exact h14
  have g15 : ∀ v, (me_set s 90 16 v).1 90 15 = 2 := fun v => by rw [ms_same_z, upd_ne_z _ _ (by omega)]; exact h15
  have g16 : ∀ v, (me_set s 90 16 v).1 90 16 = v := fun v => by rw [ms_same_z, upd_same_z]
  generalize hn : (if l ≤ 2 then l else 2) = n
  have hn2 : n ≤ 2 ∧ n ≤ l ∧ (n = l ∨ n = 2) := by rw [← hn]; split <;> omega
  have hv : vlD_z X a n = vlD_z X a l := by
    rcases hn2.2.2 with q | q
    · rw [q]
    · rw [q, show l = 2 + (l - 2) by omega, vlD_2_z]
  rw [← hv]
  have e2 : (2 : Int32) = nI 2 := rfl
  refine loop2_z (F_X6_lookAt_L218 kk) (fun k => nI k) (fun k => me_set s 90 16 (nI (vlD_z X a k))) _ n ?_ ?_ FU_ 0 (Nat.zero_le _) (fu_lt_z (by omega))
  · intro q
    rw [F_X6_lookAt_L218, g14]
    by_cases c : l ≤ n
    · rw [if_pos (by rw [nI_le_z (by omega) (by omega)]; omega), nm_eq_z, if_pos rfl]
    · rw [if_neg (by rw [nI_le_z (by omega) (by omega)]; omega), if_pos (by rw [e2, nI_le_z (by omega) (by omega)]; omega), nm_eq_z, if_pos rfl]
  · intro k q hk
    have hx := hd k (by omega)
    have hvl := vlD_le_z (X := X) (a := a) k (fun i hi => (hd i (by omega)).2)
    obtain ⟨hc, _⟩ := (h.set (k := 16) (nI (vlD_z X a k)) (by omega)).ch (a + k) (by omega)
    have e10 : (10 : Int32) = nI 10 := rfl
    have e48 : (48 : Int32) = nI 48 := rfl
    rw [F_X6_lookAt_L218, g14, if_neg (by rw [nI_le_z (by omega) (by omega)]; omega), g15, if_neg (by rw [e2, nI_le_z (by omega) (by omega)]; omega), if_pos rfl, nm_eq_z, if_neg (by decide), g13, nI_add_z, if_pos (by rw [nI_inb_z (by omega)]; omega), nI_nat_z (by omega), hc, g16, e10, e48, nI_mul_z, nI_add_z, nI_sub_z (by omega), ms_ms_z, nm_eq_z, nm_eq_z, nI_s_z, vlD_z, if_pos (by omega), show 10 * vlD_z X a k + X (a + k) - 48 = 10 * vlD_z X a k + (X (a + k) - 48) by omega]
theorem run_dg_z {X : Nat → Nat} {P : Nat → Bool} {t : Nat} : ∀ d p, t - p = d → p ≤ t → ∀ i, p ≤ i → i < en_z X P t p → P (X i) = true := by
  intro d
  induction d with
  | zero => intro p hd hp i h1 h2; rw [en_stop_z (fun u => by omega)] at h2; omega
  | succ d ih =>
    intro p hd hp i h1 h2
    by_cases c : P (X p) = true
    · rw [en_go_z (by omega) c] at h2
      by_cases e : i = p
      · rw [e]; exact c
      · exact ih (p + 1) (by omega) (by omega) i (by omega) h2
    · rw [en_stop_z (fun u => c u.2)] at h2; omega
theorem x6_lookAt_z {s : Me_} {X : Nat → Nat} {t p : Nat} (h : Ty_z s X t) (hp : p ≤ t) : ∃ s', F_X6_lookAt s (nI p) = some s' ∧ s'.2 = s.2 ∧ (∀ j, j ≠ 90 → s'.1 j = s.1 j) ∧ (∀ k, (k < 13 ∨ 17 ≤ k) → s'.1 90 k = s.1 90 k) ∧ Mk_z s' X t (tkA_z X t p) := by
  have ht := h.le
  unfold F_X6_lookAt
  rw [nm_eq_z, nm_eq_z, x6_sp_z h _ (t - p) p FU_ rfl hp (fu_lt_z (by omega))]
  have hA := en_le_z (X := X) (P := pSp_z) (t := t) _ p rfl hp
  show ∃ s', _ ∧ _ ∧ _ ∧ _ ∧ Mk_z s' X t (en_z X pSp_z t p)
  generalize en_z X pSp_z t p = a at *
  rw [nm_eq_z, nm_eq_z, nm_eq_z]
  generalize hs5 : me_set (me_set (me_set (me_set s 90 13 (nI a)) 90 14 0) 90 15 0) 90 16 0 = s5
  have o5 : ∀ j, j ≠ 90 → s5.1 j = s.1 j := fun j e => by rw [← hs5]; simp (disch := omega) only [ms_ne_z, ms_same_z, upd_ne_z, upd_same_z]
  have f5 : ∀ k, (k < 13 ∨ 17 ≤ k) → s5.1 90 k = s.1 90 k := fun k e => by rw [← hs5]; simp (disch := omega) only [ms_ne_z, ms_same_z, upd_ne_z, upd_same_z]
  have g13 : s5.1 90 13 = nI a := by rw [← hs5]; simp (disch := omega) only [ms_ne_z, ms_same_z, upd_ne_z, upd_same_z]
  have g14 : s5.1 90 14 = 0 := by rw [← hs5]; simp (disch := omega) only [ms_ne_z, ms_same_z, upd_ne_z, upd_same_z]
  have g15 : s5.1 90 15 = 0 := by rw [← hs5]; simp (disch := omega) only [ms_ne_z, ms_same_z, upd_ne_z, upd_same_z]
  have g16 : s5.1 90 16 = 0 := by rw [← hs5]; simp (disch := omega) only [ms_ne_z, ms_same_z, upd_ne_z, upd_same_z]
  have s22 : s5.2 = s.2 := by rw [← hs5]; rfl
  have hT : Ty_z s5 X t := ⟨by rw [f5 12 (by omega)]; exact h.t5, h.le, fun i hi => by rw [o5 100 (by omega)]; exact h.ch i hi⟩
  rw [g13, hT.t5]
  have hae : nI a = nI t ↔ a = t := nI_inj_z (by omega) (by omega)
  by_cases c0 : a = t
  · rw [if_pos (hae.mpr c0)]
    have k0 : tkK_z X t a = 0 := if_pos c0
    have l0 : tkL_z X t a = 0 := if_pos c0
    exact ⟨s5, rfl, s22, o5, f5, ⟨g13, by rw [g14, l0]; rfl, by rw [g15, k0]; rfl, fun u => by rw [k0] at u; cases u⟩⟩
  rw [if_neg (fun u => c0 (hae.mp u)), if_pos (by rw [nI_inb_z (by omega)]; omega), nI_nat_z (by omega)]
  obtain ⟨hx, hx2⟩ := hT.ch a (by omega)
  obtain ⟨e1, e2⟩ := sm_fg_z (X a) hx2
  have e59 : nI (X a) = 59 ↔ X a = 59 := by rw [nI_lit_z, nI_inj_z (by omega) (by omega)]
  have hl := tkL_le_z (X := X) hA.2
  rw [hx, nm_eq_z, e1, e2]
  -- the sort of token by the first letter
  generalize hv : (if pLt_z (X a) = true then 1 else if pDg_z (X a) = true then 2 else if X a = 59 then 3 else 4 : Nat) = v
  have hvI : (if bI_z (pLt_z (X a)) = 0 then if bI_z (pDg_z (X a)) = 0 then if nI (X a) = 59 then (3 : Int32) else 4 else 2 else 1) = nI v := by
    rw [← hv]
    by_cases c1 : pLt_z (X a) = true
    · rw [if_pos c1, if_neg (fun u => (bI_z_z _).mp u c1)]; rfl
    · rw [if_neg c1, if_pos ((bI_z_z _).mpr c1)]
      by_cases c2 : pDg_z (X a) = true
      · rw [if_pos c2, if_neg (fun u => (bI_z_z _).mp u c2)]; rfl
      · rw [if_neg c2, if_pos ((bI_z_z _).mpr c2)]
        by_cases c3 : X a = 59
        · rw [if_pos c3, if_pos (e59.mpr c3)]; rfl
        · rw [if_neg c3, if_neg (fun u => c3 (e59.mp u))]; rfl
  have hv4 : 1 ≤ v ∧ v ≤ 4 := by rw [← hv]; split <;> (try split) <;> (try split) <;> omega
  rw [hvI, nm_eq_z, nm_eq_z, nm_eq_z]
  generalize hs7 : me_set (me_set s5 90 15 (nI v)) 90 14 1 = s7
  have o7 : ∀ j, j ≠ 90 → s7.1 j = s.1 j := fun j e => by rw [← hs7]; simp (disch := omega) only [ms_ne_z, ms_same_z, upd_ne_z, upd_same_z]; exact o5 j e
  have f7 : ∀ k, (k < 13 ∨ 17 ≤ k) → s7.1 90 k = s.1 90 k := fun k e => by rw [← hs7]; simp (disch := omega) only [ms_ne_z, ms_same_z, upd_ne_z, upd_same_z]; exact f5 k e
  have k13 : s7.1 90 13 = nI a := by rw [← hs7]; simp (disch := omega) only [ms_ne_z, ms_same_z, upd_ne_z, upd_same_z]; exact g13
  have k15 : s7.1 90 15 = nI v := by rw [← hs7]; simp (disch := omega) only [ms_ne_z, ms_same_z, upd_ne_z, upd_same_z]
  have k16 : s7.1 90 16 = 0 := by rw [← hs7]; simp (disch := omega) only [ms_ne_z, ms_same_z, upd_ne_z, upd_same_z]; exact g16
  have k14 : s7.1 90 14 = nI 1 := by rw [← hs7]; simp (disch := omega) only [ms_ne_z, ms_same_z, upd_ne_z, upd_same_z]; rfl
  have s72 : s7.2 = s.2 := by rw [← hs7]; exact s22
  have hT7 : Ty_z s7 X t := ⟨by rw [f7 12 (by omega)]; exact h.t5, h.le, fun i hi => by rw [o7 100 (by omega)]; exact h.ch i hi⟩
  have hb14 : me_set s7 90 14 (nI 1) = s7 := by
    rw [ms_arr_z, ← k14]
    have : upd (s7.1 90) 14 (s7.1 90 14) = s7.1 90 := by
      funext i; unfold upd; split
      · rename_i e; rw [e]
      · rfl
    rw [this, ma_self_z]
  rw [k15]
  have e3 : (3 : Int32) ≤ nI v ↔ 3 ≤ v := by rw [nI_lit_z, nI_le_z (by omega) (by omega)]
  -- what follows the run
  have tail : ∀ s8 : Me_, s8.2 = s.2 → (∀ j, j ≠ 90 → s8.1 j = s.1 j) → (∀ k, (k < 13 ∨ 17 ≤ k) → s8.1 90 k = s.1 90 k) → s8.1 90 13 = nI a → s8.1 90 14 = nI (tkL_z X t a) → s8.1 90 15 = nI v → s8.1 90 16 = 0 → ∃ s', F_X6_lookAt_L218 (fun σ_9 => nm_ (α := Int32) (if (σ_9.1 90 15) = (2 : Int32) then if (σ_9.1 90 14) ≤ (2 : Int32) then σ_9.1 90 15 else (4 : Int32) else σ_9.1 90 15) fun v_2 => nm_ (α := Me_) (me_set σ_9 90 15 v_2) fun σ_10 => some σ_10) FU_ 0 s8 = some s' ∧ s'.2 = s.2 ∧ (∀ j, j ≠ 90 → s'.1 j = s.1 j) ∧ (∀ k, (k < 13 ∨ 17 ≤ k) → s'.1 90 k = s.1 90 k) ∧ Mk_z s' X t a := by
    intro s8 b2 bo bf b13 b14 b15 b16
    have hT8 : Ty_z s8 X t := ⟨by rw [bf 12 (by omega)]; exact h.t5, h.le, fun i hi => by rw [bo 100 (by omega)]; exact h.ch i hi⟩
    have hl150 := hl.1
    have hll : nI (tkL_z X t a) ≤ 2 ↔ tkL_z X t a ≤ 2 := by rw [nI_lit_z, nI_le_z (by omega) (by omega)]
    by_cases c : v = 2
    · have c2 : pDg_z (X a) = true ∧ ¬ pLt_z (X a) = true := by
        by_cases q1 : pLt_z (X a) = true
        · rw [if_pos q1] at hv; omega
        · rw [if_neg q1] at hv
          by_cases q2 : pDg_z (X a) = true
          · exact ⟨q2, q1⟩
          · rw [if_neg q2] at hv; split at hv <;> omega
      have l0 : tkL_z X t a = en_z X pDg_z t a - a := by unfold tkL_z; rw [if_neg c0, if_neg c2.2, if_pos c2.1]
      have k0 : tkK_z X t a = if tkL_z X t a ≤ 2 then 2 else 4 := by rw [l0]; unfold tkK_z; rw [if_neg c0, if_neg c2.2, if_pos c2.1]
      have hb16 : me_set s8 90 16 0 = s8 := by
        rw [ms_arr_z, ← b16]
        have : upd (s8.1 90) 16 (s8.1 90 16) = s8.1 90 := by
          funext i; unfold upd; split
          · rename_i e; rw [e]
          · rfl
        rw [this, ma_self_z]
      have L := fun kk => x6_val_z hT8 b13 b14 (by rw [b15, c]; rfl) hl.1 (fun i hi => by
        have := run_dg_z (X := X) (P := pDg_z) (t := t) _ a rfl hA.2 (a + i) (by omega) (by omega)
        unfold pDg_z at this; simp only [Bool.and_eq_true, decide_eq_true_eq] at this; exact this) kk
      rw [hb16] at L
      rw [L, nm_eq_z, nm_eq_z]
      rw [show (me_set s8 90 16 (nI (vlD_z X a (tkL_z X t a)))).1 90 15 = 2 by rw [ms_same_z, upd_ne_z _ _ (by omega), b15, c]; rfl, if_pos rfl, show (me_set s8 90 16 (nI (vlD_z X a (tkL_z X t a)))).1 90 14 = nI (tkL_z X t a) by rw [ms_same_z, upd_ne_z _ _ (by omega)]; exact b14]
      refine ⟨_, rfl, by rw [ms_2_z, ms_2_z, b2], fun j e => by rw [ms_ne_z _ _ _ e, ms_ne_z _ _ _ e, bo j e], fun k e => by rw [ms_same_z, upd_ne_z _ _ (by omega), ms_same_z, upd_ne_z _ _ (by omega), bf k e], ⟨?_, ?_, ?_, ?_⟩⟩
      · rw [ms_same_z, upd_ne_z _ _ (by omega), ms_same_z, upd_ne_z _ _ (by omega)]; exact b13
      · rw [ms_same_z, upd_ne_z _ _ (by omega), ms_same_z, upd_ne_z _ _ (by omega)]; exact b14
      · rw [ms_same_z, upd_same_z, k0]
        by_cases q : tkL_z X t a ≤ 2
        · rw [if_pos (hll.mpr q), if_pos q]; rfl
        · rw [if_neg (fun u => q (hll.mp u)), if_neg q]; rfl
      · intro _; rw [ms_same_z, upd_ne_z _ _ (by omega), ms_same_z, upd_same_z]
    · have n2 : ¬ nI v = 2 := by rw [nI_lit_z, nI_inj_z (by omega) (by omega)]; exact c
      have k0 : tkK_z X t a = v := by
        unfold tkK_z; rw [if_neg c0, ← hv]
        by_cases q1 : pLt_z (X a) = true
        · rw [if_pos q1, if_pos q1]
        · rw [if_neg q1, if_neg q1]
          by_cases q2 : pDg_z (X a) = true
          · rw [if_neg q1, if_pos q2] at hv; omega
          · rw [if_neg q2, if_neg q2]
      obtain ⟨Q, hQ⟩ : ∃ Q, FU_ = Q + 1 := ⟨99999, rfl⟩
      have hL : ∀ kk : Me_ → Option Me_, F_X6_lookAt_L218 kk FU_ 0 s8 = kk s8 := fun kk => by
        rw [hQ, F_X6_lookAt_L218, b15, if_neg n2]
        by_cases q : s8.1 90 14 ≤ 0
        · rw [if_pos q, nm_eq_z, if_pos rfl]
        · rw [if_neg q, if_neg (by decide), nm_eq_z, if_pos rfl]
      rw [hL, nm_eq_z, nm_eq_z, b15, if_neg n2]
      refine ⟨_, rfl, by rw [ms_2_z, b2], fun j e => by rw [ms_ne_z _ _ _ e, bo j e], fun k e => by rw [ms_same_z, upd_ne_z _ _ (by omega), bf k e], ⟨?_, ?_, ?_, ?_⟩⟩
      · rw [ms_same_z, upd_ne_z _ _ (by omega)]; exact b13
      · rw [ms_same_z, upd_ne_z _ _ (by omega)]; exact b14
      · rw [ms_same_z, upd_same_z, k0]
      · intro u; rw [k0] at u; exact absurd u c
  by_cases c3 : 3 ≤ v
  · rw [if_pos (e3.mpr c3)]
    have l0 : tkL_z X t a = 1 := by
      unfold tkL_z; rw [if_neg c0]
      by_cases q1 : pLt_z (X a) = true
      · rw [if_pos q1] at hv; omega
      · rw [if_neg q1, if_neg (fun q2 => by rw [if_neg q1, if_pos q2] at hv; omega)]
    obtain ⟨Q, hQ⟩ : ∃ Q, FU_ = Q + 1 := ⟨99999, rfl⟩
    have hL : ∀ kk : Me_ → Option Me_, F_X6_lookAt_L136 kk FU_ 0 s7 = kk s7 := fun kk => by
      rw [hQ, F_X6_lookAt_L136, if_pos rfl, nm_eq_z, if_pos rfl]
    rw [nm_eq_z, nm_eq_z, hL, nm_eq_z]
    exact tail s7 s72 o7 f7 k13 (by rw [k14, l0]) k15 k16
  · rw [if_neg (fun u => c3 (e3.mp u)), nm_eq_z]
    have hrun : ∃ P, (∀ x, x < 128 → (if s7.1 90 15 = (1 : Int32) then F_X6_isSmall (nI x) else F_X6_isFigure (nI x)) = bI_z (P x)) ∧ tkL_z X t a = en_z X P t (a + 1) - a := by
      by_cases q1 : pLt_z (X a) = true
      · rw [if_pos q1] at hv
        refine ⟨pLt_z, fun x hx => ?_, ?_⟩
        · rw [k15, ← hv, if_pos (show nI 1 = 1 from rfl)]; exact (sm_fg_z x hx).1
        · unfold tkL_z; rw [if_neg c0, if_pos q1, en_go_z (by omega) q1]
      · rw [if_neg q1] at hv
        by_cases q2 : pDg_z (X a) = true
        · rw [if_pos q2] at hv
          refine ⟨pDg_z, fun x hx => ?_, ?_⟩
          · rw [k15, ← hv, if_neg (by decide)]; exact (sm_fg_z x hx).2
          · unfold tkL_z; rw [if_neg c0, if_neg q1, if_pos q2, en_go_z (by omega) q2]
        · rw [if_neg q2] at hv; split at hv <;> omega
    obtain ⟨P, hP, hlP⟩ := hrun
    have L := fun kk => x6_run_z (P := P) hT7 k13 hP kk (t - (a + 1)) 1 FU_ rfl (by omega) (fu_lt_z (by omega))
    rw [hb14, ← hlP] at L
    rw [nm_eq_z, L, nm_eq_z]
    refine tail (me_set s7 90 14 (nI (tkL_z X t a))) (by rw [ms_2_z, s72]) (fun j e => by rw [ms_ne_z _ _ _ e, o7 j e]) (fun k e => by rw [ms_same_z, upd_ne_z _ _ (by omega), f7 k e]) ?_ ?_ ?_ ?_
    · rw [ms_same_z, upd_ne_z _ _ (by omega)]; exact k13
    · rw [ms_same_z, upd_same_z]
    · rw [ms_same_z, upd_ne_z _ _ (by omega)]; exact k15
    · rw [ms_same_z, upd_ne_z _ _ (by omega)]; exact k16
