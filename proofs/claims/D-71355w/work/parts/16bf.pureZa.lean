set_option maxRecDepth 100000
set_option linter.unusedSimpArgs false
set_option linter.unusedVariables false

/-! PURE Za: tokens -/
/-- how far letters of a sort go -/
def rn_z (X : Nat → Nat) (P : Nat → Bool) : Nat → Nat → Nat
  | 0, p => p
  | q + 1, p => if P (X p) = true then rn_z X P q (p + 1) else p
/-- from p, in a text of t letters -/
def en_z (X : Nat → Nat) (P : Nat → Bool) (t p : Nat) : Nat := rn_z X P (t - p) p
theorem en_go_z {X : Nat → Nat} {P : Nat → Bool} {t p : Nat} (h : p < t) (hp : P (X p) = true) : en_z X P t p = en_z X P t (p + 1) := by
  unfold en_z
  obtain ⟨d, hd⟩ : ∃ d, t - p = d + 1 := ⟨t - p - 1, by omega⟩
  rw [hd, rn_z, if_pos hp, show t - (p + 1) = d by omega]
theorem en_stop_z {X : Nat → Nat} {P : Nat → Bool} {t p : Nat} (h : ¬ (p < t ∧ P (X p) = true)) : en_z X P t p = p := by
  unfold en_z
  by_cases q : p < t
  · obtain ⟨d, hd⟩ : ∃ d, t - p = d + 1 := ⟨t - p - 1, by omega⟩
    rw [hd, rn_z, if_neg (fun u => h ⟨q, u⟩)]
  · rw [show t - p = 0 by omega]; rfl
theorem en_le_z {X : Nat → Nat} {P : Nat → Bool} {t : Nat} : ∀ d p, t - p = d → p ≤ t → p ≤ en_z X P t p ∧ en_z X P t p ≤ t := by
  intro d
  induction d with
  | zero => intro p h hp; rw [en_stop_z (fun u => by omega)]; omega
  | succ d ih =>
    intro p h hp
    by_cases q : P (X p) = true
    · rw [en_go_z (by omega) q]; have := ih (p + 1) (by omega) (by omega); omega
    · rw [en_stop_z (fun u => q u.2)]; omega
def pSp_z (x : Nat) : Bool := decide (x = 32)
def pLt_z (x : Nat) : Bool := decide (97 ≤ x) && decide (x ≤ 122)
def pDg_z (x : Nat) : Bool := decide (48 ≤ x) && decide (x ≤ 57)
/-- the value of the first digits -/
def vlD_z (X : Nat → Nat) (a : Nat) : Nat → Nat
  | 0 => 0
  | j + 1 => if j < 2 then 10 * vlD_z X a j + (X (a + j) - 48) else vlD_z X a j
/-- a token: where, how long, which (0 end, 1 word, 2 number, 3 semicolon, 4 odd) -/
def tkA_z (X : Nat → Nat) (t p : Nat) : Nat := en_z X pSp_z t p
def tkL_z (X : Nat → Nat) (t a : Nat) : Nat := if a = t then 0 else if pLt_z (X a) = true then en_z X pLt_z t a - a else if pDg_z (X a) = true then en_z X pDg_z t a - a else 1
def tkK_z (X : Nat → Nat) (t a : Nat) : Nat := if a = t then 0 else if pLt_z (X a) = true then 1 else if pDg_z (X a) = true then (if en_z X pDg_z t a - a ≤ 2 then 2 else 4) else if X a = 59 then 3 else 4
theorem tkL_le_z {X : Nat → Nat} {t a : Nat} (h : a ≤ t) : a + tkL_z X t a ≤ t ∧ (a ≠ t → 1 ≤ tkL_z X t a) := by
  unfold tkL_z
  by_cases q : a = t
  · rw [if_pos q]; exact ⟨by omega, fun u => absurd q u⟩
  · rw [if_neg q]
    by_cases h1 : pLt_z (X a) = true
    · rw [if_pos h1]
      have e := en_go_z (t := t) (show a < t by omega) h1
      have := en_le_z (X := X) (P := pLt_z) (t := t) _ (a + 1) rfl (by omega)
      rw [e]; omega
    · rw [if_neg h1]
      by_cases h2 : pDg_z (X a) = true
      · rw [if_pos h2]
        have e := en_go_z (t := t) (show a < t by omega) h2
        have := en_le_z (X := X) (P := pDg_z) (t := t) _ (a + 1) rfl (by omega)
        rw [e]; omega
      · rw [if_neg h2]; omega
/-- LeftBehind's text -/
def Tx_z (s : Me_) (X : Nat → Nat) (t : Nat) : Prop :=
  (s.1 0 5 = nI t) ∧
  (t ≤ 150) ∧
  (∀ i, i < t → s.1 75 i = nI (X i) ∧ X i < 128)
theorem Tx_z.t5 {s : Me_} {X : Nat → Nat} {t : Nat} (h : Tx_z s X t) : s.1 0 5 = nI t := h.1
theorem Tx_z.le {s : Me_} {X : Nat → Nat} {t : Nat} (h : Tx_z s X t) : t ≤ 150 := h.2.1
theorem Tx_z.ch {s : Me_} {X : Nat → Nat} {t : Nat} (h : Tx_z s X t) : ∀ i, i < t → s.1 75 i = nI (X i) ∧ X i < 128 := h.2.2
theorem ms_ms_z (σ : Me_) (i k : Nat) (v w : Int32) : me_set (me_set σ i k v) i k w = me_set σ i k w := by
  rw [ms_arr_z, ms_arr_z, ms_arr_z, ma_same_z, ma_ma_z]
  congr 1
  funext j; unfold upd; split <;> rfl
theorem Tx_z.set {s : Me_} {X : Nat → Nat} {t : Nat} (h : Tx_z s X t) {o : Nat} (k : Nat) (v : Int32) (h0 : o ≠ 0) (h5 : o ≠ 75) : Tx_z (me_set s o k v) X t := ⟨by rw [ms_ne_z _ _ _ (by omega)]; exact h.t5, h.le, fun i hi => by rw [ms_ne_z _ _ _ (by omega)]; exact h.ch i hi⟩
theorem x3_isAt_z {s : Me_} {X : Nat → Nat} {t p lo hi : Nat} (h : Tx_z s X t) (ha : s.1 77 0 = nI p) (hp : p ≤ t) (hlo : lo < 128) (hhi : hi < 128) : F_X3_isAt s (nI lo) (nI hi) = some (bI_z (decide (p < t) && (decide (lo ≤ X p) && decide (X p ≤ hi)))) := by
  have ht := h.le
  unfold F_X3_isAt
  rw [h.t5, ha]
  by_cases q : p < t
  · obtain ⟨e, hx⟩ := h.ch p q
    have hb : inb_ (nI p) 150 = true := by rw [nI_inb_z (by omega)]; omega
    rw [if_neg (by rw [nI_le_z (by omega) (by omega)]; omega), if_pos hb, nI_nat_z (by omega), e]
    have l1 : nI (X p) < nI lo ↔ X p < lo := nI_lt_z (by omega) (by omega)
    have l2 : nI hi < nI (X p) ↔ hi < X p := nI_lt_z (by omega) (by omega)
    by_cases c1 : X p < lo
    · rw [if_pos (l1.mpr c1)]; simp only [show ¬ lo ≤ X p by omega, decide_false, Bool.false_and, Bool.and_false, bI_f_z]
    · rw [if_neg (fun u => c1 (l1.mp u)), if_pos hb]
      by_cases c2 : hi < X p
      · rw [if_pos (l2.mpr c2)]; simp only [show ¬ X p ≤ hi by omega, decide_false, Bool.and_false, bI_f_z]
      · rw [if_neg (fun u => c2 (l2.mp u))]; simp only [q, show lo ≤ X p by omega, show X p ≤ hi by omega, decide_true, Bool.and_self, bI_t_z]
  · rw [if_pos (by rw [nI_le_z (by omega) (by omega)]; omega)]; simp only [q, decide_false, Bool.false_and, bI_f_z]
theorem x3_sp_z {s : Me_} {X : Nat → Nat} {t : Nat} (h : Tx_z s X t) (kk : Me_ → Option Me_) : ∀ d p q, t - p = d → p ≤ t → d < q → F_X3_scans_L0 kk q (me_set s 77 0 (nI p)) = kk (me_set s 77 0 (nI (en_z X pSp_z t p))) := by
  intro d
  induction d with
  | zero =>
    intro p q hd hp hq
    obtain ⟨q, rfl⟩ : ∃ r, q = r + 1 := ⟨q - 1, by omega⟩
    have e32 : (32 : Int32) = nI 32 := rfl
    rw [F_X3_scans_L0, e32, x3_isAt_z (h.set (o := 77) 0 (nI p) (by omega) (by omega)) (by rw [ms_same_z, upd_same_z]) hp (by omega) (by omega), bd_some_z, if_pos ((bI_z_z _).mpr (by simp only [show ¬ p < t by omega, decide_false, Bool.false_and, Bool.false_eq_true, not_false_eq_true])), en_stop_z (fun u => by omega)]
  | succ d ih =>
    intro p q hd hp hq
    obtain ⟨q, rfl⟩ : ∃ r, q = r + 1 := ⟨q - 1, by omega⟩
    have e32 : (32 : Int32) = nI 32 := rfl
    rw [F_X3_scans_L0, e32, x3_isAt_z (h.set (o := 77) 0 (nI p) (by omega) (by omega)) (by rw [ms_same_z, upd_same_z]) hp (by omega) (by omega), bd_some_z]
    by_cases c : X p = 32
    · rw [if_neg (fun u => (bI_z_z _).mp u (by simp only [show p < t by omega, c, decide_true, Nat.le_refl, Bool.and_self])), nm_eq_z, ms_same_z, upd_same_z, nI_s_z, ms_ms_z, ih (p + 1) q (by omega) (by omega) (by omega), en_go_z (p := p) (by omega) (by unfold pSp_z; rw [c]; rfl)]
    · rw [if_pos ((bI_z_z _).mpr (fun u => c (by simp only [Bool.and_eq_true, decide_eq_true_eq] at u; omega))), en_stop_z (fun u => c (by have := u.2; unfold pSp_z at this; exact of_decide_eq_true this))]
theorem x3_lt_z {s : Me_} {X : Nat → Nat} {t : Nat} (h : Tx_z s X t) : ∀ d p q, t - p = d → p ≤ t → d < q → F_X3_scans_L70 q (me_set s 77 0 (nI p)) = some (me_set s 77 0 (nI (en_z X pLt_z t p))) := by
  intro d
  have e97 : (97 : Int32) = nI 97 := rfl
  have e122 : (122 : Int32) = nI 122 := rfl
  induction d with
  | zero =>
    intro p q hd hp hq
    obtain ⟨q, rfl⟩ : ∃ r, q = r + 1 := ⟨q - 1, by omega⟩
    rw [F_X3_scans_L70, e97, e122, x3_isAt_z (h.set (o := 77) 0 (nI p) (by omega) (by omega)) (by rw [ms_same_z, upd_same_z]) hp (by omega) (by omega), bd_some_z, if_pos ((bI_z_z _).mpr (by simp only [show ¬ p < t by omega, decide_false, Bool.false_and, Bool.false_eq_true, not_false_eq_true])), en_stop_z (fun u => by omega)]
  | succ d ih =>
    intro p q hd hp hq
    obtain ⟨q, rfl⟩ : ∃ r, q = r + 1 := ⟨q - 1, by omega⟩
    rw [F_X3_scans_L70, e97, e122, x3_isAt_z (h.set (o := 77) 0 (nI p) (by omega) (by omega)) (by rw [ms_same_z, upd_same_z]) hp (by omega) (by omega), bd_some_z]
    by_cases c : pLt_z (X p) = true
    · have c' := c
      unfold pLt_z at c'
      rw [if_neg (fun u => (bI_z_z _).mp u (by rw [c']; simp only [show p < t by omega, decide_true, Bool.and_self])), nm_eq_z, ms_same_z, upd_same_z, nI_s_z, ms_ms_z, ih (p + 1) q (by omega) (by omega) (by omega), en_go_z (by omega) c]
    · rw [if_pos ((bI_z_z _).mpr (fun u => c (by unfold pLt_z; simp only [Bool.and_eq_true] at u ⊢; exact u.2))), en_stop_z (fun u => c u.2)]

def nst_z (s : Me_) (X : Nat → Nat) (a j : Nat) : Me_ := me_set (me_set s 77 3 (nI (vlD_z X a j))) 77 0 (nI (a + j))
theorem vlD_le_z {X : Nat → Nat} {a : Nat} : ∀ j, (∀ i, i < j → X (a + i) ≤ 57) → vlD_z X a j < 100 ∧ (j ≤ 1 → vlD_z X a j ≤ 9) ∧ (j = 0 → vlD_z X a j = 0) := by
  intro j
  induction j with
  | zero => intro _; exact ⟨show 0 < 100 by decide, fun _ => show 0 ≤ 9 by decide, fun _ => rfl⟩
  | succ j ih =>
    intro h
    have ih := ih (fun i hi => h i (by omega))
    have hx := h j (by omega)
    rw [vlD_z]
    by_cases q : j < 2
    · rw [if_pos q]
      by_cases q0 : j = 0
      · have := ih.2.2 q0; omega
      · have := ih.2.1 (by omega); omega
    · rw [if_neg q]; omega
theorem x3_num_z {s : Me_} {X : Nat → Nat} {t a : Nat} (h : Tx_z s X t) (kk : Int32 → Me_ → Option (Int32 × Me_)) : ∀ d j q, t - (a + j) = d → a + j ≤ t → d < q → (∀ i, i < j → pDg_z (X (a + i)) = true) → F_X3_number_L7 kk q (nI j) (nst_z s X a j) = kk (nI (en_z X pDg_z t (a + j) - a)) (nst_z s X a (en_z X pDg_z t (a + j) - a)) := by
  intro d
  have e48 : (48 : Int32) = nI 48 := rfl
  have e57 : (57 : Int32) = nI 57 := rfl
  have e10 : (10 : Int32) = nI 10 := rfl
  have e2 : (2 : Int32) = nI 2 := rfl
  have ht := h.le
  have hT : ∀ j, Tx_z (nst_z s X a j) X t := fun j => (h.set (o := 77) 3 _ (by omega) (by omega)).set (o := 77) 0 _ (by omega) (by omega)
  have h0 : ∀ j, (nst_z s X a j).1 77 0 = nI (a + j) := fun j => by unfold nst_z; rw [ms_same_z, upd_same_z]
  have h3 : ∀ j, (nst_z s X a j).1 77 3 = nI (vlD_z X a j) := fun j => by unfold nst_z; rw [ms_same_z, upd_ne_z _ _ (by omega), ms_same_z, upd_same_z]
  induction d with
  | zero =>
    intro j q hd hp hq hdg
    obtain ⟨q, rfl⟩ : ∃ r, q = r + 1 := ⟨q - 1, by omega⟩
    rw [F_X3_number_L7, e48, e57, x3_isAt_z (hT j) (h0 j) hp (by omega) (by omega), bd_some_z, if_pos ((bI_z_z _).mpr (by simp only [show ¬ a + j < t by omega, decide_false, Bool.false_and, Bool.false_eq_true, not_false_eq_true])), en_stop_z (fun u => by omega), Nat.add_sub_cancel_left]
  | succ d ih =>
    intro j q hd hp hq hdg
    obtain ⟨q, rfl⟩ : ∃ r, q = r + 1 := ⟨q - 1, by omega⟩
    rw [F_X3_number_L7, e48, e57, x3_isAt_z (hT j) (h0 j) hp (by omega) (by omega), bd_some_z]
    by_cases c : pDg_z (X (a + j)) = true
    · have c' := c
      unfold pDg_z at c'
      have cx : 48 ≤ X (a + j) ∧ X (a + j) ≤ 57 := by simp only [Bool.and_eq_true, decide_eq_true_eq] at c'; exact c'
      have hvl := vlD_le_z (X := X) (a := a) j (fun i hi => by have := hdg i hi; unfold pDg_z at this; simp only [Bool.and_eq_true, decide_eq_true_eq] at this; exact this.2)
      have hnx : ∀ v, v = nI (vlD_z X a (j + 1)) → me_set (me_set (nst_z s X a j) 77 3 v) 77 0 (nI (a + j) + 1) = nst_z s X a (j + 1) := fun v hv => by
        rw [hv, nI_s_z]
        unfold nst_z
        rw [ms_arr_z, ms_arr_z, ms_arr_z, ms_arr_z, ms_arr_z, ms_arr_z]
        simp only [ma_same_z, ma_ma_z]
        congr 1
        funext i; unfold upd
        by_cases i0 : i = 0
        · rw [if_pos i0, if_pos i0]; rfl
        · rw [if_neg i0, if_neg i0]
          by_cases i3 : i = 3
          · rw [if_pos i3, if_neg i0, if_pos i3]
          · rw [if_neg i3, if_neg i0, if_neg i3, if_neg i3]
      have hj := ih (j + 1) q (by omega) (by omega) (by omega) (fun i hi => by
        by_cases e : i = j
        · rw [e]; exact c
        · exact hdg i (by omega))
      have he : en_z X pDg_z t (a + j) = en_z X pDg_z t (a + (j + 1)) := by rw [en_go_z (p := a + j) (by omega) c]; rfl
      rw [if_neg (fun u => (bI_z_z _).mp u (by rw [c']; simp only [show a + j < t by omega, decide_true, Bool.and_self])), nm_eq_z, he, ← hj, h3, h0]
      by_cases q2 : j < 2
      · rw [if_neg (by rw [e2, nI_le_z (by omega) (by omega)]; omega), if_pos (by rw [nI_inb_z (by omega)]; omega), nI_nat_z (by omega), ((hT j).ch (a + j) (by omega)).1, e10, nI_mul_z, nI_add_z, nI_sub_z (by omega)]
        simp only [nm_eq_z]
        rw [show (me_set (nst_z s X a j) 77 3 (nI (10 * vlD_z X a j + X (a + j) - 48))).1 77 0 = nI (a + j) by rw [ms_same_z, upd_ne_z _ _ (by omega)]; exact h0 j, hnx _ (by rw [vlD_z, if_pos q2]; congr 1; omega), nI_s_z]
      · rw [if_pos (by rw [e2, nI_le_z (by omega) (by omega)]; omega)]
        simp only [nm_eq_z]
        rw [show (me_set (nst_z s X a j) 77 3 (nI (vlD_z X a j))).1 77 0 = nI (a + j) by rw [ms_same_z, upd_ne_z _ _ (by omega)]; exact h0 j, hnx _ (by rw [vlD_z, if_neg q2]), nI_s_z]
    · rw [if_pos ((bI_z_z _).mpr (fun u => c (by unfold pDg_z; simp only [Bool.and_eq_true] at u ⊢; exact u.2))), en_stop_z (fun u => c u.2), Nat.add_sub_cancel_left]
/-- LeftBehind's kinds -/
def lbk_z (k : Nat) : Int32 := if k = 0 then 0 else if k = 1 then 4 else if k = 2 then 2 else if k = 3 then 3 else 1
/-- LeftBehind looks at the token at a -/
def Tk_z (s : Me_) (X : Nat → Nat) (t a : Nat) : Prop :=
  (s.1 77 1 = nI a) ∧
  (s.1 77 0 = nI (a + tkL_z X t a)) ∧
  (s.1 77 2 = lbk_z (tkK_z X t a)) ∧
  (tkK_z X t a = 2 → s.1 77 3 = nI (vlD_z X a (tkL_z X t a)))
theorem Tk_z.st {s : Me_} {X : Nat → Nat} {t a : Nat} (h : Tk_z s X t a) : s.1 77 1 = nI a := h.1
theorem Tk_z.aa {s : Me_} {X : Nat → Nat} {t a : Nat} (h : Tk_z s X t a) : s.1 77 0 = nI (a + tkL_z X t a) := h.2.1
theorem Tk_z.tk {s : Me_} {X : Nat → Nat} {t a : Nat} (h : Tk_z s X t a) : s.1 77 2 = lbk_z (tkK_z X t a) := h.2.2.1
theorem Tk_z.vl {s : Me_} {X : Nat → Nat} {t a : Nat} (h : Tk_z s X t a) : tkK_z X t a = 2 → s.1 77 3 = nI (vlD_z X a (tkL_z X t a)) := h.2.2.2
theorem x3_scans_z {s : Me_} {X : Nat → Nat} {t p : Nat} (h : Tx_z s X t) (hp : p ≤ t) (ha : s.1 77 0 = nI p) : ∃ s', F_X3_scans s = some s' ∧ s'.2 = s.2 ∧ (∀ j, j ≠ 77 → s'.1 j = s.1 j) ∧ s'.1 77 4 = s.1 77 4 ∧ Tk_z s' X t (tkA_z X t p) := by
  have ht := h.le
  have ebase : me_set s 77 0 (nI p) = s := by
    rw [ms_arr_z, ← ha]
    have : upd (s.1 77) 0 (s.1 77 0) = s.1 77 := by
      funext i; unfold upd; split
      · rename_i e; rw [e]
      · rfl
    rw [this, ma_self_z]
  have hsp := fun kk => x3_sp_z h kk (t - p) p FU_ rfl hp (fu_lt_z (by omega))
  rw [ebase] at hsp
  unfold F_X3_scans
  rw [nm_eq_z, hsp]
  have hA := en_le_z (X := X) (P := pSp_z) (t := t) _ p rfl hp
  show ∃ s', _ ∧ _ ∧ _ ∧ _ ∧ Tk_z s' X t (en_z X pSp_z t p)
  generalize en_z X pSp_z t p = a at *
  simp only [nm_eq_z]
  rw [show (me_set s 77 0 (nI a)).1 77 0 = nI a by rw [ms_same_z, upd_same_z]]
  generalize hs2 : me_set (me_set s 77 0 (nI a)) 77 1 (nI a) = s2
  have o2 : ∀ j, j ≠ 77 → s2.1 j = s.1 j := fun j e => by rw [← hs2, ms_ne_z _ _ _ e, ms_ne_z _ _ _ e]
  have f2 : ∀ k, k ≠ 0 → k ≠ 1 → s2.1 77 k = s.1 77 k := fun k e0 e1 => by rw [← hs2, ms_same_z, upd_ne_z _ _ e1, ms_same_z, upd_ne_z _ _ e0]
  have g0 : s2.1 77 0 = nI a := by rw [← hs2, ms_same_z, upd_ne_z _ _ (by omega), ms_same_z, upd_same_z]
  have g1 : s2.1 77 1 = nI a := by rw [← hs2, ms_same_z, upd_same_z]
  have hT2 : Tx_z s2 X t := by rw [← hs2]; exact (h.set (o := 77) 0 _ (by omega) (by omega)).set (o := 77) 1 _ (by omega) (by omega)
  have s22 : s2.2 = s.2 := by rw [← hs2]; rfl
  rw [g0, hT2.t5]
  have hae : nI a = nI t ↔ a = t := nI_inj_z (by omega) (by omega)
  by_cases c0 : a = t
  · rw [if_pos (hae.mpr c0)]
    have k0 : tkK_z X t a = 0 := if_pos c0
    have l0 : tkL_z X t a = 0 := if_pos c0
    refine ⟨_, rfl, by rw [ms_2_z, s22], fun j e => by rw [ms_ne_z _ _ _ e, o2 j e], by rw [ms_same_z, upd_ne_z _ _ (by omega), f2 4 (by omega) (by omega)], ⟨?_, ?_, ?_, ?_⟩⟩
    · rw [ms_same_z, upd_ne_z _ _ (by omega)]; exact g1
    · rw [ms_same_z, upd_ne_z _ _ (by omega), l0]; exact g0
    · rw [ms_same_z, upd_same_z, k0]; rfl
    · intro u; rw [k0] at u; cases u
  rw [if_neg (fun u => c0 (hae.mp u))]
  have e97 : (97 : Int32) = nI 97 := rfl
  have e122 : (122 : Int32) = nI 122 := rfl
  have e48 : (48 : Int32) = nI 48 := rfl
  have e57 : (57 : Int32) = nI 57 := rfl
  have e59 : (59 : Int32) = nI 59 := rfl
  rw [e97, e122, x3_isAt_z hT2 g0 hA.2 (by omega) (by omega), bd_some_z]
  have hlt : (decide (a < t) && (decide (97 ≤ X a) && decide (X a ≤ 122))) = pLt_z (X a) := by simp only [show a < t by omega, decide_true, Bool.true_and]; rfl
  rw [hlt]
  by_cases c1 : pLt_z (X a) = true
  · rw [if_neg (fun u => (bI_z_z _).mp u c1)]
    have k0 : tkK_z X t a = 1 := by unfold tkK_z; rw [if_neg c0, if_pos c1]
    have l0 : tkL_z X t a = en_z X pLt_z t a - a := by unfold tkL_z; rw [if_neg c0, if_pos c1]
    have hE := en_le_z (X := X) (P := pLt_z) (t := t) _ a rfl hA.2
    have hb : me_set (me_set s2 77 2 4) 77 0 (nI a) = me_set s2 77 2 4 := by
      rw [ms_arr_z, ms_same_z]
      have : upd (upd (s2.1 77) 2 4) 0 (nI a) = upd (s2.1 77) 2 4 := by
        funext i; unfold upd; by_cases i0 : i = 0
        · rw [if_pos i0, i0, if_neg (by omega), g0]
        · rw [if_neg i0]
      rw [this, ms_arr_z, ma_ma_z]
    have L := x3_lt_z (hT2.set (o := 77) 2 4 (by omega) (by omega)) (t - a) a FU_ rfl hA.2 (fu_lt_z (by omega))
    rw [hb] at L
    refine ⟨_, L, by rw [ms_2_z, ms_2_z, s22], fun j e => by rw [ms_ne_z _ _ _ e, ms_ne_z _ _ _ e, o2 j e], by rw [ms_same_z, upd_ne_z _ _ (by omega), ms_same_z, upd_ne_z _ _ (by omega), f2 4 (by omega) (by omega)], ⟨?_, ?_, ?_, ?_⟩⟩
    · rw [ms_same_z, upd_ne_z _ _ (by omega), ms_same_z, upd_ne_z _ _ (by omega)]; exact g1
    · rw [ms_same_z, upd_same_z, l0]; congr 1; omega
    · rw [ms_same_z, upd_ne_z _ _ (by omega), ms_same_z, upd_same_z, k0]; rfl
    · intro u; rw [k0] at u; cases u
  rw [if_pos ((bI_z_z _).mpr c1), e48, e57, x3_isAt_z hT2 g0 hA.2 (by omega) (by omega), bd_some_z]
  have hdg : (decide (a < t) && (decide (48 ≤ X a) && decide (X a ≤ 57))) = pDg_z (X a) := by simp only [show a < t by omega, decide_true, Bool.true_and]; rfl
  rw [hdg]
  by_cases c2 : pDg_z (X a) = true
  · rw [if_neg (fun u => (bI_z_z _).mp u c2)]
    have l0 : tkL_z X t a = en_z X pDg_z t a - a := by unfold tkL_z; rw [if_neg c0, if_neg c1, if_pos c2]
    have hE := en_le_z (X := X) (P := pDg_z) (t := t) _ a rfl hA.2
    have hns : nst_z s2 X a 0 = me_set s2 77 3 0 := by
      unfold nst_z
      rw [ms_arr_z, ms_same_z]
      have : upd (upd (s2.1 77) 3 (nI (vlD_z X a 0))) 0 (nI (a + 0)) = upd (s2.1 77) 3 0 := by
        funext i; unfold upd; by_cases i0 : i = 0
        · rw [if_pos i0, i0, if_neg (by omega), Nat.add_zero, g0]
        · rw [if_neg i0]; rfl
      rw [this, ms_arr_z, ma_ma_z]; rfl
    have L := fun kk => x3_num_z (a := a) hT2 kk (t - (a + 0)) 0 FU_ rfl (by omega) (fu_lt_z (by omega)) (fun i hi => absurd hi (Nat.not_lt_zero _))
    rw [hns, Nat.add_zero, ← l0] at L
    have hN : F_X3_number s2 = some (if tkL_z X t a ≤ 2 then 2 else 1, nst_z s2 X a (tkL_z X t a)) := by
      unfold F_X3_number
      have hl := (tkL_le_z (X := X) hA.2).1
      have hle : nI (tkL_z X t a) ≤ 2 ↔ tkL_z X t a ≤ 2 := by rw [nI_lit_z, nI_le_z (by omega) (by omega)]
      rw [nm_eq_z, nm_eq_z]
      refine Eq.trans (L _) ?_
      by_cases q : tkL_z X t a ≤ 2
      · rw [if_pos (hle.mpr q), if_pos q]
      · rw [if_neg (fun u => q (hle.mp u)), if_neg q]
    rw [hN, bi_some_z]
    have k0 : tkK_z X t a = if tkL_z X t a ≤ 2 then 2 else 4 := by rw [l0]; unfold tkK_z; rw [if_neg c0, if_neg c1, if_pos c2]
    refine ⟨_, rfl, by rw [ms_2_z, ← s22]; rfl, fun j e => by unfold nst_z; rw [ms_ne_z _ _ _ e, ms_ne_z _ _ _ e, ms_ne_z _ _ _ e, o2 j e], by unfold nst_z; rw [ms_same_z, upd_ne_z _ _ (by omega), ms_same_z, upd_ne_z _ _ (by omega), ms_same_z, upd_ne_z _ _ (by omega), f2 4 (by omega) (by omega)], ⟨?_, ?_, ?_, ?_⟩⟩
    · unfold nst_z; rw [ms_same_z, upd_ne_z _ _ (by omega), ms_same_z, upd_ne_z _ _ (by omega), ms_same_z, upd_ne_z _ _ (by omega)]; exact g1
    · unfold nst_z; rw [ms_same_z, upd_ne_z _ _ (by omega), ms_same_z, upd_same_z]
    · rw [ms_same_z, upd_same_z, k0]
      by_cases q : tkL_z X t a ≤ 2
      · rw [if_pos q, if_pos q]; rfl
      · rw [if_neg q, if_neg q]; rfl
    · intro _; unfold nst_z; rw [ms_same_z, upd_ne_z _ _ (by omega), ms_same_z, upd_ne_z _ _ (by omega), ms_same_z, upd_same_z]
  rw [if_pos ((bI_z_z _).mpr c2), e59, x3_isAt_z hT2 g0 hA.2 (by omega) (by omega), bd_some_z]
  have l0 : tkL_z X t a = 1 := by unfold tkL_z; rw [if_neg c0, if_neg c1, if_neg c2]
  have k0 : tkK_z X t a = if X a = 59 then 3 else 4 := by unfold tkK_z; rw [if_neg c0, if_neg c1, if_neg c2]
  have hsc : (bI_z (decide (a < t) && (decide (59 ≤ X a) && decide (X a ≤ 59))) = 0) ↔ ¬ X a = 59 := by
    rw [bI_z_z]; simp only [Bool.and_eq_true, decide_eq_true_eq]; omega
  refine ⟨_, rfl, by rw [ms_2_z, ms_2_z, s22], fun j e => by rw [ms_ne_z _ _ _ e, ms_ne_z _ _ _ e, o2 j e], by rw [ms_same_z, upd_ne_z _ _ (by omega), ms_same_z, upd_ne_z _ _ (by omega), f2 4 (by omega) (by omega)], ⟨?_, ?_, ?_, ?_⟩⟩
  · rw [ms_same_z, upd_ne_z _ _ (by omega), ms_same_z, upd_ne_z _ _ (by omega)]; exact g1
  · rw [ms_same_z, upd_same_z, ms_same_z, upd_ne_z _ _ (by omega), g0, l0, nI_s_z]
  · rw [ms_same_z, upd_ne_z _ _ (by omega), ms_same_z, upd_same_z, k0]
    by_cases q : X a = 59
    · rw [if_neg (fun u => hsc.mp u q), if_pos q]; rfl
    · rw [if_pos (hsc.mpr q), if_neg q]; rfl
  · intro u; rw [k0] at u; split at u <;> cases u
