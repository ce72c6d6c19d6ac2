set_option maxRecDepth 100000
set_option linter.unusedSimpArgs false
set_option linter.unusedVariables false
/-! PURE A: numbers -/
theorem nI_lit_z (n : Nat) : (OfNat.ofNat n : Int32) = nI (OfNat.ofNat n) := rfl
theorem nI_add_z (a b : Nat) : nI a + nI b = nI (a + b) := (Int32.ofNat_add a b).symm
theorem nI_mul_z (a b : Nat) : nI a * nI b = nI (a * b) := (Int32.ofNat_mul a b).symm
theorem nI_int_z {a : Nat} (h : a < 2147483648) : (nI a).toInt = a := Int32.toInt_ofNat_of_lt (by simpa using h)
theorem nI_nat_z {a : Nat} (h : a < 2147483648) : (nI a).toNatClampNeg = a := by
  rw [Int32.toNatClampNeg, nI_int_z h]; rfl
theorem nI_le_z {a b : Nat} (ha : a < 2147483648) (hb : b < 2147483648) : (nI a ≤ nI b) ↔ a ≤ b := by
  rw [Int32.le_iff_toInt_le, nI_int_z ha, nI_int_z hb]; omega
theorem nI_lt_z {a b : Nat} (ha : a < 2147483648) (hb : b < 2147483648) : (nI a < nI b) ↔ a < b := by
  rw [Int32.lt_iff_toInt_lt, nI_int_z ha, nI_int_z hb]; omega
theorem nI_inj_z {a b : Nat} (ha : a < 2147483648) (hb : b < 2147483648) : (nI a = nI b) ↔ a = b := by
  constructor
  · intro h
    have := congrArg Int32.toInt h
    rw [nI_int_z ha, nI_int_z hb] at this; omega
  · intro h; rw [h]
theorem nI_sub_z {a b : Nat} (h : b ≤ a) : nI a - nI b = nI (a - b) := by
  have : nI a = nI (a - b) + nI b := by rw [nI_add_z]; congr 1; omega
  rw [this]
  exact Int32.add_sub_cancel _ _
theorem nI_inb_z {a N : Nat} (ha : a < 2147483648) : (inb_ (nI a) N = true) ↔ a < N := by
  have : ¬ nI a < 0 := by rw [nI_lit_z, nI_lt_z ha (by decide)]; exact Nat.not_lt_zero _
  simp [inb_, this, nI_nat_z ha]
theorem i_sub1_z (x y : Int32) : (x - 1 = y) ↔ (x = y + 1) := by
  constructor
  · intro h; rw [← h]; exact (Int32.sub_add_cancel _ _).symm
  · intro h; rw [h]; exact Int32.add_sub_cancel _ _
theorem i_add1s_z (x : Int32) : x + 1 - 1 = x := Int32.add_sub_cancel _ _
theorem i_sub1a_z (x : Int32) : x - 1 + 1 = x := Int32.sub_add_cancel _ _
theorem loop_up_z {S ρ : Type} (L : Nat → S → Option ρ) (st : Nat → S) (res : Option ρ) (n : Nat) (hend : ∀ fuel, L (fuel + 1) (st n) = res) (hstep : ∀ k fuel, k < n → L (fuel + 1) (st k) = L fuel (st (k + 1))) : ∀ fuel k, k ≤ n → n - k < fuel → L fuel (st k) = res := by
  intro fuel
  induction fuel with
  | zero => intro k _ h; omega
  | succ q ih =>
    intro k hk hf
    by_cases h : k = n
    · subst h; exact hend q
    · rw [hstep k q (by omega)]; exact ih (k + 1) (by omega) (by omega)
theorem loop1_z {A ρ : Type} (L : Nat → A → Option ρ) (s0 : Nat → A) (res : Option ρ) (n : Nat) (hend : ∀ fuel, L (fuel + 1) (s0 n) = res) (hstep : ∀ k fuel, k < n → L (fuel + 1) (s0 k) = L fuel (s0 (k + 1))) : ∀ fuel k, k ≤ n → n - k < fuel → L fuel (s0 k) = res := by
  intro fuel
  induction fuel with
  | zero => intro k _ h; omega
  | succ q ih =>
    intro k hk hf
    by_cases h : k = n
    · subst h; exact hend q
    · rw [hstep k q (by omega)]; exact ih (k + 1) (by omega) (by omega)
theorem loop2_z {A B ρ : Type} (L : Nat → A → B → Option ρ) (s0 : Nat → A) (s1 : Nat → B) (res : Option ρ) (n : Nat) (hend : ∀ fuel, L (fuel + 1) (s0 n) (s1 n) = res) (hstep : ∀ k fuel, k < n → L (fuel + 1) (s0 k) (s1 k) = L fuel (s0 (k + 1)) (s1 (k + 1))) : ∀ fuel k, k ≤ n → n - k < fuel → L fuel (s0 k) (s1 k) = res := by
  intro fuel
  induction fuel with
  | zero => intro k _ h; omega
  | succ q ih =>
    intro k hk hf
    by_cases h : k = n
    · subst h; exact hend q
    · rw [hstep k q (by omega)]; exact ih (k + 1) (by omega) (by omega)
theorem loop3_z {A B C ρ : Type} (L : Nat → A → B → C → Option ρ) (s0 : Nat → A) (s1 : Nat → B) (s2 : Nat → C) (res : Option ρ) (n : Nat) (hend : ∀ fuel, L (fuel + 1) (s0 n) (s1 n) (s2 n) = res) (hstep : ∀ k fuel, k < n → L (fuel + 1) (s0 k) (s1 k) (s2 k) = L fuel (s0 (k + 1)) (s1 (k + 1)) (s2 (k + 1))) : ∀ fuel k, k ≤ n → n - k < fuel → L fuel (s0 k) (s1 k) (s2 k) = res := by
  intro fuel
  induction fuel with
  | zero => intro k _ h; omega
  | succ q ih =>
    intro k hk hf
    by_cases h : k = n
    · subst h; exact hend q
    · rw [hstep k q (by omega)]; exact ih (k + 1) (by omega) (by omega)
theorem loop4_z {A B C D ρ : Type} (L : Nat → A → B → C → D → Option ρ) (s0 : Nat → A) (s1 : Nat → B) (s2 : Nat → C) (s3 : Nat → D) (res : Option ρ) (n : Nat) (hend : ∀ fuel, L (fuel + 1) (s0 n) (s1 n) (s2 n) (s3 n) = res) (hstep : ∀ k fuel, k < n → L (fuel + 1) (s0 k) (s1 k) (s2 k) (s3 k) = L fuel (s0 (k + 1)) (s1 (k + 1)) (s2 (k + 1)) (s3 (k + 1))) : ∀ fuel k, k ≤ n → n - k < fuel → L fuel (s0 k) (s1 k) (s2 k) (s3 k) = res := by
  intro fuel
  induction fuel with
  | zero => intro k _ h; omega
  | succ q ih =>
    intro k hk hf
    by_cases h : k = n
    · subst h; exact hend q
    · rw [hstep k q (by omega)]; exact ih (k + 1) (by omega) (by omega)
theorem loop5_z {A B C D E ρ : Type} (L : Nat → A → B → C → D → E → Option ρ) (s0 : Nat → A) (s1 : Nat → B) (s2 : Nat → C) (s3 : Nat → D) (s4 : Nat → E) (res : Option ρ) (n : Nat) (hend : ∀ fuel, L (fuel + 1) (s0 n) (s1 n) (s2 n) (s3 n) (s4 n) = res) (hstep : ∀ k fuel, k < n → L (fuel + 1) (s0 k) (s1 k) (s2 k) (s3 k) (s4 k) = L fuel (s0 (k + 1)) (s1 (k + 1)) (s2 (k + 1)) (s3 (k + 1)) (s4 (k + 1))) : ∀ fuel k, k ≤ n → n - k < fuel → L fuel (s0 k) (s1 k) (s2 k) (s3 k) (s4 k) = res := by
  intro fuel
  induction fuel with
  | zero => intro k _ h; omega
  | succ q ih =>
    intro k hk hf
    by_cases h : k = n
    · subst h; exact hend q
    · rw [hstep k q (by omega)]; exact ih (k + 1) (by omega) (by omega)
theorem nm_eq_z {α β : Type} (a : α) (f : α → β) : nm_ a f = f a := Eq.trans (Eq.refl (nm_ a f)) (Eq.refl (f a))
theorem fu_lt_z {n : Nat} (h : n < 100000) : n < FU_ := h
/-- in range -/
theorem lc_lt_z (x y : Int64) : (lg_cmp x y < 0) ↔ x < y := by
  unfold lg_cmp
  simp only [Int64.lt_iff_toInt_lt, GT.gt]
  split
  · rename_i h; constructor
    · intro q; exact absurd q (by decide)
    · intro q; omega
  · split
    · rename_i h; subst h; constructor
      · intro q; exact absurd q (by decide)
      · intro q; omega
    · rename_i h1 h2
      constructor
      · intro _
        have : x.toInt ≠ y.toInt := fun q => h2 (Int64.toInt_inj.mp q)
        omega
      · intro _; decide
theorem lc_gt_z (x y : Int64) : (0 < lg_cmp x y) ↔ y < x := by
  unfold lg_cmp
  simp only [Int64.lt_iff_toInt_lt, GT.gt]
  split
  · rename_i h; exact ⟨fun _ => h, fun _ => by decide⟩
  · rename_i h; split
    · exact ⟨fun q => absurd q (by decide), fun q => absurd q h⟩
    · exact ⟨fun q => absurd q (by decide), fun q => absurd q h⟩
theorem lc_eq_z (x y : Int64) : (lg_cmp x y = 0) ↔ x = y := by
  unfold lg_cmp
  simp only [Int64.lt_iff_toInt_lt, GT.gt]
  split
  · rename_i h; exact ⟨fun q => absurd q (by decide), fun q => by subst q; omega⟩
  · rename_i h; split
    · rename_i g; exact ⟨fun _ => g, fun _ => rfl⟩
    · rename_i g; exact ⟨fun q => absurd q (by decide), fun q => absurd q g⟩
theorem in06_z : F_X0_in = F_X6_in := rfl
theorem in_eq_z (x : Int32) (lo hi : Int64) : F_X6_in x.toInt64 lo hi = if lo.toInt ≤ x.toInt ∧ x.toInt ≤ hi.toInt then 1 else 0 := by
  unfold F_X6_in
  simp only [lc_lt_z, lc_gt_z, Int64.lt_iff_toInt_lt, Int32.toInt_toInt64]
  split
  · rw [if_neg (by omega)]
  · split
    · rw [if_neg (by omega)]
    · rw [if_pos (by omega)]
theorem in_and_z (x : Int32) (lo hi : Int64) : (F_X6_in x.toInt64 lo hi &&& 1) = F_X6_in x.toInt64 lo hi := by
  rw [in_eq_z]; split <;> decide
theorem in_no_z (x : Int32) (lo hi : Int64) : (F_X6_in x.toInt64 lo hi = 0) ↔ ¬ (lo.toInt ≤ x.toInt ∧ x.toInt ≤ hi.toInt) := by
  rw [in_eq_z]; split
  · rename_i h; exact ⟨fun q => absurd q (by decide), fun q => absurd h q⟩
  · rename_i h; exact ⟨fun _ => h, fun _ => rfl⟩
theorem i_nat_z {x : Int32} (h : 0 ≤ x.toInt) : ∃ k, k < 2147483648 ∧ x = nI k ∧ (k : Int) = x.toInt := by
  refine ⟨x.toInt.toNat, ?_, ?_, ?_⟩
  · have := Int32.toInt_lt x; omega
  · apply Int32.toInt_inj.mp
    rw [nI_int_z (by have := Int32.toInt_lt x; omega)]; omega
  · omega
theorem nI_pred64_z {n : Nat} (h : n < 1000) : ((nI n - 1 : Int32).toInt64).toInt = (n : Int) - 1 := by
  rw [Int32.toInt_toInt64]
  cases n with
  | zero => decide
  | succ k =>
    have : (1 : Int32) = nI 1 := rfl
    rw [this, nI_sub_z (by omega), nI_int_z (by omega)]; omega
theorem in_ok_z {x : Int32} {lo hi : Int64} (h : ¬ F_X6_in x.toInt64 lo hi = 0) : lo.toInt ≤ x.toInt ∧ x.toInt ≤ hi.toInt := by
  rw [in_no_z] at h; exact Classical.not_not.mp h
theorem in_okn_z {x : Int32} {n : Nat} (hn : n < 1000) (h : ¬ F_X6_in x.toInt64 (0 : Int64) ((nI n - 1 : Int32).toInt64) = 0) : ∃ k, k < n ∧ x = nI k := by
  have := in_ok_z h
  rw [nI_pred64_z hn] at this
  have h0 : (0 : Int64).toInt = 0 := by decide
  obtain ⟨k, _, e, q⟩ := i_nat_z (x := x) (by omega)
  exact ⟨k, by omega, e⟩
theorem in_oka_z {x : Int32} {lo hi : Int64} {a b : Nat} (hl : lo.toInt = a) (hh : hi.toInt = b) (h : ¬ F_X6_in x.toInt64 lo hi = 0) : ∃ k, a ≤ k ∧ k ≤ b ∧ x = nI k := by
  have := in_ok_z h
  obtain ⟨k, _, e, q⟩ := i_nat_z (x := x) (by omega)
  exact ⟨k, by omega, by omega, e⟩
/-! memory -/
theorem ma_same_z (σ : Me_) (i : Nat) (f : Nat → Int32) : (me_arr σ i f).1 i = f := if_pos rfl
theorem ma_ne_z (σ : Me_) {i j : Nat} (f : Nat → Int32) (h : j ≠ i) : (me_arr σ i f).1 j = σ.1 j := if_neg h
theorem ma_2_z (σ : Me_) (i : Nat) (f : Nat → Int32) : (me_arr σ i f).2 = σ.2 := rfl
theorem ms_arr_z (σ : Me_) (i k : Nat) (v : Int32) : me_set σ i k v = me_arr σ i (upd (σ.1 i) k v) := rfl
theorem ma_ma_z (σ : Me_) (i : Nat) (f g : Nat → Int32) : me_arr (me_arr σ i f) i g = me_arr σ i g := by
  unfold me_arr
  refine Prod.ext ?_ rfl
  funext j
  show (if j = i then g else if j = i then f else σ.1 j) = (if j = i then g else σ.1 j)
  split <;> rfl
theorem ma_self_z (σ : Me_) (i : Nat) : me_arr σ i (σ.1 i) = σ := by
  unfold me_arr
  refine Prod.ext ?_ rfl
  funext j
  show (if j = i then σ.1 i else σ.1 j) = _
  split
  · rename_i h; rw [h]
  · rfl
theorem upd_same_z (f : Nat → Int32) (k : Nat) (x : Int32) : upd f k x k = x := if_pos rfl
theorem upd_ne_z (f : Nat → Int32) {k j : Nat} (x : Int32) (h : j ≠ k) : upd f k x j = f j := if_neg h
theorem cp_upd_z (f g : Nat → Int32) (k : Nat) : upd (cp_ f g k) k (f k) = cp_ f g (k + 1) := by
  funext j
  unfold upd cp_
  by_cases h : j = k
  · rw [if_pos h, if_pos (by omega), h]
  · rw [if_neg h]
    by_cases q : j < k
    · rw [if_pos q, if_pos (by omega)]
    · rw [if_neg q, if_neg (by omega)]
theorem cp_zero_z (f g : Nat → Int32) : cp_ f g 0 = g := by
  funext j; exact if_neg (Nat.not_lt_zero _)
