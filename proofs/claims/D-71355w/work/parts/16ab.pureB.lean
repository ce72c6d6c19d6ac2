set_option maxRecDepth 100000
set_option linter.unusedSimpArgs false
set_option linter.unusedVariables false
/-! PURE B: an island's state: who is where, calls -/
def Iv_z (T : Nat → Int32) (n f : Nat) : Prop :=
  (n ≤ 8) ∧
  (f ≤ 3) ∧
  (T 0 = nI n) ∧
  (T 1 = nI f) ∧
  (∀ m, m < n → ∃ p, p ≤ f ∧ T (6 + m) = nI p) ∧
  (∀ h, h < f → ∃ c, c ≤ 99 ∧ T (14 + h) = nI c) ∧
  (∀ h, h < 3 → f ≤ h → T (14 + h) = 0) ∧
  (∀ h, h < f → ∃ k, k < 6 ∧ T (17 + h) = nI k) ∧
  (∀ m, m < n → ∃ k, k < 6 ∧ T (20 + m) = nI k) ∧
  (∀ m, m < n → ∃ k, 1 ≤ k ∧ k ≤ 9 ∧ T (28 + m) = nI k)
theorem Iv_z.n8 {T : Nat → Int32} {n f : Nat} (h : Iv_z T n f) : n ≤ 8 := h.1
theorem Iv_z.f3 {T : Nat → Int32} {n f : Nat} (h : Iv_z T n f) : f ≤ 3 := h.2.1
theorem Iv_z.t0 {T : Nat → Int32} {n f : Nat} (h : Iv_z T n f) : T 0 = nI n := h.2.2.1
theorem Iv_z.t1 {T : Nat → Int32} {n f : Nat} (h : Iv_z T n f) : T 1 = nI f := h.2.2.2.1
theorem Iv_z.pl {T : Nat → Int32} {n f : Nat} (h : Iv_z T n f) : ∀ m, m < n → ∃ p, p ≤ f ∧ T (6 + m) = nI p := h.2.2.2.2.1
theorem Iv_z.cl {T : Nat → Int32} {n f : Nat} (h : Iv_z T n f) : ∀ h, h < f → ∃ c, c ≤ 99 ∧ T (14 + h) = nI c := h.2.2.2.2.2.1
theorem Iv_z.cz {T : Nat → Int32} {n f : Nat} (h : Iv_z T n f) : ∀ h, h < 3 → f ≤ h → T (14 + h) = 0 := h.2.2.2.2.2.2.1
theorem Iv_z.so {T : Nat → Int32} {n f : Nat} (h : Iv_z T n f) : ∀ h, h < f → ∃ k, k < 6 ∧ T (17 + h) = nI k := h.2.2.2.2.2.2.2.1
theorem Iv_z.kd {T : Nat → Int32} {n f : Nat} (h : Iv_z T n f) : ∀ m, m < n → ∃ k, k < 6 ∧ T (20 + m) = nI k := h.2.2.2.2.2.2.2.2.1
theorem Iv_z.sk {T : Nat → Int32} {n f : Nat} (h : Iv_z T n f) : ∀ m, m < n → ∃ k, 1 ≤ k ∧ k ≤ 9 ∧ T (28 + m) = nI k := h.2.2.2.2.2.2.2.2.2
def Sr_z (σ : Me_) (b s : Nat) (T : Nat → Int32) (n f : Nat) : Prop :=
  (σ.1 b 4 = nI n) ∧
  (σ.1 b 1 = nI f) ∧
  (∀ m, m < n → σ.1 (s + 1) m = T (6 + m) - 1) ∧
  (∀ h, h < f → σ.1 (s + 2) h = T (14 + h)) ∧
  (∀ h, h < f → σ.1 (b + 1) h = T (17 + h)) ∧
  (∀ m, m < n → σ.1 (b + 2) m = T (20 + m)) ∧
  (∀ m, m < n → σ.1 (b + 3) m = T (28 + m))
theorem Sr_z.e4 {σ : Me_} {b s : Nat} {T : Nat → Int32} {n f : Nat} (h : Sr_z σ b s T n f) : σ.1 b 4 = nI n := h.1
theorem Sr_z.e1 {σ : Me_} {b s : Nat} {T : Nat → Int32} {n f : Nat} (h : Sr_z σ b s T n f) : σ.1 b 1 = nI f := h.2.1
theorem Sr_z.pl {σ : Me_} {b s : Nat} {T : Nat → Int32} {n f : Nat} (h : Sr_z σ b s T n f) : ∀ m, m < n → σ.1 (s + 1) m = T (6 + m) - 1 := h.2.2.1
theorem Sr_z.cl {σ : Me_} {b s : Nat} {T : Nat → Int32} {n f : Nat} (h : Sr_z σ b s T n f) : ∀ h, h < f → σ.1 (s + 2) h = T (14 + h) := h.2.2.2.1
theorem Sr_z.so {σ : Me_} {b s : Nat} {T : Nat → Int32} {n f : Nat} (h : Sr_z σ b s T n f) : ∀ h, h < f → σ.1 (b + 1) h = T (17 + h) := h.2.2.2.2.1
theorem Sr_z.kd {σ : Me_} {b s : Nat} {T : Nat → Int32} {n f : Nat} (h : Sr_z σ b s T n f) : ∀ m, m < n → σ.1 (b + 2) m = T (20 + m) := h.2.2.2.2.2.1
theorem Sr_z.sk {σ : Me_} {b s : Nat} {T : Nat → Int32} {n f : Nat} (h : Sr_z σ b s T n f) : ∀ m, m < n → σ.1 (b + 3) m = T (28 + m) := h.2.2.2.2.2.2
def cnt_z (T : Nat → Int32) (p : Int32) : Nat → Nat
  | 0 => 0
  | k + 1 => cnt_z T p k + if T (6 + k) = p then 1 else 0
def bst_z (T : Nat → Int32) (p : Int32) : Nat → Nat
  | 0 => 0
  | k + 1 => bst_z T p k + if T (6 + k) = p then 2 ^ k else 0
def sks_z (T : Nat → Int32) (p : Int32) : Nat → Int32
  | 0 => 0
  | k + 1 => sks_z T p k + if T (6 + k) = p then T (28 + k) else 0
theorem cnt_le_z (T : Nat → Int32) (p : Int32) (k : Nat) : cnt_z T p k ≤ k := by
  induction k with
  | zero => exact Nat.le_refl _
  | succ k ih => unfold cnt_z; split <;> omega
theorem bst_lt_z (T : Nat → Int32) (p : Int32) (k : Nat) : bst_z T p k < 2 ^ k := by
  induction k with
  | zero => exact Nat.one_pos
  | succ k ih => unfold bst_z; rw [Nat.pow_succ]; split <;> omega
theorem x6_aboard_z {σ : Me_} {o n0 n f : Nat} {T : Nat → Int32} (hT : σ.1 o = T) (h : Iv_z T n f) (hn : 36 ≤ n0) (x1 : Int32) : F_X6_aboard σ o n0 x1 = some (nI (cnt_z T (x1 + 1) n)) := by
  have hn8 := h.n8
  unfold F_X6_aboard
  refine loop2_z (F_X6_aboard_L4 σ o n0 x1) (fun k => nI (cnt_z T (x1 + 1) k)) (fun k => nI k) _ n ?_ ?_ FU_ 0 (Nat.zero_le _) (fu_lt_z (by omega))
  · intro q
    simp (disch := omega) only [nI_lit_z, nI_add_z, nI_mul_z, nI_le_z, nI_lt_z, nI_inj_z, nI_inb_z, nI_nat_z, nm_eq_z, F_X6_aboard_L4, hT, h.t0]
    rw [if_pos (by omega), if_pos (by omega)]
  · intro k q hk
    have hc := cnt_le_z T (x1 + 1) k
    simp (disch := omega) only [nI_lit_z, nI_add_z, nI_mul_z, nI_le_z, nI_lt_z, nI_inj_z, nI_inb_z, nI_nat_z, nm_eq_z, F_X6_aboard_L4, hT, h.t0]
    rw [if_pos (by omega), if_neg (by omega), if_pos (by omega)]
    congr 1
    rw [cnt_z]
    split <;> simp (disch := omega) only [nI_lit_z, nI_add_z, nI_mul_z, nI_le_z, nI_lt_z, nI_inj_z, nI_inb_z, nI_nat_z, nm_eq_z]
theorem nI_s_z (k : Nat) : nI k + 1 = nI (k + 1) := nI_add_z k 1
theorem b_or_z : ∀ k, k < 8 → ∀ x, x < 2 ^ k → nI x ||| ((1 : Int32) <<< (nI k &&& 31)) = nI (x + 2 ^ k) := by decide +kernel
theorem b_or0_z (x : Int32) : x ||| 0 = x := Int32.or_zero
theorem x1_at_z {σ : Me_} {b s n f : Nat} {T : Nat → Int32} (h : Iv_z T n f) (g : Sr_z σ b s T n f) (x : Int32) : F_X1_at σ b s x = some (nI (bst_z T (x + 1) n)) := by
  have hn8 := h.n8
  unfold F_X1_at
  refine loop2_z (F_X1_at_L5 σ b s x) (fun k => nI (bst_z T (x + 1) k)) (fun k => nI k) _ n ?_ ?_ FU_ 0 (Nat.zero_le _) (fu_lt_z (by omega))
  · intro q
    simp (disch := omega) only [nI_lit_z, nI_add_z, nI_mul_z, nI_le_z, nI_lt_z, nI_inj_z, nI_inb_z, nI_nat_z, nm_eq_z, F_X1_at_L5, g.e4]
    rw [if_pos (by omega)]
  · intro k q hk
    have hc := bst_lt_z T (x + 1) k
    have e : σ.1 (s + 1) k = T (6 + k) - 1 := g.pl k hk
    simp (disch := omega) only [F_X1_at_L5, g.e4, nI_le_z, nI_inb_z, nI_nat_z, nm_eq_z, e, i_sub1_z, nI_s_z]
    rw [if_neg (by omega), if_pos (by omega)]
    rw [bst_z]
    by_cases q : T (6 + k) = x + 1
    · simp only [q, if_true]
      rw [b_or_z k (by omega) _ hc]
    · simp only [q, if_false]
      rw [b_or0_z]; rfl
theorem x6_crewOf_z {σ : Me_} {n f : Nat} {T : Nat → Int32} (hT : σ.1 91 = T) (h : Iv_z T n f) (x : Int32) : F_X6_crewOf σ x = some (nI (bst_z T (x + 1) n)) := by
  have hn8 := h.n8
  unfold F_X6_crewOf
  refine loop2_z (F_X6_crewOf_L4 σ x) (fun k => nI (bst_z T (x + 1) k)) (fun k => nI k) _ n ?_ ?_ FU_ 0 (Nat.zero_le _) (fu_lt_z (by omega))
  · intro q
    simp (disch := omega) only [nI_lit_z, nI_add_z, nI_mul_z, nI_le_z, nI_lt_z, nI_inj_z, nI_inb_z, nI_nat_z, nm_eq_z, F_X6_crewOf_L4, F_X6_many, hT, h.t0]
    rw [if_pos (by omega)]
  · intro k q hk
    have hc := bst_lt_z T (x + 1) k
    have e6 : (6 : Int32) + nI k = nI (6 + k) := nI_add_z 6 k
    simp (disch := omega) only [F_X6_crewOf_L4, F_X6_many, hT, h.t0, nI_le_z, nI_inb_z, nI_nat_z, nm_eq_z, e6, nI_s_z]
    rw [if_neg (by omega), if_pos (by omega)]
    rw [bst_z]
    by_cases q : T (6 + k) = x + 1
    · simp only [q, if_true]
      rw [b_or_z k (by omega) _ hc]
    · simp only [q, if_false]
      rw [b_or0_z]; rfl
def pop__z : Nat → Nat → Nat
  | 0, _ => 0
  | k + 1, x => pop__z k x + x / 2 ^ k % 2
theorem b_cnt_z : ∀ x, x < 256 → F_J7_bitCount (nI x) = nI (pop__z 8 x) := by decide +kernel
theorem b_bit_z (T : Nat → Int32) (p : Int32) : ∀ n m, m < n → bst_z T p n / 2 ^ m % 2 = if T (6 + m) = p then 1 else 0 := by
  intro n
  induction n with
  | zero => intro m h; omega
  | succ k ih =>
    intro m hm
    have hk := bst_lt_z T p k
    rw [bst_z]
    by_cases e : m = k
    · subst e
      split
      · rw [Nat.add_div_right _ (Nat.two_pow_pos m), Nat.div_eq_of_lt hk]
      · rw [Nat.add_zero, Nat.div_eq_of_lt hk]
    · rw [← ih m (by omega)]
      split
      · have : 2 ^ k = 2 ^ m * (2 * 2 ^ (k - m - 1)) := by
          rw [← Nat.pow_succ', ← Nat.pow_add]; congr 1; omega
        rw [this, Nat.add_mul_div_left _ _ (Nat.two_pow_pos m), Nat.add_mul_mod_self_left]
      · rw [Nat.add_zero]
theorem b_bit0_z (T : Nat → Int32) (p : Int32) (n m : Nat) (h : n ≤ m) : bst_z T p n / 2 ^ m % 2 = 0 := by
  have hk := bst_lt_z T p n
  rw [Nat.div_eq_of_lt (Nat.lt_of_lt_of_le hk (Nat.pow_le_pow_right (by decide) h))]
theorem pop_cnt_z (T : Nat → Int32) (p : Int32) (n : Nat) : ∀ k, k ≤ n → pop__z k (bst_z T p n) = cnt_z T p k := by
  intro k
  induction k with
  | zero => intro _; rfl
  | succ k ih => intro h; rw [pop__z, cnt_z, ih (by omega), b_bit_z T p n k (by omega)]
theorem pop_cnt8_z (T : Nat → Int32) (p : Int32) {n : Nat} (h : n ≤ 8) : pop__z 8 (bst_z T p n) = cnt_z T p n := by
  rw [← pop_cnt_z T p n n (Nat.le_refl _)]
  have : ∀ d, n + d ≤ 8 → pop__z (n + d) (bst_z T p n) = pop__z n (bst_z T p n) := by
    intro d
    induction d with
    | zero => intro _; rfl
    | succ d ih => intro q; rw [← Nat.add_assoc, pop__z, ih (by omega), b_bit0_z T p n _ (by omega)]; rfl
  have := this (8 - n) (by omega)
  rwa [Nat.add_sub_of_le h] at this
theorem bc_bst_z (T : Nat → Int32) (p : Int32) {n : Nat} (h : n ≤ 8) : F_J7_bitCount (nI (bst_z T p n)) = nI (cnt_z T p n) := by
  have hk := bst_lt_z T p n
  have : 2 ^ n ≤ 2 ^ 8 := Nat.pow_le_pow_right (by decide) h
  rw [b_cnt_z _ (by omega), pop_cnt8_z T p h]
theorem bst_zero_z (T : Nat → Int32) (p : Int32) (n : Nat) : bst_z T p n = 0 ↔ cnt_z T p n = 0 := by
  induction n with
  | zero => exact ⟨fun _ => rfl, fun _ => rfl⟩
  | succ k ih =>
    rw [bst_z, cnt_z]
    have := Nat.two_pow_pos k
    split <;> omega
theorem b_sh_z : ∀ m, m < 8 → ∀ x, x < 256 → ((nI x >>> (nI m &&& 31)) &&& 1 = 1 ↔ x / 2 ^ m % 2 = 1) := by decide +kernel
theorem i_zadd_z (x : Int32) : x + 0 = x := Int32.add_zero x
theorem x1_skillOf_z {σ : Me_} {b s n f : Nat} {T : Nat → Int32} (h : Iv_z T n f) (g : Sr_z σ b s T n f) (p : Int32) : F_X1_skillOf σ b (nI (bst_z T p n)) = some (sks_z T p n) := by
  have hn8 := h.n8
  have hk := bst_lt_z T p n
  have : 2 ^ n ≤ 2 ^ 8 := Nat.pow_le_pow_right (by decide) hn8
  unfold F_X1_skillOf
  refine loop2_z (F_X1_skillOf_L4 σ b (nI (bst_z T p n))) (fun k => sks_z T p k) (fun k => nI k) _ n ?_ ?_ FU_ 0 (Nat.zero_le _) (fu_lt_z (by omega))
  · intro q
    simp (disch := omega) only [nI_lit_z, nI_add_z, nI_mul_z, nI_le_z, nI_lt_z, nI_inj_z, nI_inb_z, nI_nat_z, nm_eq_z, F_X1_skillOf_L4, g.e4]
    rw [if_pos (by omega)]
  · intro k q hk
    have e := g.sk k hk
    simp (disch := omega) only [F_X1_skillOf_L4, g.e4, nI_le_z, nI_inb_z, nI_nat_z, nm_eq_z, e, nI_s_z, b_sh_z k (by omega), b_bit_z T p n k hk]
    rw [if_neg (by omega), sks_z]
    by_cases q : T (6 + k) = p
    · simp only [q, if_true]
      rw [if_pos (by omega)]
    · simp only [q, if_false]
      rw [if_neg (by omega)]
theorem x6_skillsIn_z {σ : Me_} {o n0 n f : Nat} {T : Nat → Int32} (hT : σ.1 o = T) (h : Iv_z T n f) (hn : 36 ≤ n0) (p : Int32) : F_X6_skillsIn σ o n0 p = some (sks_z T p n) := by
  have hn8 := h.n8
  unfold F_X6_skillsIn
  refine loop2_z (F_X6_skillsIn_L4 σ o n0 p) (fun k => sks_z T p k) (fun k => nI k) _ n ?_ ?_ FU_ 0 (Nat.zero_le _) (fu_lt_z (by omega))
  · intro q
    simp (disch := omega) only [nI_lit_z, nI_add_z, nI_mul_z, nI_le_z, nI_lt_z, nI_inj_z, nI_inb_z, nI_nat_z, nm_eq_z, F_X6_skillsIn_L4, hT, h.t0]
    rw [if_pos (by omega), if_pos (by omega)]
  · intro k q hk
    have e6 : (6 : Int32) + nI k = nI (6 + k) := nI_add_z 6 k
    have e8 : (28 : Int32) + nI k = nI (28 + k) := nI_add_z 28 k
    have e0 : (0 : Int32) = nI 0 := rfl
    simp (disch := omega) only [F_X6_skillsIn_L4, hT, e0, h.t0, nI_le_z, nI_inb_z, nI_nat_z, nm_eq_z, nI_s_z, e6, e8]
    rw [if_pos (by omega), if_neg (by omega), if_pos (by omega), sks_z]
    by_cases q : T (6 + k) = p
    · simp only [q, if_true]
      rw [if_pos (by omega)]
    · simp only [q, if_false]; rfl
theorem lk_eq_z : ∀ k, k < 6 → ∀ s, s < 10 → ∀ c, c < 100 → FV_M_liked k (nI s) (nI c) = F_X6_likedAs (nI k) (nI s) (nI c) ∧ F_X6_likedAs (nI k) (nI s) (nI c) < 1000000 := by decide +kernel
theorem nd_eq_z : ∀ k, k < 6 → ∀ d, d < 31 → ∀ c, c < 9 → FV_S_needs k (nI d) (nI c) = F_X6_needsAs (nI k) (nI d) (nI c) := by decide +kernel
theorem nI_nn_z {k : Nat} (h : k < 2147483648) : ¬ nI k < 0 := by rw [nI_lit_z, nI_lt_z h (by decide)]; exact Nat.not_lt_zero _
theorem kd_eq_z : ∀ k, k < 6 → FV_M_kind k = nI k ∧ FV_S_kind k = nI k := by decide +kernel
theorem x1_needs_z {σ : Me_} {b s n f : Nat} {T : Nat → Int32} (h : Iv_z T n f) (g : Sr_z σ b s T n f) {u d : Nat} (hu : u < f) (hd : d < 31) : F_X1_needs σ b s (nI u) (nI d) = some (F_X6_needsAs (T (17 + u)) (nI d) (nI (cnt_z T (nI (u + 1)) n))) := by
  obtain ⟨k, hk, e⟩ := h.so u hu
  have hf := h.f3
  have hc := cnt_le_z T (nI (u + 1)) n
  have hn := h.n8
  unfold F_X1_needs
  simp (disch := omega) only [nI_inb_z, nI_nat_z, g.so u hu, e, x1_at_z h g, nI_s_z, bc_bst_z T _ h.n8, Option.bind]
  rw [if_pos (by omega), if_neg (nI_nn_z (by omega)), Nat.mod_eq_of_lt hk, nd_eq_z k hk d hd _ (by omega)]
def canT_z (T : Nat → Int32) (n u d : Nat) : Bool := decide (cnt_z T (nI (u + 1)) n ≠ 0) && decide (F_X6_needsAs (T (17 + u)) (nI d) (nI (cnt_z T (nI (u + 1)) n)) ≤ sks_z T (nI (u + 1)) n)
def bI_z (b : Bool) : Int32 := if b = true then 1 else 0
theorem i_nle_z (x y : Int32) : ¬ x < y ↔ y ≤ x := Int32.not_lt
theorem i_nlt_z (x y : Int32) : ¬ x ≤ y ↔ y < x := Int32.not_le
theorem x1_can_z {σ : Me_} {b s n f : Nat} {T : Nat → Int32} (h : Iv_z T n f) (g : Sr_z σ b s T n f) {u d : Nat} (hu : u < f) (hd : d < 31) : F_X1_can σ b s (nI u) (nI d) = some (bI_z (canT_z T n u d)) := by
  unfold F_X1_can canT_z bI_z
  have hb := bst_lt_z T (nI (u + 1)) n
  have : 2 ^ n ≤ 2 ^ 8 := Nat.pow_le_pow_right (by decide) h.n8
  have e0 : (0 : Int32) = nI 0 := rfl
  simp only [x1_at_z h g, nI_s_z, Option.bind, x1_skillOf_z h g, x1_needs_z h g hu hd]
  have hz : (nI (bst_z T (nI (u + 1)) n) = 0) ↔ cnt_z T (nI (u + 1)) n = 0 := by
    rw [e0, nI_inj_z (by omega) (by omega), bst_zero_z]
  by_cases q : cnt_z T (nI (u + 1)) n = 0
  · rw [if_pos (hz.mpr q)]; simp [q]
  · rw [if_neg (fun z => q (hz.mp z))]
    simp only [ne_eq, q, not_false_eq_true, decide_true, Bool.true_and, decide_eq_true_eq]
    by_cases w : sks_z T (nI (u + 1)) n < F_X6_needsAs (T (17 + u)) (nI d) (nI (cnt_z T (nI (u + 1)) n))
    · rw [if_pos w, if_neg (fun z => (i_nle_z _ _).mpr z w)]
    · rw [if_neg w, if_pos ((i_nle_z _ _).mp w)]
theorem x6_canSail_z {σ : Me_} {o n0 n f : Nat} {T : Nat → Int32} (hT : σ.1 o = T) (h : Iv_z T n f) (hn : 36 ≤ n0) {u d : Nat} (hu : u < f) : F_X6_canSail σ o n0 (nI u) (nI d) = some (bI_z (canT_z T n u d)) := by
  unfold F_X6_canSail canT_z bI_z
  have hc := cnt_le_z T (nI (u + 1)) n
  have hn8 := h.n8
  have hf := h.f3
  have e0 : (0 : Int32) = nI 0 := rfl
  have e7 : (17 : Int32) + nI u = nI (17 + u) := nI_add_z 17 u
  simp (disch := omega) only [x6_aboard_z hT h hn, nI_s_z, Option.bind, x6_skillsIn_z hT h hn, e7, nI_inb_z, nI_nat_z, hT]
  have hz : (nI (cnt_z T (nI (u + 1)) n) ≤ 0) ↔ cnt_z T (nI (u + 1)) n = 0 := by
    rw [e0, nI_le_z (by omega) (by omega)]; omega
  by_cases q : cnt_z T (nI (u + 1)) n = 0
  · rw [if_pos (hz.mpr q)]; simp [q]
  · rw [if_neg (fun z => q (hz.mp z)), if_pos (by omega)]
    simp only [ne_eq, q, not_false_eq_true, decide_true, Bool.true_and, decide_eq_true_eq]
    by_cases w : sks_z T (nI (u + 1)) n < F_X6_needsAs (T (17 + u)) (nI d) (nI (cnt_z T (nI (u + 1)) n))
    · rw [if_pos w, if_neg (fun z => (i_nle_z _ _).mpr z w)]
    · rw [if_neg w, if_pos ((i_nle_z _ _).mp w)]
/-! who is left -/
def lkT_z (T : Nat → Int32) (m u : Nat) : Int32 := F_X6_likedAs (T (20 + m)) (T (28 + m)) (T (14 + u))
def lst_z (T : Nat → Int32) (u : Nat) : Nat → Option Nat
  | 0 => none
  | k + 1 => match lst_z T u k with
    | none => if T (6 + k) = nI (u + 1) then some k else none
    | some b => if T (6 + k) = nI (u + 1) then (if lkT_z T b u ≤ lkT_z T k u then some b else some k) else some b
def oI_z : Option Nat → Int32
  | none => -1
  | some m => nI m
theorem oI_some_z (m : Nat) : oI_z (some m) = nI m := Eq.trans (Eq.refl (oI_z (some m))) (Eq.refl (nI m))
theorem oI_none_z : oI_z none = -1 := Eq.trans (Eq.refl (oI_z none)) (Eq.refl (-1))
theorem lst_lt_z (T : Nat → Int32) (u : Nat) : ∀ n m, lst_z T u n = some m → m < n ∧ T (6 + m) = nI (u + 1) := by
  intro n
  induction n with
  | zero => intro m h; cases h
  | succ k ih =>
    intro m h
    rw [lst_z] at h
    split at h
    · split at h
      · rename_i q; cases h; exact ⟨Nat.lt_succ_self _, q⟩
      · cases h
    · rename_i b e
      have hb := ih b e
      split at h
      · split at h
        · cases h; exact ⟨by omega, hb.2⟩
        · rename_i q _; cases h; exact ⟨Nat.lt_succ_self _, q⟩
      · cases h; exact ⟨by omega, hb.2⟩
theorem lst_none_z (T : Nat → Int32) (u : Nat) : ∀ n, lst_z T u n = none ↔ cnt_z T (nI (u + 1)) n = 0 := by
  intro n
  induction n with
  | zero => exact ⟨fun _ => rfl, fun _ => rfl⟩
  | succ k ih =>
    rw [lst_z, cnt_z]
    split
    · rename_i e
      have := ih.mp e
      split
      · exact ⟨fun h => (by cases h), fun h => (by omega)⟩
      · exact ⟨fun _ => by omega, fun _ => rfl⟩
    · rename_i b e
      have : cnt_z T (nI (u + 1)) k ≠ 0 := fun q => by rw [ih.mpr q] at e; cases e
      constructor
      · intro h
        split at h
        · split at h <;> cases h
        · cases h
      · intro h; omega
theorem oI_neg_z {m : Nat} (h : m < 2147483648) : ¬ nI m = -1 := by
  intro q
  have := congrArg Int32.toInt q
  rw [nI_int_z h] at this
  have e : (-1 : Int32).toInt = -1 := by decide
  omega
theorem x6_likedOf_z {σ : Me_} {o n0 n f : Nat} {T : Nat → Int32} (hT : σ.1 o = T) (h : Iv_z T n f) (hn : 36 ≤ n0) {u m : Nat} (hu : u < f) (hm : m < n) : F_X6_likedOf σ o n0 (nI m) (nI u) = some (lkT_z T m u) := by
  have := h.n8
  have := h.f3
  have e1 : (20 : Int32) + nI m = nI (20 + m) := nI_add_z 20 m
  have e2 : (28 : Int32) + nI m = nI (28 + m) := nI_add_z 28 m
  have e3 : (14 : Int32) + nI u = nI (14 + u) := nI_add_z 14 u
  unfold F_X6_likedOf lkT_z
  simp (disch := omega) only [e1, e2, e3, nI_inb_z, nI_nat_z, hT]
  rw [if_pos (by omega), if_pos (by omega), if_pos (by omega)]
theorem x6_leastOf_z {σ : Me_} {o n0 n f : Nat} {T : Nat → Int32} (hT : σ.1 o = T) (h : Iv_z T n f) (hn : 36 ≤ n0) {u : Nat} (hu : u < f) : F_X6_leastOf σ o n0 (nI u) = some (oI_z (lst_z T u n)) := by
  have hn8 := h.n8
  unfold F_X6_leastOf
  refine loop2_z (F_X6_leastOf_L4 σ o n0 (nI u)) (fun k => oI_z (lst_z T u k)) (fun k => nI k) _ n ?_ ?_ FU_ 0 (Nat.zero_le _) (fu_lt_z (by omega))
  · intro q
    simp (disch := omega) only [nI_lit_z, nI_add_z, nI_mul_z, nI_le_z, nI_lt_z, nI_inj_z, nI_inb_z, nI_nat_z, nm_eq_z, F_X6_leastOf_L4, hT, h.t0]
    rw [if_pos (by omega), if_pos (by omega)]
  · intro k q hk
    have e6 : (6 : Int32) + nI k = nI (6 + k) := nI_add_z 6 k
    have e0 : (0 : Int32) = nI 0 := rfl
    simp (disch := omega) only [F_X6_leastOf_L4, hT, e0, h.t0, nI_le_z, nI_inb_z, nI_nat_z, nm_eq_z, nI_s_z, e6]
    rw [if_pos (by omega), if_neg (by omega), if_pos (by omega), lst_z]
    cases e : lst_z T u k with
    | none =>
      simp only [oI_none_z, if_true]
      by_cases q : T (6 + k) = nI (u + 1)
      · simp only [q, if_true, oI_some_z]
      · simp only [q, if_false, oI_none_z]
    | some b =>
      have hb := lst_lt_z T u k b e
      have hm : ¬ nI b = -1 := oI_neg_z (by omega)
      simp only [oI_some_z, hm, if_false]
      by_cases q : T (6 + k) = nI (u + 1)
      · simp only [q, if_true]
        rw [x6_likedOf_z hT h hn hu hk, x6_likedOf_z hT h hn hu (by omega)]
        simp only [Option.bind]
        by_cases w : lkT_z T b u ≤ lkT_z T k u
        · simp only [w, if_true, oI_some_z]
        · simp only [w, if_false, oI_some_z]
      · simp only [q, if_false, oI_some_z]
