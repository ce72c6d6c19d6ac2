set_option maxRecDepth 100000
set_option linter.unusedSimpArgs false
set_option linter.unusedVariables false
/-! PURE D: the relation of both memories -/
def Fu_z (σ : Me_) (b : Nat) (R : Nat → Int32) (n f a c e w : Nat) : Prop :=
  (Iv_z R n f) ∧
  (Sr_z σ b (b + 7) R n f) ∧
  (a ≤ 5) ∧
  (c ≤ 6) ∧
  (e ≤ 6) ∧
  (w ≤ 8) ∧
  (R 2 = nI a) ∧
  (R 3 = nI c) ∧
  (R 4 = nI e) ∧
  (R 5 = nI w) ∧
  (σ.1 b 6 = nI a) ∧
  (σ.1 b 8 = nI c) ∧
  (σ.1 b 10 = nI e) ∧
  (σ.1 b 13 = nI w) ∧
  (∀ i, i < 4 * a → σ.1 (b + 4) i = R (36 + i)) ∧
  (∀ i, i < 4 * c → σ.1 (b + 5) i = R (56 + i)) ∧
  (∀ i, i < 4 * e → σ.1 (b + 6) i = R (80 + i)) ∧
  (∀ i, i < a → ∃ x, x < 100 ∧ R (36 + (4 * i + 1)) = nI x) ∧
  (∀ i, i < c → ∃ d x, d < 31 ∧ x < 9 ∧ R (56 + (4 * i + 1)) = nI d ∧ R (56 + (4 * i + 2)) = nI x) ∧
  (∀ i, i < e → ∃ d x, d < 10 ∧ x < 100 ∧ R (80 + (4 * i + 1)) = nI d ∧ R (80 + (4 * i + 2)) = nI x) ∧
  (∀ j, j < w → ∀ m, m < n → ∃ p, p ≤ f ∧ R (104 + (11 * j + m)) = nI p ∧ σ.1 (b + (12 + 3 * j)) m = nI p - 1) ∧
  (∀ j, j < w → ∀ h, h < f → ∃ x, x ≤ 99 ∧ R (112 + (11 * j + h)) = nI x ∧ σ.1 (b + (13 + 3 * j)) h = nI x) ∧
  (∀ j, j < w → ∀ h, h < 3 → f ≤ h → R (112 + (11 * j + h)) = 0)
theorem Fu_z.iv {σ : Me_} {b : Nat} {R : Nat → Int32} {n f a c e w : Nat} (h : Fu_z σ b R n f a c e w) : Iv_z R n f := h.1
theorem Fu_z.sr {σ : Me_} {b : Nat} {R : Nat → Int32} {n f a c e w : Nat} (h : Fu_z σ b R n f a c e w) : Sr_z σ b (b + 7) R n f := h.2.1
theorem Fu_z.a5 {σ : Me_} {b : Nat} {R : Nat → Int32} {n f a c e w : Nat} (h : Fu_z σ b R n f a c e w) : a ≤ 5 := h.2.2.1
theorem Fu_z.c6 {σ : Me_} {b : Nat} {R : Nat → Int32} {n f a c e w : Nat} (h : Fu_z σ b R n f a c e w) : c ≤ 6 := h.2.2.2.1
theorem Fu_z.e6 {σ : Me_} {b : Nat} {R : Nat → Int32} {n f a c e w : Nat} (h : Fu_z σ b R n f a c e w) : e ≤ 6 := h.2.2.2.2.1
theorem Fu_z.w8 {σ : Me_} {b : Nat} {R : Nat → Int32} {n f a c e w : Nat} (h : Fu_z σ b R n f a c e w) : w ≤ 8 := h.2.2.2.2.2.1
theorem Fu_z.r2 {σ : Me_} {b : Nat} {R : Nat → Int32} {n f a c e w : Nat} (h : Fu_z σ b R n f a c e w) : R 2 = nI a := h.2.2.2.2.2.2.1
theorem Fu_z.r3 {σ : Me_} {b : Nat} {R : Nat → Int32} {n f a c e w : Nat} (h : Fu_z σ b R n f a c e w) : R 3 = nI c := h.2.2.2.2.2.2.2.1
theorem Fu_z.r4 {σ : Me_} {b : Nat} {R : Nat → Int32} {n f a c e w : Nat} (h : Fu_z σ b R n f a c e w) : R 4 = nI e := h.2.2.2.2.2.2.2.2.1
theorem Fu_z.r5 {σ : Me_} {b : Nat} {R : Nat → Int32} {n f a c e w : Nat} (h : Fu_z σ b R n f a c e w) : R 5 = nI w := h.2.2.2.2.2.2.2.2.2.1
theorem Fu_z.q2 {σ : Me_} {b : Nat} {R : Nat → Int32} {n f a c e w : Nat} (h : Fu_z σ b R n f a c e w) : σ.1 b 6 = nI a := h.2.2.2.2.2.2.2.2.2.2.1
theorem Fu_z.q3 {σ : Me_} {b : Nat} {R : Nat → Int32} {n f a c e w : Nat} (h : Fu_z σ b R n f a c e w) : σ.1 b 8 = nI c := h.2.2.2.2.2.2.2.2.2.2.2.1
theorem Fu_z.q4 {σ : Me_} {b : Nat} {R : Nat → Int32} {n f a c e w : Nat} (h : Fu_z σ b R n f a c e w) : σ.1 b 10 = nI e := h.2.2.2.2.2.2.2.2.2.2.2.2.1
theorem Fu_z.q5 {σ : Me_} {b : Nat} {R : Nat → Int32} {n f a c e w : Nat} (h : Fu_z σ b R n f a c e w) : σ.1 b 13 = nI w := h.2.2.2.2.2.2.2.2.2.2.2.2.2.1
theorem Fu_z.se {σ : Me_} {b : Nat} {R : Nat → Int32} {n f a c e w : Nat} (h : Fu_z σ b R n f a c e w) : ∀ i, i < 4 * a → σ.1 (b + 4) i = R (36 + i) := h.2.2.2.2.2.2.2.2.2.2.2.2.2.2.1
theorem Fu_z.no {σ : Me_} {b : Nat} {R : Nat → Int32} {n f a c e w : Nat} (h : Fu_z σ b R n f a c e w) : ∀ i, i < 4 * c → σ.1 (b + 5) i = R (56 + i) := h.2.2.2.2.2.2.2.2.2.2.2.2.2.2.2.1
theorem Fu_z.ma {σ : Me_} {b : Nat} {R : Nat → Int32} {n f a c e w : Nat} (h : Fu_z σ b R n f a c e w) : ∀ i, i < 4 * e → σ.1 (b + 6) i = R (80 + i) := h.2.2.2.2.2.2.2.2.2.2.2.2.2.2.2.2.1
theorem Fu_z.sv {σ : Me_} {b : Nat} {R : Nat → Int32} {n f a c e w : Nat} (h : Fu_z σ b R n f a c e w) : ∀ i, i < a → ∃ x, x < 100 ∧ R (36 + (4 * i + 1)) = nI x := h.2.2.2.2.2.2.2.2.2.2.2.2.2.2.2.2.2.1
theorem Fu_z.nv {σ : Me_} {b : Nat} {R : Nat → Int32} {n f a c e w : Nat} (h : Fu_z σ b R n f a c e w) : ∀ i, i < c → ∃ d x, d < 31 ∧ x < 9 ∧ R (56 + (4 * i + 1)) = nI d ∧ R (56 + (4 * i + 2)) = nI x := h.2.2.2.2.2.2.2.2.2.2.2.2.2.2.2.2.2.2.1
theorem Fu_z.mv {σ : Me_} {b : Nat} {R : Nat → Int32} {n f a c e w : Nat} (h : Fu_z σ b R n f a c e w) : ∀ i, i < e → ∃ d x, d < 10 ∧ x < 100 ∧ R (80 + (4 * i + 1)) = nI d ∧ R (80 + (4 * i + 2)) = nI x := h.2.2.2.2.2.2.2.2.2.2.2.2.2.2.2.2.2.2.2.1
theorem Fu_z.pa {σ : Me_} {b : Nat} {R : Nat → Int32} {n f a c e w : Nat} (h : Fu_z σ b R n f a c e w) : ∀ j, j < w → ∀ m, m < n → ∃ p, p ≤ f ∧ R (104 + (11 * j + m)) = nI p ∧ σ.1 (b + (12 + 3 * j)) m = nI p - 1 := h.2.2.2.2.2.2.2.2.2.2.2.2.2.2.2.2.2.2.2.2.1
theorem Fu_z.pc {σ : Me_} {b : Nat} {R : Nat → Int32} {n f a c e w : Nat} (h : Fu_z σ b R n f a c e w) : ∀ j, j < w → ∀ h, h < f → ∃ x, x ≤ 99 ∧ R (112 + (11 * j + h)) = nI x ∧ σ.1 (b + (13 + 3 * j)) h = nI x := h.2.2.2.2.2.2.2.2.2.2.2.2.2.2.2.2.2.2.2.2.2.1
theorem Fu_z.pz {σ : Me_} {b : Nat} {R : Nat → Int32} {n f a c e w : Nat} (h : Fu_z σ b R n f a c e w) : ∀ j, j < w → ∀ h, h < 3 → f ≤ h → R (112 + (11 * j + h)) = 0 := h.2.2.2.2.2.2.2.2.2.2.2.2.2.2.2.2.2.2.2.2.2.2
def Rest_z (σ : Me_) : Prop :=
  (∃ t, t ≤ 150 ∧ σ.1 0 5 = nI t ∧ σ.1 90 12 = nI t ∧ ∀ i, i < t → σ.1 75 i = σ.1 100 i ∧ ∃ k, k < 128 ∧ σ.1 100 i = nI k) ∧
  (∀ i, i < 3 → σ.1 76 i = σ.1 94 i) ∧
  (σ.2 0 7 = σ.2 90 4) ∧
  (σ.2 0 8 = σ.2 90 5) ∧
  (∀ j, j < 2 → (σ.1 71 j = 0 ↔ σ.1 93 j = 0) ∧ (σ.1 71 j ≠ 0 → ∃ n f a c e w, Fu_z σ (110 + 40 * j) (fun k => σ.1 92 (192 * j + k)) n f a c e w))
theorem Rest_z.tx {σ : Me_} (h : Rest_z σ) : ∃ t, t ≤ 150 ∧ σ.1 0 5 = nI t ∧ σ.1 90 12 = nI t ∧ ∀ i, i < t → σ.1 75 i = σ.1 100 i ∧ ∃ k, k < 128 ∧ σ.1 100 i = nI k := h.1
theorem Rest_z.rf {σ : Me_} (h : Rest_z σ) : ∀ i, i < 3 → σ.1 76 i = σ.1 94 i := h.2.1
theorem Rest_z.ab {σ : Me_} (h : Rest_z σ) : σ.2 0 7 = σ.2 90 4 := h.2.2.1
theorem Rest_z.be {σ : Me_} (h : Rest_z σ) : σ.2 0 8 = σ.2 90 5 := h.2.2.2.1
theorem Rest_z.im {σ : Me_} (h : Rest_z σ) : ∀ j, j < 2 → (σ.1 71 j = 0 ↔ σ.1 93 j = 0) ∧ (σ.1 71 j ≠ 0 → ∃ n f a c e w, Fu_z σ (110 + 40 * j) (fun k => σ.1 92 (192 * j + k)) n f a c e w) := h.2.2.2.2
def Rel_z (σ : Me_) : Prop :=
  (∃ n f a c e w, Fu_z σ 1 (σ.1 91) n f a c e w) ∧
  (Rest_z σ)
theorem Rel_z.fu {σ : Me_} (h : Rel_z σ) : ∃ n f a c e w, Fu_z σ 1 (σ.1 91) n f a c e w := h.1
theorem Rel_z.re {σ : Me_} (h : Rel_z σ) : Rest_z σ := h.2
theorem Sr_z.congr {σ σ' : Me_} {b s n f : Nat} {T : Nat → Int32} (g : Sr_z σ b s T n f) (h0 : σ'.1 b = σ.1 b) (h1 : σ'.1 (b + 1) = σ.1 (b + 1)) (h2 : σ'.1 (b + 2) = σ.1 (b + 2)) (h3 : σ'.1 (b + 3) = σ.1 (b + 3)) (h4 : σ'.1 (s + 1) = σ.1 (s + 1)) (h5 : σ'.1 (s + 2) = σ.1 (s + 2)) : Sr_z σ' b s T n f := by
  refine ⟨?_, ?_, ?_, ?_, ?_, ?_, ?_⟩
  · rw [h0]; exact g.e4
  · rw [h0]; exact g.e1
  · rw [h4]; exact g.pl
  · rw [h5]; exact g.cl
  · rw [h1]; exact g.so
  · rw [h2]; exact g.kd
  · rw [h3]; exact g.sk
theorem Fu_z.congr {σ σ' : Me_} {b : Nat} {R : Nat → Int32} {n f a c e w : Nat} (g : Fu_z σ b R n f a c e w) (h : ∀ k, k < 35 → σ'.1 (b + k) = σ.1 (b + k)) : Fu_z σ' b R n f a c e w := by
  have h0 : σ'.1 b = σ.1 b := h 0 (by omega)
  have hw := g.w8
  refine ⟨g.iv, g.sr.congr h0 (h 1 (by omega)) (h 2 (by omega)) (h 3 (by omega)) (h 8 (by omega)) (h 9 (by omega)), g.a5, g.c6, g.e6, g.w8, g.r2, g.r3, g.r4, g.r5, ?_, ?_, ?_, ?_, ?_, ?_, ?_, g.sv, g.nv, g.mv, ?_, ?_, g.pz⟩
  · rw [h0]; exact g.q2
  · rw [h0]; exact g.q3
  · rw [h0]; exact g.q4
  · rw [h0]; exact g.q5
  · rw [h 4 (by omega)]; exact g.se
  · rw [h 5 (by omega)]; exact g.no
  · rw [h 6 (by omega)]; exact g.ma
  · intro j hj; rw [h (12 + 3 * j) (by omega)]; exact g.pa j hj
  · intro j hj; rw [h (13 + 3 * j) (by omega)]; exact g.pc j hj
theorem Rest_z.congr {σ σ' : Me_} (g : Rest_z σ) (h2 : σ'.2 = σ.2) (h0 : σ'.1 0 = σ.1 0) (h90 : σ'.1 90 12 = σ.1 90 12) (h71 : σ'.1 71 = σ.1 71) (h75 : σ'.1 75 = σ.1 75) (h76 : σ'.1 76 = σ.1 76) (h92 : σ'.1 92 = σ.1 92) (h93 : σ'.1 93 = σ.1 93) (h94 : σ'.1 94 = σ.1 94) (h100 : σ'.1 100 = σ.1 100) (hi : ∀ k, k < 80 → σ'.1 (110 + k) = σ.1 (110 + k)) : Rest_z σ' := by
  refine ⟨?_, ?_, ?_, ?_, ?_⟩
  · rw [h0, h90, h75, h100]; exact g.tx
  · rw [h76, h94]; exact g.rf
  · rw [h2]; exact g.ab
  · rw [h2]; exact g.be
  · intro j hj
    rw [h71, h93, h92]
    refine ⟨(g.im j hj).1, fun q => ?_⟩
    obtain ⟨n, f, a, c, e, w, z⟩ := (g.im j hj).2 q
    exact ⟨n, f, a, c, e, w, z.congr (fun k hk => by rw [Nat.add_assoc]; exact hi _ (by omega))⟩
/-- memories that differ but in what is not kept -/
def Same_z (σ σ' : Me_) : Prop := σ'.2 = σ.2 ∧ (∀ j, (j ≤ 35 ∨ j = 71 ∨ j = 75 ∨ j = 76 ∨ (91 ≤ j ∧ j ≤ 94) ∨ j = 100 ∨ 110 ≤ j) → σ'.1 j = σ.1 j) ∧ σ'.1 90 12 = σ.1 90 12
theorem Same_z.refl (σ : Me_) : Same_z σ σ := ⟨rfl, fun _ _ => rfl, rfl⟩
theorem Same_z.trans {σ σ' τ : Me_} (h : Same_z σ σ') (k : Same_z σ' τ) : Same_z σ τ := ⟨k.1.trans h.1, fun j q => (k.2.1 j q).trans (h.2.1 j q), k.2.2.trans h.2.2⟩
theorem Same_z.arr {σ σ' : Me_} (h : Same_z σ σ') {o : Nat} (f : Nat → Int32) (q : (36 ≤ o ∧ o ≤ 70) ∨ (72 ≤ o ∧ o ≤ 74) ∨ (77 ≤ o ∧ o ≤ 89) ∨ (95 ≤ o ∧ o ≤ 99) ∨ (101 ≤ o ∧ o ≤ 109)) : Same_z σ (me_arr σ' o f) := ⟨h.1, fun j z => by rw [ma_ne_z _ _ (by omega)]; exact h.2.1 j z, by rw [ma_ne_z _ _ (by omega)]; exact h.2.2⟩
theorem Same_z.set {σ σ' : Me_} (h : Same_z σ σ') {o k : Nat} (v : Int32) (q : (36 ≤ o ∧ o ≤ 70) ∨ (72 ≤ o ∧ o ≤ 74) ∨ (77 ≤ o ∧ o ≤ 89) ∨ (95 ≤ o ∧ o ≤ 99) ∨ (101 ≤ o ∧ o ≤ 109)) : Same_z σ (me_set σ' o k v) := h.arr _ q
theorem Same_z.rel {σ σ' : Me_} (h : Same_z σ σ') (g : Rel_z σ) : Rel_z σ' := by
  obtain ⟨n, f, a, c, e, w, z⟩ := g.fu
  refine ⟨⟨n, f, a, c, e, w, ?_⟩, g.re.congr h.1 (h.2.1 0 (by omega)) h.2.2 (h.2.1 71 (by omega)) (h.2.1 75 (by omega)) (h.2.1 76 (by omega)) (h.2.1 92 (by omega)) (h.2.1 93 (by omega)) (h.2.1 94 (by omega)) (h.2.1 100 (by omega)) (fun k _ => h.2.1 (110 + k) (by omega))⟩
  rw [h.2.1 91 (by omega)]
  exact z.congr (fun k hk => h.2.1 (1 + k) (by omega))
/-- both sides answer alike -/
def Op_z (σ : Me_) (F M : Me_ → Option (Int32 × Me_)) : Prop := ∃ r σ1 σ2, F σ = some (r, σ1) ∧ M σ1 = some (r, σ2) ∧ Rel_z σ2 ∧ σ1.1 71 = σ.1 71 ∧ σ2.1 71 = σ1.1 71
theorem ms_same_z (σ : Me_) (i k : Nat) (v : Int32) : (me_set σ i k v).1 i = upd (σ.1 i) k v := if_pos rfl
theorem ms_ne_z (σ : Me_) {i j : Nat} (k : Nat) (v : Int32) (h : j ≠ i) : (me_set σ i k v).1 j = σ.1 j := if_neg h
theorem ms_2_z (σ : Me_) (i k : Nat) (v : Int32) : (me_set σ i k v).2 = σ.2 := rfl
/-- a refusal, of a sort -/
def rf0_z (σ : Me_) (i : Nat) : Me_ := me_set σ 76 i (σ.1 76 i + 1)
def rf6_z (σ : Me_) (i : Nat) : Me_ := me_set σ 94 i (σ.1 94 i + 1)
theorem rf_rel_z {σ : Me_} (g : Rel_z σ) {i : Nat} (hi : i < 3) : Rel_z (rf6_z (rf0_z σ i) i) ∧ (rf0_z σ i).1 71 = σ.1 71 ∧ (rf6_z (rf0_z σ i) i).1 71 = (rf0_z σ i).1 71 := by
  have o : ∀ j, j ≠ 76 → j ≠ 94 → (rf6_z (rf0_z σ i) i).1 j = σ.1 j := fun j a b => by
    unfold rf6_z rf0_z; rw [ms_ne_z _ _ _ b, ms_ne_z _ _ _ a]
  refine ⟨?_, ms_ne_z _ _ _ (by omega), ms_ne_z _ _ _ (by omega)⟩
  obtain ⟨n, f, a, c, e, w, z⟩ := g.fu
  refine ⟨⟨n, f, a, c, e, w, ?_⟩, ?_⟩
  · rw [o 91 (by omega) (by omega)]
    exact z.congr (fun k hk => o _ (by omega) (by omega))
  · have q := g.re
    refine ⟨?_, ?_, q.ab, q.be, ?_⟩
    · rw [o 0 (by omega) (by omega), o 90 (by omega) (by omega), o 75 (by omega) (by omega), o 100 (by omega) (by omega)]; exact q.tx
    · intro j hj
      unfold rf6_z rf0_z
      rw [ms_same_z, ms_ne_z _ _ _ (show 76 ≠ 94 by omega), ms_same_z, ms_ne_z _ _ _ (show 94 ≠ 76 by omega)]
      by_cases t : j = i
      · subst t; rw [upd_same_z, upd_same_z, q.rf j hj]
      · rw [upd_ne_z _ _ t, upd_ne_z _ _ t]; exact q.rf j hj
    · intro j hj
      rw [o 71 (by omega) (by omega), o 93 (by omega) (by omega), o 92 (by omega) (by omega)]
      refine ⟨(q.im j hj).1, fun t => ?_⟩
      obtain ⟨n, f, a, c, e, w, z⟩ := (q.im j hj).2 t
      exact ⟨n, f, a, c, e, w, z.congr (fun k hk => o _ (by omega) (by omega))⟩
theorem x0_bad_z (σ : Me_) : F_X0_bad σ = some (-2, rf0_z σ 0) := rfl
theorem x0_no_z (σ : Me_) : F_X0_no σ = some (-3, rf0_z σ 1) := rfl
theorem x0_full_z (σ : Me_) : F_X0_full σ = some (-4, rf0_z σ 2) := rfl
theorem x0_badAsk_z (σ : Me_) : F_X0_badAsk σ = some (-10, rf0_z σ 0) := rfl
theorem x6_bad_z (σ : Me_) (x : Int32) : F_X6_bad σ x = some (x, rf6_z σ 0) := rfl
theorem x6_no_z (σ : Me_) : F_X6_no σ = some (-3, rf6_z σ 1) := rfl
theorem x6_full_z (σ : Me_) : F_X6_full σ = some (-4, rf6_z σ 2) := rfl
theorem op_rf_z {σ : Me_} (g : Rel_z σ) {F M : Me_ → Option (Int32 × Me_)} {r : Int32} (i : Nat) (hi : i < 3) (h0 : F σ = some (r, rf0_z σ i)) (h6 : M (rf0_z σ i) = some (r, rf6_z (rf0_z σ i) i)) : Op_z σ F M := by
  have := rf_rel_z g hi
  exact ⟨r, rf0_z σ i, rf6_z (rf0_z σ i) i, h0, h6, this.1, this.2.1, this.2.2⟩
theorem rf0_ne_z (σ : Me_) (i : Nat) {j : Nat} (h : j ≠ 76) : (rf0_z σ i).1 j = σ.1 j := ms_ne_z _ _ _ h
theorem op_ro_z {σ : Me_} (g : Rel_z σ) {F M : Me_ → Option (Int32 × Me_)} {r : Int32} {σ1 σ2 : Me_} (h0 : F σ = some (r, σ1)) (h6 : M σ1 = some (r, σ2)) (s1 : Same_z σ σ1) (s2 : Same_z σ1 σ2) : Op_z σ F M := ⟨r, σ1, σ2, h0, h6, (s1.trans s2).rel g, s1.2.1 71 (by omega), s2.2.1 71 (by omega)⟩
/-- the shape of F_X0_bad: a value and the memory -/
theorem bi_some_z {ρ : Type} (r : Int32) (σ : Me_) (k : Int32 → Me_ → Option ρ) : bi_ (some (r, σ)) k = k r σ := Eq.trans (Eq.refl (bi_ (some (r, σ)) k)) (Eq.refl (k r σ))
theorem bd_some_z {α ρ : Type} (r : α) (k : α → Option ρ) : Option.bind (some r) k = k r := Eq.trans (Eq.refl (Option.bind (some r) k)) (Eq.refl (k r))
theorem i_z1_z : (0 : Int32) &&& 1 = 0 := by decide
