set_option maxRecDepth 100000
set_option linter.unusedSimpArgs false
set_option linter.unusedVariables false

/-! PURE Q: how skilled he is; what is seen -/
theorem loopE2_z {A B ρ : Type} (L : Nat → A → B → Option ρ) (s0 : Nat → A) (s1 : Nat → B) (res : Option ρ) (n : Nat) (hend : ∀ q, L (q + 1) (s0 n) (s1 n) = res) (hstep : ∀ k q, k < n → L (q + 1) (s0 k) (s1 k) = L q (s0 (k + 1)) (s1 (k + 1)) ∨ L (q + 1) (s0 k) (s1 k) = res) : ∀ q k, k ≤ n → n - k < q → L q (s0 k) (s1 k) = res := by
  intro q
  induction q with
  | zero => intro k _ h; omega
  | succ q ih =>
    intro k hk hf
    by_cases h : k = n
    · subst h; exact hend q
    · rcases hstep k q (by omega) with e | e
      · rw [e]; exact ih (k + 1) (by omega) (by omega)
      · exact e
theorem loopP_z {S ρ : Type} (L : Nat → S → Option ρ) (P : Nat → S → Prop) (n : Nat) (res : S → Option ρ) (hend : ∀ q s, P n s → L (q + 1) s = res s) (hstep : ∀ k q s, k < n → P k s → ∃ s', P (k + 1) s' ∧ L (q + 1) s = L q s') : ∀ q k s, k ≤ n → n - k < q → P k s → ∃ s', P n s' ∧ L q s = res s' := by
  intro q
  induction q with
  | zero => intro k s _ h _; omega
  | succ q ih =>
    intro k s hk hf hp
    by_cases h : k = n
    · subst h; exact ⟨s, hp, hend q s hp⟩
    · obtain ⟨s', hp', e⟩ := hstep k q s (by omega) hp
      obtain ⟨t, ht, et⟩ := ih (k + 1) s' (by omega) (by omega) hp'
      exact ⟨t, ht, by rw [e, et]⟩
def mb1_z (R : Nat → Int32) (m s k : Nat) : Bool := !decide (R (36 + 4 * k) = nI m) || (decide (F_X6_likedAs (R (20 + m)) (nI s) (R (36 + (4 * k + 1))) ≤ R (36 + (4 * k + 2))) == decide (R (36 + (4 * k + 3)) = 1))
def mbe_z (R : Nat → Int32) (m s : Nat) : Nat → Bool
  | 0 => true
  | k + 1 => mbe_z R m s k && mb1_z R m s k
theorem mbe_mono_z (R : Nat → Int32) (m s : Nat) {k : Nat} (h : mbe_z R m s k = false) : ∀ d, mbe_z R m s (k + d) = false := by
  intro d
  induction d with
  | zero => exact h
  | succ d ih => rw [← Nat.add_assoc, mbe_z, ih]; rfl
theorem bI_and_z (b : Bool) : bI_z b &&& 1 = bI_z b := by cases b <;> decide
theorem bI_f_z : bI_z false = 0 := Eq.trans (Eq.refl (bI_z false)) (Eq.refl 0)
theorem bI_t_z : bI_z true = 1 := Eq.trans (Eq.refl (bI_z true)) (Eq.refl 1)
theorem x6_skb_z {σ : Me_} {R : Nat → Int32} {n f a m s : Nat} (hR : σ.1 91 = R) (iv : Iv_z R n f) (r2 : R 2 = nI a) (ha : a ≤ 5) (hm : m < n) : F_X6_isSkilledBy σ (nI m) (nI s) = some (bI_z (mbe_z R m s a)) := by
  have hn8 := iv.n8
  unfold F_X6_isSkilledBy
  refine loop2_z (F_X6_isSkilledBy_L5 σ (nI m) (nI s)) (fun k => bI_z (mbe_z R m s k)) (fun k => nI k) _ a ?_ ?_ FU_ 0 (Nat.zero_le _) (fu_lt_z (by omega))
  · intro q
    rw [F_X6_isSkilledBy_L5, hR, r2, if_pos (by rw [nI_le_z (by omega) (by omega)]; omega), bI_and_z]
  · intro k q hk
    have e4 : (4 : Int32) * nI k = nI (4 * k) := nI_mul_z 4 k
    have e36 : (36 : Int32) + nI (4 * k) = nI (36 + 4 * k) := nI_add_z 36 _
    have e20 : (20 : Int32) + nI m = nI (20 + m) := nI_add_z 20 m
    have g1 : nI (36 + 4 * k) + 1 = nI (36 + (4 * k + 1)) := nI_add_z _ 1
    have g2 : nI (36 + 4 * k) + 2 = nI (36 + (4 * k + 2)) := nI_add_z _ 2
    have g3 : nI (36 + 4 * k) + 3 = nI (36 + (4 * k + 3)) := nI_add_z _ 3
    rw [F_X6_isSkilledBy_L5, hR, r2, if_neg (by rw [nI_le_z (by omega) (by omega)]; omega)]
    simp only [nm_eq_z]
    rw [e4, e36, e20, g1, g2, g3, nI_s_z]
    simp (disch := omega) only [nI_inb_z, nI_nat_z, hR]
    have f1 : 20 + m < 192 := by omega
    have f2 : 36 + (4 * k + 1) < 192 := by omega
    have f3 : 36 + (4 * k + 2) < 192 := by omega
    have f4 : 36 + (4 * k + 3) < 192 := by omega
    have f5 : 36 + 4 * k < 192 := by omega
    simp only [f1, f2, f3, f4, f5, if_true]
    rw [mbe_z, mb1_z]
    cases mbe_z R m s k with
    | false => rw [bI_f_z, if_pos rfl]; rfl
    | true =>
      rw [bI_t_z, if_neg (by decide)]
      by_cases c1 : R (36 + 4 * k) = nI m
      · rw [if_pos c1]
        simp only [c1, decide_true, Bool.not_true, Bool.false_or, Bool.true_and]
        by_cases c2 : R (36 + (4 * k + 2)) < F_X6_likedAs (R (20 + m)) (nI s) (R (36 + (4 * k + 1)))
        · have c2' : ¬ F_X6_likedAs (R (20 + m)) (nI s) (R (36 + (4 * k + 1))) ≤ R (36 + (4 * k + 2)) := (i_nlt_z _ _).mpr c2
          rw [if_pos c2]
          by_cases c3 : R (36 + (4 * k + 3)) = 1
          · simp only [c3, c2', decide_true, decide_false, if_true, if_neg i_01_z]; rfl
          · simp only [c3, c2', decide_true, decide_false, if_false, if_true]; rfl
        · have c2' : F_X6_likedAs (R (20 + m)) (nI s) (R (36 + (4 * k + 1))) ≤ R (36 + (4 * k + 2)) := (i_nle_z _ _).mp c2
          rw [if_neg c2]
          by_cases c3 : R (36 + (4 * k + 3)) = 1
          · simp only [c3, c2', decide_true, if_true]; rfl
          · simp only [c3, c2', decide_true, decide_false, if_false, if_neg i_10_z]; rfl
      · rw [if_neg c1]
        simp only [c1, decide_false, Bool.not_false, Bool.true_or, Bool.true_and, bI_t_z]
theorem x0_may_z {σ : Me_} {R : Nat → Int32} {n f a c e w m s : Nat} (z : Fu_z σ 1 R n f a c e w) (hm : m < n) (hs : s < 10) : F_X0_mayBe σ (nI m) (nI s) = some (bI_z (mbe_z R m s a)) := by
  have hn8 := z.iv.n8
  have ha := z.a5
  unfold F_X0_mayBe
  refine loopE2_z (F_X0_mayBe_L5 σ (nI m) (nI s)) (fun k => bI_z (mbe_z R m s k)) (fun k => nI k) _ a ?_ ?_ FU_ 0 (Nat.zero_le _) (fu_lt_z (by omega))
  · intro q
    rw [F_X0_mayBe_L5, z.q2, if_pos (by rw [nI_le_z (by omega) (by omega)]; omega), nm_eq_z, if_pos rfl, bI_and_z]
  · intro k q hk
    rw [F_X0_mayBe_L5, z.q2, if_neg (by rw [nI_le_z (by omega) (by omega)]; omega)]
    cases hb : mbe_z R m s k with
    | false =>
      right
      rw [bI_f_z, if_pos rfl, nm_eq_z, if_pos rfl]
      have := mbe_mono_z R m s hb (a - k)
      rw [Nat.add_sub_of_le (by omega)] at this
      rw [this]; rfl
    | true =>
      left
      have e4 : (4 : Int32) * nI k = nI (4 * k) := nI_mul_z 4 k
      have g1 : nI (4 * k) + 1 = nI (4 * k + 1) := nI_add_z _ 1
      have g2 : nI (4 * k) + 2 = nI (4 * k + 2) := nI_add_z _ 2
      have g3 : nI (4 * k) + 3 = nI (4 * k + 3) := nI_add_z _ 3
      have s0 : σ.1 5 (4 * k) = R (36 + 4 * k) := z.se _ (by omega)
      have s1 : σ.1 5 (4 * k + 1) = R (36 + (4 * k + 1)) := z.se _ (by omega)
      have s2 : σ.1 5 (4 * k + 2) = R (36 + (4 * k + 2)) := z.se _ (by omega)
      have s3 : σ.1 5 (4 * k + 3) = R (36 + (4 * k + 3)) := z.se _ (by omega)
      have kd : σ.1 3 m = R (20 + m) := z.sr.kd m hm
      obtain ⟨kk, hkk, ek⟩ := z.iv.kd m hm
      obtain ⟨x, hx, ex⟩ := z.sv k hk
      have hl := (lk_eq_z kk hkk s hs x hx).1
      rw [bI_t_z, if_neg i_10_z, nm_eq_z, if_neg (by decide), e4]
      simp only [nm_eq_z]
      rw [g1, g2, g3, nI_s_z]
      simp (disch := omega) only [nI_inb_z, nI_nat_z, s0, s1, s2, s3, kd]
      have f1 : m < 8 := by omega
      have f2 : 4 * k + 1 < 20 := by omega
      have f3 : 4 * k + 2 < 20 := by omega
      have f4 : 4 * k + 3 < 20 := by omega
      have f5 : 4 * k < 20 := by omega
      simp only [f1, f2, f3, f4, f5, if_true]
      rw [ek, if_neg (nI_nn_z (by omega)), ex, nI_nat_z (by omega), Nat.mod_eq_of_lt hkk, hl, mbe_z, hb, mb1_z, ek, ex, Bool.true_and]
      by_cases c1 : R (36 + 4 * k) = nI m
      · rw [if_pos c1]
        simp only [c1, decide_true, Bool.not_true, Bool.false_or]
        by_cases c2 : R (36 + (4 * k + 2)) < F_X6_likedAs (nI kk) (nI s) (nI x)
        · have c2' : ¬ F_X6_likedAs (nI kk) (nI s) (nI x) ≤ R (36 + (4 * k + 2)) := (i_nlt_z _ _).mpr c2
          rw [if_pos c2]
          by_cases c3 : R (36 + (4 * k + 3)) = 1
          · simp only [c3, c2', decide_true, decide_false, if_true, if_neg i_01_z]; rfl
          · simp only [c3, c2', decide_true, decide_false, if_false, if_true]; rfl
        · have c2' : F_X6_likedAs (nI kk) (nI s) (nI x) ≤ R (36 + (4 * k + 2)) := (i_nle_z _ _).mp c2
          rw [if_neg c2]
          by_cases c3 : R (36 + (4 * k + 3)) = 1
          · simp only [c3, c2', decide_true, if_true]; rfl
          · simp only [c3, c2', decide_true, decide_false, if_false, if_neg i_10_z]; rfl
      · rw [if_neg c1]
        simp only [c1, decide_false, Bool.not_false, Bool.true_or, bI_t_z]
/-! skilled -/
def skn_z (b : Nat → Bool) : Nat → Nat
  | 0 => 0
  | k + 1 => skn_z b k + if b (k + 1) = true then 1 else 0
def skl_z (b : Nat → Bool) : Nat → Int32
  | 0 => -1
  | k + 1 => if b (k + 1) = true then (if skn_z b k = 0 then nI (k + 1) else skl_z b k) else skl_z b k
def skm_z (b : Nat → Bool) : Nat → Int32
  | 0 => -1
  | k + 1 => if b (k + 1) = true then nI (k + 1) else skm_z b k
theorem skn_le_z (b : Nat → Bool) (k : Nat) : skn_z b k ≤ k := by
  induction k with
  | zero => exact Nat.le_refl _
  | succ k ih => rw [skn_z]; split <;> omega
theorem skl_neg_z (b : Nat → Bool) : ∀ k, k < 100 → (skl_z b k = -1 ↔ skn_z b k = 0) := by
  intro k
  induction k with
  | zero => intro _; exact ⟨fun _ => rfl, fun _ => rfl⟩
  | succ k ih =>
    intro hk
    have ih := ih (by omega)
    rw [skl_z, skn_z]
    by_cases h : b (k + 1) = true
    · rw [if_pos h, if_pos h]
      by_cases g : skn_z b k = 0
      · rw [if_pos g]; exact ⟨fun q => absurd q (oI_neg_z (by omega)), fun q => by omega⟩
      · rw [if_neg g]; exact ⟨fun q => absurd (ih.mp q) g, fun q => by omega⟩
    · rw [if_neg h, if_neg h, Nat.add_zero]; exact ih
theorem x6_skilledL_z {σ : Me_} {R : Nat → Int32} {n f a m : Nat} (hR : σ.1 91 = R) (iv : Iv_z R n f) (r2 : R 2 = nI a) (ha : a ≤ 5) (hm : m < n) (kk : Int32 → Int32 → Int32 → Option (Int32 × Me_)) : F_X6_skilled_L38 σ (nI m) kk FU_ 0 (-1) (-1) 1 = kk (nI (skn_z (fun s => mbe_z R m s a) 9)) (skl_z (fun s => mbe_z R m s a) 9) (skm_z (fun s => mbe_z R m s a) 9) := by
  generalize hb : (fun s => mbe_z R m s a) = b
  have hb' : ∀ s, mbe_z R m s a = b s := fun s => by rw [← hb]
  refine loop4_z (F_X6_skilled_L38 σ (nI m) kk) (fun k => nI (skn_z b k)) (fun k => skl_z b k) (fun k => skm_z b k) (fun k => nI (k + 1)) _ 9 ?_ ?_ FU_ 0 (Nat.zero_le _) (fu_lt_z (by omega))
  · intro q
    rw [F_X6_skilled_L38, if_pos (by decide)]
  · intro k q hk
    have e10 : (10 : Int32) = nI 10 := rfl
    have hle := skn_le_z b k
    have z0 : (nI (skn_z b k) = 0) ↔ skn_z b k = 0 := by rw [nI_lit_z, nI_inj_z (by omega) (by omega)]
    rw [F_X6_skilled_L38, x6_skb_z hR iv r2 ha hm, e10, if_neg (by rw [nI_le_z (by omega) (by omega)]; omega), bd_some_z, hb']
    simp only [nm_eq_z, nI_s_z]
    rw [skn_z, skl_z, skm_z]
    by_cases c : b (k + 1) = true
    · rw [if_neg (fun t => (bI_z_z _).mp t c), if_pos c, if_pos c, if_pos c]
      by_cases g : skn_z b k = 0
      · rw [if_pos (z0.mpr g), if_pos g]
      · rw [if_neg (fun t => g (z0.mp t)), if_neg g]
    · rw [if_pos ((bI_z_z _).mpr c), if_neg c, if_neg c, if_neg c]; rfl
theorem x0_skilledL_z {σ : Me_} {R : Nat → Int32} {n f a c e w m : Nat} (z : Fu_z σ 1 R n f a c e w) (hm : m < n) (kk : Int32 → Int32 → Int32 → Option (Int32 × Me_)) : F_X0_skilled_L36 σ (nI m) kk FU_ 0 (-1) (-1) 1 = kk (nI (skn_z (fun s => mbe_z R m s a) 9)) (skl_z (fun s => mbe_z R m s a) 9) (skm_z (fun s => mbe_z R m s a) 9) := by
  generalize hb : (fun s => mbe_z R m s a) = b
  have hb' : ∀ s, mbe_z R m s a = b s := fun s => by rw [← hb]
  refine loop4_z (F_X0_skilled_L36 σ (nI m) kk) (fun k => nI (skn_z b k)) (fun k => skl_z b k) (fun k => skm_z b k) (fun k => nI (k + 1)) _ 9 ?_ ?_ FU_ 0 (Nat.zero_le _) (fu_lt_z (by omega))
  · intro q
    rw [F_X0_skilled_L36, if_pos (by decide)]
  · intro k q hk
    have e9 : (9 : Int32) = nI 9 := rfl
    have hle := skn_le_z b k
    have z0 := skl_neg_z b k (by omega)
    rw [F_X0_skilled_L36, x0_may_z z hm (by omega), e9, if_neg (by rw [nI_lt_z (by omega) (by omega)]; omega), bd_some_z, hb']
    simp only [nm_eq_z, nI_s_z]
    rw [skn_z, skl_z, skm_z]
    by_cases c : b (k + 1) = true
    · rw [if_neg (fun t => (bI_z_z _).mp t c), if_pos c, if_pos c, if_pos c]
      by_cases g : skn_z b k = 0
      · rw [if_pos (z0.mpr g), if_pos g]
      · rw [if_neg (fun t => g (z0.mp t)), if_neg g]
    · rw [if_pos ((bI_z_z _).mpr c), if_neg c, if_neg c, if_neg c]; rfl
theorem op_skilled_z {σ : Me_} (g : Rel_z σ) (x y : Int32) : Op_z σ (fun σ => F_X0_skilled σ x y) (fun σ => F_X6_skilled σ x y) := by
  obtain ⟨n, f, a, c, e, w, z⟩ := g.fu; have hn8 := z.iv.n8; have hf3 := z.iv.f3; have ha5 := z.a5; have hc6 := z.c6; have he6 := z.e6; have hw8 := z.w8; have i4 := z.sr.e4; have i1 := z.sr.e1; have t0 := z.iv.t0; have t1 := z.iv.t1; have r2 := z.r2; have r3 := z.r3; have r4 := z.r4; have r5 := z.r5; have q2 := z.q2; have q3 := z.q3; have q4 := z.q4; have q5 := z.q5
  by_cases h : F_X6_in x.toInt64 (0 : Int64) ((nI n - 1 : Int32).toInt64) = 0
  · refine op_rf_z g 0 (by omega) (r := -2) ?_ ?_
    · show F_X0_skilled σ x y = _
      unfold F_X0_skilled
      simp only [in06_z, in_and_z, i_z1_z, x0_bad_z, x0_no_z, x0_full_z, x0_badAsk_z, x6_bad_z, x6_no_z, x6_full_z, bi_some_z, bd_some_z, nm_eq_z, F_X0_isKind, F_X6_isKind, F_X0_isSkill, F_X6_isSkill, F_X0_isFar, F_X6_isFar, F_X0_isLong, F_X0_isShip, F_X6_isShip, F_X0_isMan, F_X6_isMan, F_X6_many, rf0_ne_z _ _ (show 91 ≠ 76 by omega), rf0_ne_z _ _ (show 90 ≠ 76 by omega), i4, h, if_true]
    · show F_X6_skilled _ x y = _
      unfold F_X6_skilled
      simp only [in06_z, in_and_z, i_z1_z, x0_bad_z, x0_no_z, x0_full_z, x0_badAsk_z, x6_bad_z, x6_no_z, x6_full_z, bi_some_z, bd_some_z, nm_eq_z, F_X0_isKind, F_X6_isKind, F_X0_isSkill, F_X6_isSkill, F_X0_isFar, F_X6_isFar, F_X0_isLong, F_X0_isShip, F_X6_isShip, F_X0_isMan, F_X6_isMan, F_X6_many, rf0_ne_z _ _ (show 91 ≠ 76 by omega), rf0_ne_z _ _ (show 90 ≠ 76 by omega), t0, h, if_true]
  by_cases h' : F_X6_in y.toInt64 (0 : Int64) (2 : Int64) = 0
  · refine op_rf_z g 0 (by omega) (r := -2) ?_ ?_
    · show F_X0_skilled σ x y = _
      unfold F_X0_skilled
      simp only [in06_z, in_and_z, i_z1_z, x0_bad_z, x0_no_z, x0_full_z, x0_badAsk_z, x6_bad_z, x6_no_z, x6_full_z, bi_some_z, bd_some_z, nm_eq_z, F_X0_isKind, F_X6_isKind, F_X0_isSkill, F_X6_isSkill, F_X0_isFar, F_X6_isFar, F_X0_isLong, F_X0_isShip, F_X6_isShip, F_X0_isMan, F_X6_isMan, F_X6_many, rf0_ne_z _ _ (show 91 ≠ 76 by omega), rf0_ne_z _ _ (show 90 ≠ 76 by omega), i4, h, h', if_true, if_false]
    · show F_X6_skilled _ x y = _
      unfold F_X6_skilled
      simp only [in06_z, in_and_z, i_z1_z, x0_bad_z, x0_no_z, x0_full_z, x0_badAsk_z, x6_bad_z, x6_no_z, x6_full_z, bi_some_z, bd_some_z, nm_eq_z, F_X0_isKind, F_X6_isKind, F_X0_isSkill, F_X6_isSkill, F_X0_isFar, F_X6_isFar, F_X0_isLong, F_X0_isShip, F_X6_isShip, F_X0_isMan, F_X6_isMan, F_X6_many, rf0_ne_z _ _ (show 91 ≠ 76 by omega), rf0_ne_z _ _ (show 90 ≠ 76 by omega), t0, h, h', if_true, if_false]
  obtain ⟨m, hm, em⟩ := in_okn_z (by omega) h
  subst em
  refine op_ro_z g (r := if y = 0 then nI (skn_z (fun s => mbe_z (σ.1 91) m s a) 9) else if y = 1 then skl_z (fun s => mbe_z (σ.1 91) m s a) 9 else skm_z (fun s => mbe_z (σ.1 91) m s a) 9) (σ1 := σ) (σ2 := σ) ?_ ?_ (Same_z.refl _) (Same_z.refl _)
  · show F_X0_skilled σ (nI m) y = _
    unfold F_X0_skilled
    simp only [in06_z, in_and_z, F_X0_isMan, i4, h, h', if_false, nm_eq_z, Bool.false_eq_true]
    rw [x0_skilledL_z z hm]
    by_cases c0 : y = 0
    · simp only [c0, if_true]
    · by_cases c1 : y = 1
      · simp only [c0, c1, if_true, if_false, i_10_z]
      · simp only [c0, c1, if_false]
  · show F_X6_skilled σ (nI m) y = _
    unfold F_X6_skilled
    simp only [in_and_z, F_X6_isMan, F_X6_many, t0, h, h', if_false, nm_eq_z, Bool.false_eq_true]
    rw [x6_skilledL_z rfl z.iv r2 ha5 hm]
    by_cases c0 : y = 0
    · simp only [c0, if_true]
    · by_cases c1 : y = 1
      · simp only [c0, c1, if_true, if_false, i_10_z]
      · simp only [c0, c1, if_false]
