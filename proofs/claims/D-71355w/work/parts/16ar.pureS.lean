set_option maxRecDepth 100000
set_option linter.unusedSimpArgs false
set_option linter.unusedVariables false

/-! PURE S: is, kinds, look, ask -/
def nt1_z (V : Int32 → Int32 → Int32 → Int32) (R : Nat → Int32) (b u kd k : Nat) : Bool := !decide (R (b + 4 * k) = nI u) || decide (V (nI kd) (R (b + (4 * k + 1))) (R (b + (4 * k + 2))) = R (b + (4 * k + 3)))
def ntk_z (V : Int32 → Int32 → Int32 → Int32) (R : Nat → Int32) (b u kd : Nat) : Nat → Bool
  | 0 => true
  | k + 1 => ntk_z V R b u kd k && nt1_z V R b u kd k
theorem ntk_mono_z {V : Int32 → Int32 → Int32 → Int32} {R : Nat → Int32} {b u kd k : Nat} (h : ntk_z V R b u kd k = false) : ∀ d, ntk_z V R b u kd (k + d) = false := by
  intro d
  induction d with
  | zero => exact h
  | succ d ih => rw [← Nat.add_assoc, ntk_z, ih]; rfl
def ksb_z (ok : Nat → Bool) : Nat → Nat
  | 0 => 0
  | k + 1 => ksb_z ok k + if ok k = true then 2 ^ k else 0
theorem ksb_lt_z (ok : Nat → Bool) (k : Nat) : ksb_z ok k < 2 ^ k := by
  induction k with
  | zero => exact Nat.one_pos
  | succ k ih => unfold ksb_z; rw [Nat.pow_succ]; split <;> omega
def Vs_z (x4 : Int32) : Int32 → Int32 → Int32 → Int32 := if x4 = 0 then F_X6_likedAs else F_X6_needsAs
theorem x6_kby19_z {σ : Me_} {R : Nat → Int32} {b u kd c : Nat} (hR : σ.1 91 = R) (hb : b ≤ 80) (hc : c ≤ 6) (x4 : Int32) (kk : Int32 → Option Int32) : F_X6_kindsBy_L19 σ (nI u) (nI b) (nI c) x4 (nI kd) kk FU_ 1 0 = kk (bI_z (ntk_z (Vs_z x4) R b u kd c)) := by
  refine loop2_z (F_X6_kindsBy_L19 σ (nI u) (nI b) (nI c) x4 (nI kd) kk) (fun k => bI_z (ntk_z (Vs_z x4) R b u kd k)) (fun k => nI k) _ c ?_ ?_ FU_ 0 (Nat.zero_le _) (fu_lt_z (by omega))
  · intro q
    rw [F_X6_kindsBy_L19, if_pos (by rw [nI_le_z (by omega) (by omega)]; omega)]
  · intro k q hk
    have e4 : (4 : Int32) * nI k = nI (4 * k) := nI_mul_z 4 k
    have eb : nI b + nI (4 * k) = nI (b + 4 * k) := nI_add_z b _
    have g1 : nI (b + 4 * k) + 1 = nI (b + (4 * k + 1)) := nI_add_z _ 1
    have g2 : nI (b + 4 * k) + 2 = nI (b + (4 * k + 2)) := nI_add_z _ 2
    have g3 : nI (b + 4 * k) + 3 = nI (b + (4 * k + 3)) := nI_add_z _ 3
    have f1 : b + (4 * k + 1) < 192 := by omega
    have f2 : b + (4 * k + 2) < 192 := by omega
    have f3 : b + (4 * k + 3) < 192 := by omega
    have f4 : b + 4 * k < 192 := by omega
    rw [F_X6_kindsBy_L19, if_neg (by rw [nI_le_z (by omega) (by omega)]; omega)]
    simp only [nm_eq_z]
    rw [e4, eb, g1, g2, g3, nI_s_z]
    simp (disch := omega) only [nI_inb_z, nI_nat_z, hR, f1, f2, f3, f4, if_true]
    rw [ntk_z, nt1_z, Vs_z]
    cases ntk_z (if x4 = 0 then F_X6_likedAs else F_X6_needsAs) R b u kd k with
    | false => simp only [bI_f_z, if_true, Bool.false_and, ite_self]
    | true =>
      simp only [bI_t_z, i_10_z, if_false, Bool.true_and]
      by_cases c1 : R (b + 4 * k) = nI u
      · simp only [c1, if_true, decide_true, Bool.not_true, Bool.false_or]
        by_cases c0 : x4 = 0
        · simp only [c0, if_true]
          by_cases c2 : F_X6_likedAs (nI kd) (R (b + (4 * k + 1))) (R (b + (4 * k + 2))) = R (b + (4 * k + 3))
          · simp only [c2, if_true, decide_true, bI_t_z]
          · simp only [c2, if_false, decide_false, bI_f_z]
        · simp only [c0, if_false]
          by_cases c2 : F_X6_needsAs (nI kd) (R (b + (4 * k + 1))) (R (b + (4 * k + 2))) = R (b + (4 * k + 3))
          · simp only [c2, if_true, decide_true, bI_t_z]
          · simp only [c2, if_false, decide_false, bI_f_z]
      · simp only [c1, if_false, decide_false, Bool.not_false, Bool.true_or, bI_t_z, ite_self]
theorem ks_step_z {ok : Nat → Bool} {k : Nat} (hk : k < 6) : nI (ksb_z ok k) ||| (if bI_z (ok k) = 0 then 0 else (1 : Int32) <<< (nI k &&& 31)) = nI (ksb_z ok (k + 1)) := by
  rw [ksb_z]
  by_cases c : ok k = true
  · rw [if_neg (fun t => (bI_z_z _).mp t c), if_pos c, b_or_z k (by omega) _ (ksb_lt_z ok k)]
  · rw [if_pos ((bI_z_z _).mpr c), if_neg c, b_or0_z]; rfl
theorem x6_kby_z {σ : Me_} {R : Nat → Int32} {b u c : Nat} (hR : σ.1 91 = R) (hb : b ≤ 80) (hc : c ≤ 6) (x4 : Int32) : F_X6_kindsBy σ (nI u) (nI b) (nI c) x4 = some (nI (ksb_z (fun kd => ntk_z (Vs_z x4) R b u kd c) 6)) := by
  unfold F_X6_kindsBy
  refine loop2_z (F_X6_kindsBy_L6 σ (nI u) (nI b) (nI c) x4) (fun k => nI (ksb_z (fun kd => ntk_z (Vs_z x4) R b u kd c) k)) (fun k => nI k) _ 6 ?_ ?_ FU_ 0 (Nat.zero_le _) (fu_lt_z (by omega))
  · intro q
    rw [F_X6_kindsBy_L6, if_pos (by decide)]
  · intro k q hk
    have e6' : (6 : Int32) = nI 6 := rfl
    rw [F_X6_kindsBy_L6, e6', if_neg (by rw [nI_le_z (by omega) (by omega)]; omega), nm_eq_z, x6_kby19_z hR hb hc]
    simp only [nm_eq_z, nI_s_z]
    rw [ks_step_z (ok := fun kd => ntk_z (Vs_z x4) R b u kd c) hk]
theorem x0_sails_z {σ : Me_} {R : Nat → Int32} {n f a c e w u : Nat} (z : Fu_z σ 1 R n f a c e w) : F_X0_sailsOf σ (nI u) = some (nI (ksb_z (fun kd => ntk_z F_X6_needsAs R 56 u kd c) 6)) := by
  have hc := z.c6
  unfold F_X0_sailsOf
  refine loop2_z (F_X0_sailsOf_L13 σ (nI u)) (fun k => nI (ksb_z (fun kd => ntk_z F_X6_needsAs R 56 u kd c) k)) (fun k => nI k) _ 6 ?_ ?_ FU_ 0 (Nat.zero_le _) (fu_lt_z (by omega))
  · intro q
    rw [F_X0_sailsOf_L13, if_pos (by decide)]
  · intro kd q hkd
    have e6' : (6 : Int32) = nI 6 := rfl
    rw [F_X0_sailsOf_L13, e6', if_neg (by rw [nI_le_z (by omega) (by omega)]; omega), nm_eq_z]
    rw [← ks_step_z (ok := fun kd => ntk_z F_X6_needsAs R 56 u kd c) hkd]
    refine loopE2_z (F_X0_sailsOf_L26 σ (nI u) (nI kd) _) (fun k => bI_z (ntk_z F_X6_needsAs R 56 u kd k)) (fun k => nI k) _ c ?_ ?_ FU_ 0 (Nat.zero_le _) (fu_lt_z (by omega))
    · intro q
      rw [F_X0_sailsOf_L26, z.q3, if_pos (by rw [nI_le_z (by omega) (by omega)]; omega), nm_eq_z, if_pos rfl]
      simp only [nm_eq_z, nI_s_z]
    · intro k q hk
      rw [F_X0_sailsOf_L26, z.q3, if_neg (by rw [nI_le_z (by omega) (by omega)]; omega)]
      cases hb : ntk_z F_X6_needsAs R 56 u kd k with
      | false =>
        right
        rw [bI_f_z, if_pos rfl, nm_eq_z, if_pos rfl]
        have := ntk_mono_z hb (c - k)
        rw [Nat.add_sub_of_le (by omega)] at this
        simp only [nm_eq_z, nI_s_z]
        rw [this, bI_f_z]
        simp only [eq_self, if_true]
      | true =>
        left
        have e4 : (4 : Int32) * nI k = nI (4 * k) := nI_mul_z 4 k
        have g1 : nI (4 * k) + 1 = nI (4 * k + 1) := nI_add_z _ 1
        have g2 : nI (4 * k) + 2 = nI (4 * k + 2) := nI_add_z _ 2
        have g3 : nI (4 * k) + 3 = nI (4 * k + 3) := nI_add_z _ 3
        have s0 : σ.1 6 (4 * k) = R (56 + 4 * k) := z.no _ (by omega)
        have s1 : σ.1 6 (4 * k + 1) = R (56 + (4 * k + 1)) := z.no _ (by omega)
        have s2 : σ.1 6 (4 * k + 2) = R (56 + (4 * k + 2)) := z.no _ (by omega)
        have s3 : σ.1 6 (4 * k + 3) = R (56 + (4 * k + 3)) := z.no _ (by omega)
        have f1 : 4 * k + 1 < 24 := by omega
        have f2 : 4 * k + 2 < 24 := by omega
        have f3 : 4 * k + 3 < 24 := by omega
        have f4 : 4 * k < 24 := by omega
        obtain ⟨d, x, hd, hx, ed, ex⟩ := z.nv k hk
        have hl := nd_eq_z kd hkd d hd x hx
        rw [bI_t_z, if_neg i_10_z, nm_eq_z, if_neg (by decide), nm_eq_z, e4, g1, g2, g3]
        rw [nm_eq_z]
        simp (disch := omega) only [nI_inb_z, nI_nat_z, s0, s1, s2, s3, f1, f2, f3, f4, hkd, if_true, nm_eq_z, nI_s_z]
        rw [ed, ex, hl, ntk_z, hb, nt1_z, ed, ex, Bool.true_and]
        by_cases c1 : R (56 + 4 * k) = nI u
        · simp only [c1, if_true, decide_true, Bool.not_true, Bool.false_or]
          by_cases c2 : F_X6_needsAs (nI kd) (nI d) (nI x) = R (56 + (4 * k + 3))
          · simp only [c2, if_true, decide_true, bI_t_z]
          · simp only [c2, if_false, decide_false, bI_f_z]
        · simp only [c1, if_false, decide_false, Bool.not_false, Bool.true_or, bI_t_z]
theorem x0_beach_z {σ : Me_} {R : Nat → Int32} {n f a c e w u : Nat} (z : Fu_z σ 1 R n f a c e w) : F_X0_beachOf σ (nI u) = some (nI (ksb_z (fun kd => ntk_z F_X6_likedAs R 80 u kd e) 6)) := by
  have he := z.e6
  unfold F_X0_beachOf
  refine loop2_z (F_X0_beachOf_L13 σ (nI u)) (fun k => nI (ksb_z (fun kd => ntk_z F_X6_likedAs R 80 u kd e) k)) (fun k => nI k) _ 6 ?_ ?_ FU_ 0 (Nat.zero_le _) (fu_lt_z (by omega))
  · intro q
    rw [F_X0_beachOf_L13, if_pos (by decide)]
  · intro kd q hkd
    have e6' : (6 : Int32) = nI 6 := rfl
    rw [F_X0_beachOf_L13, e6', if_neg (by rw [nI_le_z (by omega) (by omega)]; omega), nm_eq_z]
    rw [← ks_step_z (ok := fun kd => ntk_z F_X6_likedAs R 80 u kd e) hkd]
    refine loopE2_z (F_X0_beachOf_L26 σ (nI u) (nI kd) _) (fun k => bI_z (ntk_z F_X6_likedAs R 80 u kd k)) (fun k => nI k) _ e ?_ ?_ FU_ 0 (Nat.zero_le _) (fu_lt_z (by omega))
    · intro q
      rw [F_X0_beachOf_L26, z.q4, if_pos (by rw [nI_le_z (by omega) (by omega)]; omega), nm_eq_z, if_pos rfl]
      simp only [nm_eq_z, nI_s_z]
    · intro k q hk
      rw [F_X0_beachOf_L26, z.q4, if_neg (by rw [nI_le_z (by omega) (by omega)]; omega)]
      cases hb : ntk_z F_X6_likedAs R 80 u kd k with
      | false =>
        right
        rw [bI_f_z, if_pos rfl, nm_eq_z, if_pos rfl]
        have := ntk_mono_z hb (e - k)
        rw [Nat.add_sub_of_le (by omega)] at this
        simp only [nm_eq_z, nI_s_z]
        rw [this, bI_f_z]
        simp only [eq_self, if_true]
      | true =>
        left
        have e4 : (4 : Int32) * nI k = nI (4 * k) := nI_mul_z 4 k
        have g1 : nI (4 * k) + 1 = nI (4 * k + 1) := nI_add_z _ 1
        have g2 : nI (4 * k) + 2 = nI (4 * k + 2) := nI_add_z _ 2
        have g3 : nI (4 * k) + 3 = nI (4 * k + 3) := nI_add_z _ 3
        have s0 : σ.1 7 (4 * k) = R (80 + 4 * k) := z.ma _ (by omega)
        have s1 : σ.1 7 (4 * k + 1) = R (80 + (4 * k + 1)) := z.ma _ (by omega)
        have s2 : σ.1 7 (4 * k + 2) = R (80 + (4 * k + 2)) := z.ma _ (by omega)
        have s3 : σ.1 7 (4 * k + 3) = R (80 + (4 * k + 3)) := z.ma _ (by omega)
        have f1 : 4 * k + 1 < 24 := by omega
        have f2 : 4 * k + 2 < 24 := by omega
        have f3 : 4 * k + 3 < 24 := by omega
        have f4 : 4 * k < 24 := by omega
        obtain ⟨d, x, hd, hx, ed, ex⟩ := z.mv k hk
        have hl := (lk_eq_z kd hkd d hd x hx).1
        rw [bI_t_z, if_neg i_10_z, nm_eq_z, if_neg (by decide), nm_eq_z, e4, g1, g2, g3]
        rw [nm_eq_z]
        simp (disch := omega) only [nI_inb_z, nI_nat_z, s0, s1, s2, s3, f1, f2, f3, f4, hkd, if_true, nm_eq_z, nI_s_z]
        rw [ed, ex, hl, ntk_z, hb, nt1_z, ed, ex, Bool.true_and]
        by_cases c1 : R (80 + 4 * k) = nI u
        · simp only [c1, if_true, decide_true, Bool.not_true, Bool.false_or]
          by_cases c2 : F_X6_likedAs (nI kd) (nI d) (nI x) = R (80 + (4 * k + 3))
          · simp only [c2, if_true, decide_true, bI_t_z]
          · simp only [c2, if_false, decide_false, bI_f_z]
        · simp only [c1, if_false, decide_false, Bool.not_false, Bool.true_or, bI_t_z]

/-! alike -/
def btx_z (x a : Nat) : Bool := decide (x / 2 ^ a % 2 = 1)
theorem hs_eq_z : ∀ x, x < 64 → ∀ a, a < 6 → F_X6_has (nI x) (nI a) = bI_z (btx_z x a) := by decide +kernel
theorem bb_eq_z : ∀ x, x < 64 → ∀ a, a < 6 → ∀ b, b < 6 → ((((nI x >>> (nI a &&& 31)) &&& (nI x >>> (nI b &&& 31))) &&& (1 : Int32) = 1) ↔ (btx_z x a && btx_z x b) = true) := by decide +kernel
def alk_z (x : Nat) (v : Nat → Int32) (a : Nat) : Nat → Nat
  | 0 => 0
  | b + 1 => alk_z x v a b + if (btx_z x a && btx_z x b && decide (v a = v b)) = true then 1 else 0
def tpk_z (x : Nat) (v : Nat → Int32) : Nat → Nat
  | 0 => 0
  | a + 1 => if tpk_z x v a < alk_z x v a 6 then alk_z x v a 6 else tpk_z x v a
theorem alk_le_z (x : Nat) (v : Nat → Int32) (a b : Nat) : alk_z x v a b ≤ b := by
  induction b with
  | zero => exact Nat.le_refl _
  | succ b ih => rw [alk_z]; split <;> omega
theorem tpk_le_z (x : Nat) (v : Nat → Int32) (a : Nat) : tpk_z x v a ≤ 6 := by
  induction a with
  | zero => exact Nat.zero_le _
  | succ a ih => rw [tpk_z]; have := alk_le_z x v a 6; split <;> omega
theorem alk_z_z (x : Nat) (v : Nat → Int32) (a : Nat) (h : btx_z x a = false) (b : Nat) : alk_z x v a b = 0 := by
  induction b with
  | zero => rfl
  | succ b ih => rw [alk_z, ih, h]; rfl
theorem x6_alike_z {σ : Me_} {x : Nat} {v : Nat → Int32} (hx : x < 64) (hv : ∀ i, i < 6 → σ.1 99 i = v i) : F_X6_mostAlike σ (nI x) = some (nI (tpk_z x v 6)) := by
  unfold F_X6_mostAlike
  refine loop2_z (F_X6_mostAlike_L4 σ (nI x)) (fun k => nI (tpk_z x v k)) (fun k => nI k) _ 6 ?_ ?_ FU_ 0 (Nat.zero_le _) (fu_lt_z (by omega))
  · intro q
    rw [F_X6_mostAlike_L4, if_pos (by decide)]
  · intro a q ha
    have e6' : (6 : Int32) = nI 6 := rfl
    have hal := alk_le_z x v a 6
    have htp := tpk_le_z x v a
    rw [F_X6_mostAlike_L4, e6', if_neg (by rw [nI_le_z (by omega) (by omega)]; omega), nm_eq_z]
    have : ∀ kk : Int32 → Option Int32, F_X6_mostAlike_L16 σ (nI x) (nI a) kk FU_ 0 0 = kk (nI (alk_z x v a 6)) := by
      intro kk
      refine loopE2_z (F_X6_mostAlike_L16 σ (nI x) (nI a) kk) (fun k => nI (alk_z x v a k)) (fun k => nI k) _ 6 ?_ ?_ FU_ 0 (Nat.zero_le _) (fu_lt_z (by omega))
      · intro q
        rw [F_X6_mostAlike_L16, if_pos (by decide)]
      · intro b q hb
        rw [F_X6_mostAlike_L16, e6', if_neg (by rw [nI_le_z (by omega) (by omega)]; omega), hs_eq_z x hx a ha, hs_eq_z x hx b hb]
        cases h1 : btx_z x a with
        | false => right; rw [bI_f_z, if_pos rfl, alk_z_z x v a h1, alk_z_z x v a h1]
        | true =>
          left
          rw [bI_t_z, if_neg i_10_z]
          simp (disch := omega) only [nm_eq_z, nI_inb_z, nI_nat_z, ha, hb, if_true, hv a ha, hv b hb, nI_s_z]
          rw [alk_z, h1, Bool.true_and]
          cases h2 : btx_z x b with
          | false => rw [bI_f_z, if_pos rfl, i_zadd_z]; rfl
          | true =>
            rw [bI_t_z, if_neg i_10_z, Bool.true_and]
            by_cases c : v a = v b
            · rw [if_pos c, if_pos (by rw [c]; exact decide_eq_true rfl)]
            · rw [if_neg c, if_neg (by rw [decide_eq_true_eq]; exact c), i_zadd_z]; rfl
    rw [this]
    simp only [nm_eq_z, nI_s_z]
    rw [tpk_z]
    have hle : nI (alk_z x v a 6) ≤ nI (tpk_z x v a) ↔ alk_z x v a 6 ≤ tpk_z x v a := nI_le_z (by omega) (by omega)
    by_cases c : tpk_z x v a < alk_z x v a 6
    · rw [if_neg (fun t => by have := hle.mp t; omega), if_pos c]
    · rw [if_pos (hle.mpr (by omega)), if_neg c]
theorem mx_if_z (x : Nat) (v : Nat → Int32) (a : Nat) : (if nI (tpk_z x v a) < nI (alk_z x v a 6) then nI (alk_z x v a 6) else nI (tpk_z x v a)) = nI (tpk_z x v (a + 1)) := by
  have hal := alk_le_z x v a 6
  have htp := tpk_le_z x v a
  have hlt : nI (tpk_z x v a) < nI (alk_z x v a 6) ↔ tpk_z x v a < alk_z x v a 6 := nI_lt_z (by omega) (by omega)
  rw [tpk_z]
  by_cases c : tpk_z x v a < alk_z x v a 6
  · rw [if_pos (hlt.mpr c), if_pos c]
  · rw [if_neg (fun t => c (hlt.mp t)), if_neg c]
theorem x0_alike_z {x code : Nat} {v : Nat → Int32} (hx : x < 64) (hv : ∀ i, i < 6 → FV_S_needs i (nI code / (10 : Int32)) (nI code - nI code / (10 : Int32) * (10 : Int32)) = v i) : F_X0_needAlike (nI x) (nI code) = some (nI (tpk_z x v 6)) := by
  unfold F_X0_needAlike
  refine loop2_z (F_X0_needAlike_L4 (nI x) (nI code)) (fun k => nI (tpk_z x v k)) (fun k => nI k) _ 6 ?_ ?_ FU_ 0 (Nat.zero_le _) (fu_lt_z (by omega))
  · intro q
    rw [F_X0_needAlike_L4, if_pos (by decide)]
  · intro a q ha
    have e6' : (6 : Int32) = nI 6 := rfl
    rw [F_X0_needAlike_L4, e6', if_neg (by rw [nI_le_z (by omega) (by omega)]; omega), nm_eq_z]
    have : ∀ kk : Int32 → Option Int32, F_X0_needAlike_L16 (nI x) (nI code) (nI a) kk FU_ 0 0 = kk (nI (alk_z x v a 6)) := by
      intro kk
      refine loop2_z (F_X0_needAlike_L16 (nI x) (nI code) (nI a) kk) (fun k => nI (alk_z x v a k)) (fun k => nI k) _ 6 ?_ ?_ FU_ 0 (Nat.zero_le _) (fu_lt_z (by omega))
      · intro q
        rw [F_X0_needAlike_L16, if_pos (by decide)]
      · intro b q hb
        rw [F_X0_needAlike_L16, e6', if_neg (by rw [nI_le_z (by omega) (by omega)]; omega), if_pos (by rw [nI_inb_z (by omega)]; omega), if_pos (by rw [nI_inb_z (by omega)]; omega), nI_nat_z (by omega), nI_nat_z (by omega), hv a ha, hv b hb]
        simp only [nm_eq_z, nI_s_z]
        rw [alk_z]
        have hbb := bb_eq_z x hx a ha b hb
        by_cases c0 : (btx_z x a && btx_z x b) = true
        · rw [if_pos (hbb.mpr c0), c0, Bool.true_and]
          by_cases c : v a = v b
          · rw [if_pos c, if_neg i_10_z, if_pos (by rw [c]; exact decide_eq_true rfl), nI_s_z]
          · rw [if_neg c, if_pos rfl, if_neg (by rw [decide_eq_true_eq]; exact c), i_zadd_z]; rfl
        · rw [if_neg (fun t => c0 (hbb.mp t)), i_zadd_z, if_neg (by rw [Bool.and_eq_true]; exact fun t => c0 t.1)]; rfl
    rw [this]
    simp only [nm_eq_z, nI_s_z]
    rw [mx_if_z]
theorem x0_alikeM_z {x : Nat} {s t : Int32} {v : Nat → Int32} (hx : x < 64) (hv : ∀ i, i < 6 → FV_M_liked i s t = v i) (kk : Int32 → Option (Int32 × Me_)) : F_X0_ask_L56 (nI x) s t kk FU_ 0 0 = kk (nI (tpk_z x v 6)) := by
  refine loop2_z (F_X0_ask_L56 (nI x) s t kk) (fun k => nI (tpk_z x v k)) (fun k => nI k) _ 6 ?_ ?_ FU_ 0 (Nat.zero_le _) (fu_lt_z (by omega))
  · intro q
    rw [F_X0_ask_L56, if_pos (by decide)]
  · intro a q ha
    have e6' : (6 : Int32) = nI 6 := rfl
    rw [F_X0_ask_L56, e6', if_neg (by rw [nI_le_z (by omega) (by omega)]; omega), nm_eq_z]
    have : ∀ kk : Int32 → Option (Int32 × Me_), F_X0_ask_L69 (nI x) s t (nI a) kk FU_ 0 0 = kk (nI (alk_z x v a 6)) := by
      intro kk
      refine loop2_z (F_X0_ask_L69 (nI x) s t (nI a) kk) (fun k => nI (alk_z x v a k)) (fun k => nI k) _ 6 ?_ ?_ FU_ 0 (Nat.zero_le _) (fu_lt_z (by omega))
      · intro q
        rw [F_X0_ask_L69, if_pos (by decide)]
      · intro b q hb
        rw [F_X0_ask_L69, e6', if_neg (by rw [nI_le_z (by omega) (by omega)]; omega)]
        simp only [nm_eq_z, nI_s_z]
        rw [if_pos (show inb_ (nI a) 6 = true by rw [nI_inb_z (by omega)]; omega), if_pos (show inb_ (nI b) 6 = true by rw [nI_inb_z (by omega)]; omega), nI_nat_z (by omega), nI_nat_z (by omega), hv a ha, hv b hb, alk_z]
        have hbb := bb_eq_z x hx a ha b hb
        by_cases c0 : (btx_z x a && btx_z x b) = true
        · rw [if_pos (hbb.mpr c0), c0, Bool.true_and]
          by_cases c : v a = v b
          · rw [if_pos c, if_pos (by rw [c]; exact decide_eq_true rfl)]
          · rw [if_neg c, if_neg (by rw [decide_eq_true_eq]; exact c), i_zadd_z]; rfl
        · rw [if_neg (fun t => c0 (hbb.mp t)), i_zadd_z, if_neg (by rw [Bool.and_eq_true]; exact fun t => c0 t.1)]; rfl
    rw [this]
    simp only [nm_eq_z, nI_s_z]
    rw [mx_if_z]
