set_option maxRecDepth 100000
set_option linter.unusedSimpArgs false
set_option linter.unusedVariables false

/-! PURE O: lots, centuries -/
def nL_z (n : Nat) : Int64 := Int64.ofNat n
theorem nL_int_z {a : Nat} (h : a < 9223372036854775808) : (nL_z a).toInt = a := Int64.toInt_ofNat_of_lt (by simpa using h)
theorem nL_add_z (a b : Nat) : nL_z a + nL_z b = nL_z (a + b) := (Int64.ofNat_add a b).symm
theorem nL_mul_z (a b : Nat) : nL_z a * nL_z b = nL_z (a * b) := (Int64.ofNat_mul a b).symm
theorem nL_lit_z (n : Nat) : (OfNat.ofNat n : Int64) = nL_z (OfNat.ofNat n) := rfl
theorem nL_div_z {a b : Nat} (ha : a < 9223372036854775808) (hb : b < 9223372036854775808) (hz : 0 < b) : nL_z a / nL_z b = nL_z (a / b) := by
  apply Int64.toInt_inj.mp
  have hle : a / b ≤ a := Nat.div_le_self a b
  rw [nL_int_z (by omega), Int64.toInt_div_of_ne_right]
  · rw [nL_int_z ha, nL_int_z hb, Int.ofNat_tdiv]
  · intro q
    have := congrArg Int64.toInt q
    rw [nL_int_z hb] at this
    have e : (-1 : Int64).toInt = -1 := by decide
    omega
theorem nL_sub_z {a b : Nat} (h : b ≤ a) : nL_z a - nL_z b = nL_z (a - b) := by
  have : nL_z a = nL_z (a - b) + nL_z b := by rw [nL_add_z]; congr 1; omega
  rw [this]
  exact Int64.add_sub_cancel _ _
theorem nL_rem_z {a b : Nat} (ha : a < 9223372036854775808) (hb : b < 9223372036854775808) (hz : 0 < b) : nL_z a - nL_z a / nL_z b * nL_z b = nL_z (a % b) := by
  rw [nL_div_z ha hb hz, nL_mul_z, nL_sub_z (Nat.div_mul_le_self a b)]
  congr 1
  have := Nat.div_add_mod a b
  rw [Nat.mul_comm] at this
  omega
theorem nL_zero_z {a : Nat} (h : a < 9223372036854775808) : (nL_z a = 0) ↔ a = 0 := by
  constructor
  · intro q
    have := congrArg Int64.toInt q
    rw [nL_int_z h] at this
    have e : (0 : Int64).toInt = 0 := by decide
    omega
  · intro q; rw [q]; rfl
theorem nI_64_z {a : Nat} (h : a < 2147483648) : (nI a).toInt64 = nL_z a := by
  apply Int64.toInt_inj.mp
  rw [Int32.toInt_toInt64, nI_int_z h, nL_int_z (by omega)]
theorem nL_32_z {a : Nat} (h : a < 2147483648) : (nL_z a).toInt32 = nI a := by
  apply Int32.toInt_inj.mp
  rw [nI_int_z h, Int64.toInt_toInt32, nL_int_z (by omega)]
  rw [Int.bmod_eq_of_le] <;> omega
theorem x0_div_z : ∀ q a b, a < 1000 → b < 1000 → b < q → F_X0_divisor_L6 q (nL_z a) (nL_z b) = some (nL_z (Nat.gcd a b)) := by
  intro q
  induction q with
  | zero => intro a b _ _ h; omega
  | succ q ih =>
    intro a b ha hb hq
    rw [F_X0_divisor_L6]
    by_cases e : b = 0
    · subst e
      rw [if_pos ((lc_eq_z (nL_z 0) 0).mpr rfl), Nat.gcd_zero_right]
    · have nz : ¬ nL_z b = 0 := fun t => e ((nL_zero_z (by omega)).mp t)
      rw [if_neg (fun t => nz ((lc_eq_z _ _).mp t)), if_neg nz]
      have hm := Nat.mod_lt a (show 0 < b by omega)
      simp only [nm_eq_z]
      rw [nL_rem_z (by omega) (by omega) (by omega), ih b (a % b) hb (by omega) (by omega)]
      rw [Nat.gcd_comm b (a % b), ← Nat.gcd_rec, Nat.gcd_comm]
theorem x6_frac_z (k : Int64 → Option Me_) : ∀ q y z, F_X6_fraction_L6 k q y z = (F_X0_divisor_L6 q y z).bind k := by
  intro q
  induction q with
  | zero => intro y z; rfl
  | succ q ih =>
    intro y z
    rw [F_X6_fraction_L6, F_X0_divisor_L6]
    split
    · rfl
    · split
      · rfl
      · simp only [nm_eq_z]; exact ih _ _
theorem ml_1_z (σ : Me_) (i k : Nat) (v : Int64) : (me_lset σ i k v).1 = σ.1 := rfl
theorem ml_same_z (σ : Me_) (i k : Nat) (v : Int64) : (me_lset σ i k v).2 i = vp_updL (σ.2 i) k v := if_pos rfl
theorem ml_ne_z (σ : Me_) {i j : Nat} (k : Nat) (v : Int64) (h : j ≠ i) : (me_lset σ i k v).2 j = σ.2 j := if_neg h
theorem vu_same_z (f : Nat → Int64) (k : Nat) (x : Int64) : vp_updL f k x k = x := if_pos rfl
theorem vu_ne_z (f : Nat → Int64) {k j : Nat} (x : Int64) (h : j ≠ k) : vp_updL f k x j = f j := if_neg h
theorem Fu_z.con1 {σ σ' : Me_} {b : Nat} {R : Nat → Int32} {n f a c e w : Nat} (g : Fu_z σ b R n f a c e w) (h : σ'.1 = σ.1) : Fu_z σ' b R n f a c e w := g.congr (fun k _ => by rw [h])
theorem op_lots_z {σ : Me_} (g : Rel_z σ) (x y : Int32) : Op_z σ (fun σ => F_X0_lots σ x y) (fun σ => F_X6_lots σ x y) := by
  obtain ⟨n, f, a, c, e, w, z⟩ := g.fu; have hn8 := z.iv.n8; have hf3 := z.iv.f3; have ha5 := z.a5; have hc6 := z.c6; have he6 := z.e6; have hw8 := z.w8; have i4 := z.sr.e4; have i1 := z.sr.e1; have t0 := z.iv.t0; have t1 := z.iv.t1; have r2 := z.r2; have r3 := z.r3; have r4 := z.r4; have r5 := z.r5; have q2 := z.q2; have q3 := z.q3; have q4 := z.q4; have q5 := z.q5
  by_cases h : F_X6_in x.toInt64 (0 : Int64) ((nI n - 1 : Int32).toInt64) = 0
  · refine op_rf_z g 0 (by omega) (r := -2) ?_ ?_
    · show F_X0_lots σ x y = _
      unfold F_X0_lots
      simp only [in06_z, in_and_z, i_z1_z, x0_bad_z, x0_no_z, x0_full_z, x0_badAsk_z, x6_bad_z, x6_no_z, x6_full_z, bi_some_z, bd_some_z, nm_eq_z, F_X0_isKind, F_X6_isKind, F_X0_isSkill, F_X6_isSkill, F_X0_isFar, F_X6_isFar, F_X0_isLong, F_X0_isShip, F_X6_isShip, F_X0_isMan, F_X6_isMan, F_X6_many, rf0_ne_z _ _ (show 91 ≠ 76 by omega), rf0_ne_z _ _ (show 90 ≠ 76 by omega), i4, h, if_true]
    · show F_X6_lots _ x y = _
      unfold F_X6_lots
      simp only [in06_z, in_and_z, i_z1_z, x0_bad_z, x0_no_z, x0_full_z, x0_badAsk_z, x6_bad_z, x6_no_z, x6_full_z, bi_some_z, bd_some_z, nm_eq_z, F_X0_isKind, F_X6_isKind, F_X0_isSkill, F_X6_isSkill, F_X0_isFar, F_X6_isFar, F_X0_isLong, F_X0_isShip, F_X6_isShip, F_X0_isMan, F_X6_isMan, F_X6_many, rf0_ne_z _ _ (show 91 ≠ 76 by omega), rf0_ne_z _ _ (show 90 ≠ 76 by omega), t0, h, if_true]
  by_cases h' : F_X6_in y.toInt64 (0 : Int64) (8 : Int64) = 0
  · refine op_rf_z g 0 (by omega) (r := -2) ?_ ?_
    · show F_X0_lots σ x y = _
      unfold F_X0_lots
      simp only [in06_z, in_and_z, i_z1_z, x0_bad_z, x0_no_z, x0_full_z, x0_badAsk_z, x6_bad_z, x6_no_z, x6_full_z, bi_some_z, bd_some_z, nm_eq_z, F_X0_isKind, F_X6_isKind, F_X0_isSkill, F_X6_isSkill, F_X0_isFar, F_X6_isFar, F_X0_isLong, F_X0_isShip, F_X6_isShip, F_X0_isMan, F_X6_isMan, F_X6_many, rf0_ne_z _ _ (show 91 ≠ 76 by omega), rf0_ne_z _ _ (show 90 ≠ 76 by omega), i4, h, h', if_true, if_false]
    · show F_X6_lots _ x y = _
      unfold F_X6_lots
      simp only [in06_z, in_and_z, i_z1_z, x0_bad_z, x0_no_z, x0_full_z, x0_badAsk_z, x6_bad_z, x6_no_z, x6_full_z, bi_some_z, bd_some_z, nm_eq_z, F_X0_isKind, F_X6_isKind, F_X0_isSkill, F_X6_isSkill, F_X0_isFar, F_X6_isFar, F_X0_isLong, F_X0_isShip, F_X6_isShip, F_X0_isMan, F_X6_isMan, F_X6_many, rf0_ne_z _ _ (show 91 ≠ 76 by omega), rf0_ne_z _ _ (show 90 ≠ 76 by omega), t0, h, h', if_true, if_false]
  obtain ⟨m, hm, em⟩ := in_okn_z (by omega) h
  obtain ⟨d, hd1, hd, ed⟩ := in_oka_z (a := 0) (b := 8) (by decide) (by decide) h'
  subst em
  subst ed
  have iv := z.iv
  have sr := z.sr
  have b1 : inb_ (nI m) 8 = true := by rw [nI_inb_z (by omega)]; omega
  have b2 : inb_ (nI (6 + m)) 192 = true := by rw [nI_inb_z (by omega)]; omega
  have e6' : (6 : Int32) + nI m = nI (6 + m) := nI_add_z 6 m
  have pl : σ.1 9 m = σ.1 91 (6 + m) - 1 := sr.pl m hm
  by_cases q : σ.1 91 (6 + m) = 0
  · refine op_rf_z g 1 (by omega) (r := -3) ?_ ?_
    · show F_X0_lots σ (nI m) (nI d) = _
      unfold F_X0_lots
      simp (disch := omega) only [in06_z, in_and_z, F_X0_isMan, i4, h, h', if_false, if_true, nm_eq_z, Bool.false_eq_true, b1, nI_nat_z, pl, i_m1_z, q, x0_no_z, bi_some_z]
    · show F_X6_lots _ (nI m) (nI d) = _
      unfold F_X6_lots
      simp (disch := omega) only [in_and_z, F_X6_isMan, F_X6_many, rf0_ne_z _ _ (show 91 ≠ 76 by omega), t0, h, h', if_false, if_true, nm_eq_z, Bool.false_eq_true, e6', b2, nI_nat_z, i_m1_z, q, x6_no_z, bi_some_z]
  · obtain ⟨p, hp, ep⟩ := iv.pl m hm
    generalize hC : cnt_z (σ.1 91) (σ.1 91 (6 + m)) n = C
    have hC1 : 1 ≤ C := by
      have := fun t => bst_zero_z (σ.1 91) (σ.1 91 (6 + m)) n |>.mpr t
      by_cases t : C = 0
      · have hb := b_bit_z (σ.1 91) (σ.1 91 (6 + m)) n m hm
        rw [this (by rw [hC]; exact t), if_pos rfl, Nat.zero_div] at hb; omega
      · omega
    have hC2 : C ≤ 8 := by rw [← hC]; have := cnt_le_z (σ.1 91) (σ.1 91 (6 + m)) n; omega
    generalize hG : (if C < d then C else d) = G
    have hG8 : G ≤ 8 := by rw [← hG]; split <;> omega
    have ga : (if nI C < nI d then nI C else nI d) = nI G := by
      rw [← hG]; simp (disch := omega) only [nI_lt_z]; split <;> rfl
    have gb : (if nI C ≤ nI d then (nI C).toInt64 else (nI d).toInt64) = nL_z G := by
      simp (disch := omega) only [nI_le_z, nI_64_z]; rw [← hG]
      by_cases t : C < d
      · rw [if_pos t, if_pos (by omega)]
      · rw [if_neg t]; by_cases t2 : C ≤ d
        · rw [if_pos t2]; congr 1; omega
        · rw [if_neg t2]
    have hD : F_X0_divisor (nL_z G) (nL_z C) = some (nL_z (Nat.gcd G C)) := x0_div_z FU_ G C (by omega) (by omega) (fu_lt_z (by omega))
    have hg0 : 0 < Nat.gcd G C := Nat.gcd_pos_of_pos_right _ (by omega)
    have hg8 : Nat.gcd G C ≤ C := Nat.gcd_le_right _ (by omega)
    generalize Nat.gcd G C = D at *
    have nz : ¬ nL_z D = 0 := fun t => by rw [nL_zero_z (by omega)] at t; omega
    refine ⟨1, me_lset (me_lset σ 0 7 (nL_z G / nL_z D)) 0 8 (nL_z C / nL_z D), me_lset (me_lset (me_lset (me_lset σ 0 7 (nL_z G / nL_z D)) 0 8 (nL_z C / nL_z D)) 90 4 (nL_z G / nL_z D)) 90 5 (nL_z C / nL_z D), ?_, ?_, ?_, rfl, rfl⟩
    · show F_X0_lots σ (nI m) (nI d) = _
      unfold F_X0_lots
      simp (disch := omega) only [in06_z, in_and_z, F_X0_isMan, i4, h, h', if_false, if_true, nm_eq_z, Bool.false_eq_true, b1, nI_nat_z, pl, i_m1_z, q]
      rw [x1_at_z iv sr, bd_some_z, i_sub1a_z, bc_bst_z _ _ hn8, hC, ga, nI_64_z (show G < 2147483648 by omega), nI_64_z (show C < 2147483648 by omega), hD, bd_some_z, if_neg nz, if_neg nz]
    · show F_X6_lots _ (nI m) (nI d) = _
      unfold F_X6_lots
      simp (disch := omega) only [in_and_z, F_X6_isMan, F_X6_many, ml_1_z, t0, h, h', if_false, if_true, nm_eq_z, Bool.false_eq_true, e6', b2, nI_nat_z, i_m1_z, q]
      rw [x6_aboard_z (by rw [ml_1_z, ml_1_z]) iv (by omega), bd_some_z, i_sub1a_z, hC, gb, nI_64_z (show C < 2147483648 by omega)]
      unfold F_X6_fraction
      simp only [nm_eq_z]
      rw [x6_frac_z, show F_X0_divisor_L6 FU_ (nL_z G) (nL_z C) = some (nL_z D) from hD, bd_some_z, if_neg nz, if_neg nz, bd_some_z]
    · refine ⟨⟨n, f, a, c, e, w, z.con1 rfl⟩, ?_⟩
      have r := g.re
      refine ⟨r.tx, r.rf, ?_, ?_, fun j hj => ⟨(r.im j hj).1, fun t => ?_⟩⟩
      · rw [ml_ne_z _ _ _ (show 0 ≠ 90 by omega), ml_ne_z _ _ _ (show 0 ≠ 90 by omega), ml_same_z, vu_ne_z _ _ (by omega), ml_same_z, vu_same_z, ml_same_z, vu_ne_z _ _ (by omega), ml_same_z, vu_same_z]
      · rw [ml_ne_z _ _ _ (show 0 ≠ 90 by omega), ml_ne_z _ _ _ (show 0 ≠ 90 by omega), ml_same_z, vu_same_z, ml_same_z, vu_same_z]
      · obtain ⟨n, f, a, c, e, w, z⟩ := (r.im j hj).2 t
        exact ⟨n, f, a, c, e, w, z.con1 rfl⟩
/-! centuries -/
def cst_z (T : Nat → Int32) (n f h y : Nat) : Nat → Int32 := if h < f then (if 8 ≤ y then gcr_z T h n else if y < n ∧ T (6 + y) = 0 then upd T (6 + y) (nI (h + 1)) else T) else T
def nxt_z (v : Nat) : Nat := (v * 1103515245 + 12345) % 2147483648
theorem nxt_lt_z (v : Nat) : nxt_z v < 2147483648 := Nat.mod_lt _ (by omega)
theorem nxt_L_z {v : Nat} (hv : v < 2147483648) : nL_z v * (1103515245 : Int64) + (12345 : Int64) - (nL_z v * (1103515245 : Int64) + (12345 : Int64)) / (2147483648 : Int64) * (2147483648 : Int64) = nL_z (nxt_z v) := by
  have e1 : (1103515245 : Int64) = nL_z 1103515245 := rfl
  have e2 : (12345 : Int64) = nL_z 12345 := rfl
  have e3 : (2147483648 : Int64) = nL_z 2147483648 := rfl
  rw [e1, e2, e3, nL_mul_z, nL_add_z, nL_rem_z (by omega) (by omega) (by omega)]
  rfl
theorem nxt_h_z {v : Nat} (hv : v < 2147483648) : (nL_z v / (65536 : Int64) - nL_z v / (65536 : Int64) / (3 : Int64) * (3 : Int64)).toInt32 = nI (v / 65536 % 3) := by
  have e1 : (65536 : Int64) = nL_z 65536 := rfl
  have e2 : (3 : Int64) = nL_z 3 := rfl
  have : v / 65536 < 65536 := by omega
  have : v / 65536 % 3 < 3 := Nat.mod_lt _ (by omega)
  rw [e1, e2, nL_div_z (by omega) (by omega) (by omega), nL_rem_z (by omega) (by omega) (by omega), nL_32_z (by omega)]
theorem nxt_y_z {v : Nat} (hv : v < 2147483648) : (nL_z v / (1048576 : Int64) - nL_z v / (1048576 : Int64) / (16 : Int64) * (16 : Int64)).toInt32 = nI (v / 1048576 % 16) := by
  have e1 : (1048576 : Int64) = nL_z 1048576 := rfl
  have e2 : (16 : Int64) = nL_z 16 := rfl
  have : v / 1048576 < 65536 := by omega
  have : v / 1048576 % 16 < 16 := Nat.mod_lt _ (by omega)
  rw [e1, e2, nL_div_z (by omega) (by omega) (by omega), nL_rem_z (by omega) (by omega) (by omega), nL_32_z (by omega)]
theorem Iv_z.put {T : Nat → Int32} {n f m p : Nat} (iv : Iv_z T n f) (hm : m < n) (hp : p ≤ f) : Iv_z (upd T (6 + m) (nI p)) n f := by
  have hn8 := iv.n8; have hf3 := iv.f3
  refine ⟨hn8, hf3, ?_, ?_, ?_, ?_, ?_, ?_, ?_, ?_⟩
  · simp (disch := omega) only [ms_ne_z, ms_same_z, upd_ne_z, upd_same_z]; exact iv.t0
  · simp (disch := omega) only [ms_ne_z, ms_same_z, upd_ne_z, upd_same_z]; exact iv.t1
  · intro k hk; by_cases q : k = m
    · subst q; simp (disch := omega) only [ms_ne_z, ms_same_z, upd_ne_z, upd_same_z]; exact ⟨p, hp, rfl⟩
    · simp (disch := omega) only [ms_ne_z, ms_same_z, upd_ne_z, upd_same_z]; exact iv.pl k hk
  · intro k hk; simp (disch := omega) only [ms_ne_z, ms_same_z, upd_ne_z, upd_same_z]; exact iv.cl k hk
  · intro k hk hq; simp (disch := omega) only [ms_ne_z, ms_same_z, upd_ne_z, upd_same_z]; exact iv.cz k hk hq
  · intro k hk; simp (disch := omega) only [ms_ne_z, ms_same_z, upd_ne_z, upd_same_z]; exact iv.so k hk
  · intro k hk; simp (disch := omega) only [ms_ne_z, ms_same_z, upd_ne_z, upd_same_z]; exact iv.kd k hk
  · intro k hk; simp (disch := omega) only [ms_ne_z, ms_same_z, upd_ne_z, upd_same_z]; exact iv.sk k hk
theorem Sr_z.put {τ : Me_} {b s : Nat} {T : Nat → Int32} {n f m : Nat} {v : Int32} (iv : Iv_z T n f) (sr : Sr_z τ b s T n f) (hm : m < n) (hs : b + 3 ≤ s) : Sr_z (me_set τ (s + 1) m (v - 1)) b s (upd T (6 + m) v) n f := by
  have hn8 := iv.n8; have hf3 := iv.f3
  refine ⟨?_, ?_, ?_, ?_, ?_, ?_, ?_⟩
  · simp (disch := omega) only [ms_ne_z, ms_same_z, upd_ne_z, upd_same_z]; exact sr.e4
  · simp (disch := omega) only [ms_ne_z, ms_same_z, upd_ne_z, upd_same_z]; exact sr.e1
  · intro k hk; rw [ms_same_z]; by_cases q : k = m
    · subst q; simp (disch := omega) only [ms_ne_z, ms_same_z, upd_ne_z, upd_same_z]
    · simp (disch := omega) only [ms_ne_z, ms_same_z, upd_ne_z, upd_same_z]; exact sr.pl k hk
  · intro k hk; simp (disch := omega) only [ms_ne_z, ms_same_z, upd_ne_z, upd_same_z]; exact sr.cl k hk
  · intro k hk; simp (disch := omega) only [ms_ne_z, ms_same_z, upd_ne_z, upd_same_z]; exact sr.so k hk
  · intro k hk; simp (disch := omega) only [ms_ne_z, ms_same_z, upd_ne_z, upd_same_z]; exact sr.kd k hk
  · intro k hk; simp (disch := omega) only [ms_ne_z, ms_same_z, upd_ne_z, upd_same_z]; exact sr.sk k hk
theorem cst_iv_z {T : Nat → Int32} {n f : Nat} (iv : Iv_z T n f) (h y : Nat) : Iv_z (cst_z T n f h y) n f := by
  unfold cst_z
  split
  · split
    · rename_i q _; exact iv.gcr_z q
    · split
      · rename_i q _ r; exact iv.put r.1 (by omega)
      · exact iv
  · exact iv
theorem x0_turns_z {τ : Me_} {T : Nat → Int32} {n f h y : Nat} (iv : Iv_z T n f) (sr : Sr_z τ 1 72 T n f) (hh : h < f) (hy : y < 16) : ∃ τ', F_X0_turns τ (nI h) (nI y) = some τ' ∧ τ'.2 = τ.2 ∧ (∀ j, j ≠ 73 → j ≠ 74 → τ'.1 j = τ.1 j) ∧ Sr_z τ' 1 72 (cst_z T n f h y) n f := by
  have hn8 := iv.n8
  have hf3 := iv.f3
  have e8 : (8 : Int32) = nI 8 := rfl
  have hp1 : nI (h + 1) - 1 = nI h := by rw [← nI_s_z]; exact i_add1s_z _
  have tail : ∀ τ1 : Me_, τ1.1 1 4 = nI n → n ≤ y → (if (τ1.1 1 4) ≤ nI y then some τ1 else if inb_ (nI y) 8 = true then if (τ1.1 73 (nI y).toNatClampNeg) = (-1 : Int32) then if inb_ (nI y) 8 = true then some (me_set τ1 73 (nI y).toNatClampNeg (nI h)) else none else some τ1 else none) = some τ1 := fun τ1 e4 hny => by
    rw [e4, if_pos (by rw [nI_le_z (by omega) (by omega)]; exact hny)]
  unfold F_X0_turns
  simp only [nm_eq_z]
  unfold cst_z
  rw [if_pos hh]
  by_cases q : 8 ≤ y
  · rw [if_pos q, e8, if_neg (by rw [nI_lt_z (by omega) (by omega)]; omega), x1_at_z iv sr, bd_some_z, nI_s_z]
    cases el : lst_z T h n with
    | none =>
      have : cnt_z T (nI (h + 1)) n = 0 := (lst_none_z _ _ _).mp el
      rw [if_pos ((bst_z_z hn8).mpr this), tail τ sr.e4 (by omega)]
      exact ⟨τ, rfl, rfl, fun _ _ _ => rfl, by rw [gcr_none_z el]; exact sr⟩
    | some m =>
      have : ¬ cnt_z T (nI (h + 1)) n = 0 := fun t => by rw [(lst_none_z _ _ _).mpr t] at el; cases el
      rw [if_neg (fun t => this ((bst_z_z hn8).mp t)), x1_calls_z iv sr hh el, bi_some_z, ← tcl_some_z el, tail _ (by rw [tcl_ne_z _ _ _ _ _ (by omega) (by omega)]; exact sr.e4) (by omega)]
      exact ⟨_, rfl, tcl_2_z _ _ _ _, fun j h1 h2 => tcl_ne_z _ _ _ _ _ h1 h2, tcl_sr_z iv sr hh⟩
  · rw [if_neg q, e8, if_pos (by rw [nI_lt_z (by omega) (by omega)]; omega)]
    by_cases t : y < n
    · have pl : τ.1 73 y = T (6 + y) - 1 := sr.pl y t
      have b1 : inb_ (nI y) 8 = true := by rw [nI_inb_z (by omega)]; omega
      rw [show τ.1 1 4 = nI n from sr.e4, if_neg (by rw [nI_le_z (by omega) (by omega)]; omega), if_pos b1, nI_nat_z (by omega), pl]
      by_cases r : T (6 + y) = 0
      · rw [if_pos ((i_m1_z _).mpr r), if_pos b1, if_pos ⟨t, r⟩]
        refine ⟨_, rfl, rfl, fun j h1 _ => ms_ne_z _ _ _ h1, ?_⟩
        have := Sr_z.put (v := nI (h + 1)) iv sr t (by omega)
        rw [hp1] at this; exact this
      · rw [if_neg (fun u => r ((i_m1_z _).mp u)), if_neg (fun u => r u.2)]
        exact ⟨τ, rfl, rfl, fun _ _ _ => rfl, sr⟩
    · rw [tail τ sr.e4 (by omega), if_neg (fun u => t u.1)]
      exact ⟨τ, rfl, rfl, fun _ _ _ => rfl, sr⟩
