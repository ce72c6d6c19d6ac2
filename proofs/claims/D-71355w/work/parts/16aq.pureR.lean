set_option maxRecDepth 100000
set_option linter.unusedSimpArgs false
set_option linter.unusedVariables false

/-! PURE R: the best of many codes; kinds by notes and marks -/
def spc_z (val : Nat → Option Int32) (s0 : Nat) : Nat → Int32 × Int32
  | 0 => (-1, 1000000)
  | k + 1 => match val (s0 + k) with
    | none => spc_z val s0 k
    | some v => if (spc_z val s0 k).2 ≤ v then spc_z val s0 k else (nI (s0 + k), v)
theorem spc_none_z {val : Nat → Option Int32} {s0 k : Nat} (h : val (s0 + k) = none) : spc_z val s0 (k + 1) = spc_z val s0 k := by
  rw [spc_z, h]
theorem spc_some_z {val : Nat → Option Int32} {s0 k : Nat} {v : Int32} (h : val (s0 + k) = some v) : spc_z val s0 (k + 1) = if (spc_z val s0 k).2 ≤ v then spc_z val s0 k else (nI (s0 + k), v) := by
  rw [spc_z, h]
theorem spc_skip_z {val : Nat → Option Int32} {s0 k : Nat} : ∀ d, (∀ j, j < d → val (s0 + (k + j)) = none) → spc_z val s0 (k + d) = spc_z val s0 k := by
  intro d
  induction d with
  | zero => intro _; rfl
  | succ d ih => intro h; rw [← Nat.add_assoc, spc_none_z (h d (by omega)), ih (fun j hj => h j (by omega))]
theorem spc_all_z {val : Nat → Option Int32} {s0 : Nat} (h : ∀ c, val c = none) (k : Nat) : spc_z val s0 k = (-1, 1000000) := by
  induction k with
  | zero => rfl
  | succ k ih => rw [spc_none_z (h _), ih]
theorem spc_le_z (val : Nat → Option Int32) (s0 k : Nat) : (spc_z val s0 k).2 ≤ 1000000 := by
  induction k with
  | zero => exact Int32.le_refl _
  | succ k ih =>
    cases e : val (s0 + k) with
    | none => rw [spc_none_z e]; exact ih
    | some v =>
      rw [spc_some_z e]
      by_cases c : (spc_z val s0 k).2 ≤ v
      · rw [if_pos c]; exact ih
      · rw [if_neg c]
        exact Int32.le_trans (i_le_of_lt_z ((i_nlt_z _ _).mp c)) ih
/-- one step of either side's search -/
theorem spc_1_z {val : Nat → Option Int32} {s0 k : Nat} {v : Int32} (h : val (s0 + k) = some v) : (spc_z val s0 (k + 1)).1 = (if (spc_z val s0 k).2 ≤ v then (spc_z val s0 k).1 else nI (s0 + k)) ∧ (spc_z val s0 (k + 1)).2 = (if v < (spc_z val s0 k).2 then v else (spc_z val s0 k).2) ∧ (spc_z val s0 (k + 1)).2 = (if (spc_z val s0 k).2 ≤ v then (spc_z val s0 k).2 else v) := by
  rw [spc_some_z h]
  by_cases c : (spc_z val s0 k).2 ≤ v
  · rw [if_pos c, if_pos c, if_neg ((i_nle_z _ _).mpr c), if_pos c]; exact ⟨rfl, rfl, rfl⟩
  · rw [if_neg c, if_neg c, if_pos ((i_nlt_z _ _).mp c), if_neg c]; exact ⟨rfl, rfl, rfl⟩
theorem spc_0_z {val : Nat → Option Int32} {s0 k : Nat} (h : val (s0 + k) = none) : (spc_z val s0 (k + 1)).1 = (if (spc_z val s0 k).2 ≤ 1000000 then (spc_z val s0 k).1 else nI (s0 + k)) ∧ (spc_z val s0 (k + 1)).2 = (if 1000000 < (spc_z val s0 k).2 then 1000000 else (spc_z val s0 k).2) := by
  rw [spc_none_z h, if_pos (spc_le_z _ _ _), if_neg ((i_nle_z _ _).mpr (spc_le_z _ _ _))]; exact ⟨rfl, rfl⟩
/-! tell -/
def lft_z (R : Nat → Int32) (m a c l : Nat) : Nat → Nat
  | 0 => 0
  | k + 1 => lft_z R m a c l k + if (mbe_z R m (k + 1) a && decide (F_X6_likedAs (R (20 + m)) (nI (k + 1)) (nI c) ≤ nI l)) = true then 1 else 0
theorem lft_le_z (R : Nat → Int32) (m a c l k : Nat) : lft_z R m a c l k ≤ skn_z (fun s => mbe_z R m s a) k := by
  induction k with
  | zero => exact Nat.le_refl _
  | succ k ih =>
    rw [lft_z, skn_z]
    cases mbe_z R m (k + 1) a with
    | false => simp; exact ih
    | true => simp only [Bool.true_and, if_true]; split <;> omega
def mxT_z (R : Nat → Int32) (m a c l : Nat) : Nat := if lft_z R m a c l 9 ≤ skn_z (fun s => mbe_z R m s a) 9 - lft_z R m a c l 9 then skn_z (fun s => mbe_z R m s a) 9 - lft_z R m a c l 9 else lft_z R m a c l 9
def vTell_z (R : Nat → Int32) (m a : Nat) : Nat → Option Int32 := fun code => if code % 100 ≤ 30 ∧ skn_z (fun s => mbe_z R m s a) 9 ≠ 0 then some (nI (mxT_z R m a (code / 100) (code % 100))) else none
theorem nI_dm_z {c B : Nat} (hc : c < 1000) (hB : 0 < B) (hB2 : B < 1000) : nI c / nI B = nI (c / B) ∧ nI c - nI c / nI B * nI B = nI (c % B) := by
  have hle : c / B ≤ c := Nat.div_le_self c B
  have e : nI c / nI B = nI (c / B) := by
    apply Int32.toInt_inj.mp
    rw [nI_int_z (by omega), Int32.toInt_div_of_ne_right]
    · rw [nI_int_z (by omega), nI_int_z (by omega), Int.ofNat_tdiv]
    · intro q
      have := congrArg Int32.toInt q
      rw [nI_int_z (by omega)] at this
      have e : (-1 : Int32).toInt = -1 := by decide
      omega
  refine ⟨e, ?_⟩
  rw [e, nI_mul_z, nI_sub_z (Nat.div_mul_le_self c B)]
  congr 1
  have := Nat.div_add_mod c B
  rw [Nat.mul_comm] at this
  omega
theorem x0_parts_z {σ : Me_} {R : Nat → Int32} {n f a c e w m code : Nat} (z : Fu_z σ 1 R n f a c e w) (hm : m < n) (hc : code < 531) : F_X0_parts σ (nI m) (nI (skn_z (fun s => mbe_z R m s a) 9)) (nI code) = some (nI (mxT_z R m a (code / 100) (code % 100))) := by
  have hn8 := z.iv.n8
  obtain ⟨d1, d2⟩ := nI_dm_z (c := code) (B := 100) (by omega) (by omega) (by omega)
  have h100 : (100 : Int32) = nI 100 := rfl
  have hdc : code / 100 < 6 := by omega
  have hdl : code % 100 < 100 := Nat.mod_lt _ (by omega)
  generalize code / 100 = C at *
  generalize code % 100 = L at *
  unfold F_X0_parts
  simp only [nm_eq_z]
  have hle := lft_le_z R m a C L 9
  have hs9 := skn_le_z (fun s => mbe_z R m s a) 9
  have res : (if nI (lft_z R m a C L 9) < nI (skn_z (fun s => mbe_z R m s a) 9) - nI (lft_z R m a C L 9) then nI (skn_z (fun s => mbe_z R m s a) 9) - nI (lft_z R m a C L 9) else nI (lft_z R m a C L 9)) = nI (mxT_z R m a C L) := by
    unfold mxT_z
    generalize skn_z (fun s => mbe_z R m s a) 9 = S at *
    generalize lft_z R m a C L 9 = F at *
    rw [nI_sub_z hle]
    have hlt : nI F < nI (S - F) ↔ F < S - F := nI_lt_z (by omega) (by omega)
    by_cases q : F < S - F
    · rw [if_pos (hlt.mpr q), if_pos (by omega)]
    · rw [if_neg (fun t => q (hlt.mp t))]; by_cases q2 : F ≤ S - F
      · rw [if_pos q2]; congr 1; omega
      · rw [if_neg q2]
  rw [← res]
  refine loop2_z (F_X0_parts_L6 σ (nI m) (nI code) (fun x4 => some (if x4 < nI (skn_z (fun s => mbe_z R m s a) 9) - x4 then nI (skn_z (fun s => mbe_z R m s a) 9) - x4 else x4))) (fun k => nI (lft_z R m a C L k)) (fun k => nI (k + 1)) _ 9 ?_ ?_ FU_ 0 (Nat.zero_le _) (fu_lt_z (by omega))
  · intro q
    rw [F_X0_parts_L6, if_pos (by decide)]
  · intro k q hk
    have e9 : (9 : Int32) = nI 9 := rfl
    rw [F_X0_parts_L6, x0_may_z z hm (by omega), e9, if_neg (by rw [nI_lt_z (by omega) (by omega)]; omega), bd_some_z]
    simp only [nm_eq_z, nI_s_z]
    have kd : σ.1 3 m = R (20 + m) := z.sr.kd m hm
    obtain ⟨kk, hkk, ek⟩ := z.iv.kd m hm
    have hl := (lk_eq_z kk hkk (k + 1) (by omega) C (by omega)).1
    rw [lft_z]
    cases hb : mbe_z R m (k + 1) a with
    | false => rw [bI_f_z, if_pos rfl, i_zadd_z]; rfl
    | true =>
      rw [bI_t_z, if_neg i_10_z, if_pos (by rw [nI_inb_z (by omega)]; omega), nI_nat_z (by omega), kd, ek, if_neg (nI_nn_z (by omega)), nI_nat_z (by omega), Nat.mod_eq_of_lt hkk, h100, d2, d1, hl]
      by_cases c2 : nI L < F_X6_likedAs (nI kk) (nI (k + 1)) (nI C)
      · have c2' : ¬ F_X6_likedAs (nI kk) (nI (k + 1)) (nI C) ≤ nI L := (i_nlt_z _ _).mpr c2
        rw [if_pos c2, i_zadd_z]; simp only [c2', decide_false, Bool.and_false, Bool.false_eq_true, if_false]; rfl
      · have c2' : F_X6_likedAs (nI kk) (nI (k + 1)) (nI C) ≤ nI L := (i_nle_z _ _).mp c2
        rw [if_neg c2]; simp only [c2', decide_true, Bool.and_true, if_true]
theorem x6_tell49_z {σ : Me_} {R : Nat → Int32} {n f a m C L : Nat} (hR : σ.1 91 = R) (iv : Iv_z R n f) (r2 : R 2 = nI a) (ha : a ≤ 5) (hm : m < n) (kk : Int32 → Int32 → Option (Int32 × Me_)) : F_X6_tell_L49 σ (nI m) (nI C) (nI L) kk FU_ 0 0 1 = kk (nI (lft_z R m a C L 9)) (nI (skn_z (fun s => mbe_z R m s a) 9 - lft_z R m a C L 9)) := by
  have hn8 := iv.n8
  refine loop3_z (F_X6_tell_L49 σ (nI m) (nI C) (nI L) kk) (fun k => nI (lft_z R m a C L k)) (fun k => nI (skn_z (fun s => mbe_z R m s a) k - lft_z R m a C L k)) (fun k => nI (k + 1)) _ 9 ?_ ?_ FU_ 0 (Nat.zero_le _) (fu_lt_z (by omega))
  · intro q
    rw [F_X6_tell_L49, if_pos (by decide)]
  · intro k q hk
    have e10 : (10 : Int32) = nI 10 := rfl
    have e20 : (20 : Int32) + nI m = nI (20 + m) := nI_add_z 20 m
    have hle := lft_le_z R m a C L k
    rw [F_X6_tell_L49, x6_skb_z hR iv r2 ha hm, e10, if_neg (by rw [nI_le_z (by omega) (by omega)]; omega), e20, if_pos (by rw [nI_inb_z (by omega)]; omega), hR, nI_nat_z (by omega)]
    simp only [nm_eq_z, bd_some_z, nI_s_z]
    rw [lft_z, skn_z]
    generalize skn_z (fun s => mbe_z R m s a) k = S at *
    generalize lft_z R m a C L k = F at *
    cases hb : mbe_z R m (k + 1) a with
    | false =>
      simp only [bI_f_z, if_true, Bool.false_and, Bool.false_eq_true, if_false]
      rw [i_zadd_z, i_zadd_z]; rfl
    | true =>
      by_cases c2 : nI L < F_X6_likedAs (R (20 + m)) (nI (k + 1)) (nI C)
      · have c2' : ¬ F_X6_likedAs (R (20 + m)) (nI (k + 1)) (nI C) ≤ nI L := (i_nlt_z _ _).mpr c2
        simp only [bI_t_z, i_10_z, c2, c2', if_true, if_false, decide_false, Bool.and_false, Bool.false_eq_true]
        rw [i_zadd_z, nI_s_z, show S + 1 - (F + 0) = S - F + 1 by omega]; rfl
      · have c2' : F_X6_likedAs (R (20 + m)) (nI (k + 1)) (nI C) ≤ nI L := (i_nle_z _ _).mp c2
        simp only [bI_t_z, i_10_z, c2, c2', if_true, if_false, decide_true, Bool.and_true, Bool.true_and]
        rw [i_zadd_z, nI_s_z, show S + 1 - (F + 1) = S - F by omega]
theorem x6_tell33_z {σ : Me_} {R : Nat → Int32} {n f a m C : Nat} (hR : σ.1 91 = R) (iv : Iv_z R n f) (r2 : R 2 = nI a) (ha : a ≤ 5) (hm : m < n) (hC : C < 6) (kk : Int32 → Int32 → Option (Int32 × Me_)) : F_X6_tell_L33 σ (nI m) (nI C) kk FU_ (spc_z (vTell_z R m a) 0 (100 * C)).1 (spc_z (vTell_z R m a) 0 (100 * C)).2 0 = kk (spc_z (vTell_z R m a) 0 (100 * C + 31)).1 (spc_z (vTell_z R m a) 0 (100 * C + 31)).2 := by
  have L3 := loop3_z (F_X6_tell_L33 σ (nI m) (nI C) kk) (fun k => (spc_z (vTell_z R m a) 0 (100 * C + k)).1) (fun k => (spc_z (vTell_z R m a) 0 (100 * C + k)).2) (fun k => nI k) (kk (spc_z (vTell_z R m a) 0 (100 * C + 31)).1 (spc_z (vTell_z R m a) 0 (100 * C + 31)).2) 31 ?_ ?_ FU_ 0 (Nat.zero_le _) (fu_lt_z (by omega))
  · exact L3
  · intro q
    rw [F_X6_tell_L33, if_pos (by decide)]
  · intro k q hk
    have e30 : (30 : Int32) = nI 30 := rfl
    have e100 : (100 : Int32) * nI C = nI (100 * C) := nI_mul_z 100 C
    have hle := lft_le_z R m a C k 9
    have hs9 := skn_le_z (fun s => mbe_z R m s a) 9
    have dv : (100 * C + k) / 100 = C := by omega
    have dm : (100 * C + k) % 100 = k := by omega
    rw [F_X6_tell_L33, e30, if_neg (by rw [nI_lt_z (by omega) (by omega)]; omega), nm_eq_z, x6_tell49_z hR iv r2 ha hm]
    simp only [nm_eq_z, nI_s_z, e100, nI_add_z]
    have hv : (if nI (lft_z R m a C k 9) ≤ nI (skn_z (fun s => mbe_z R m s a) 9 - lft_z R m a C k 9) then nI (skn_z (fun s => mbe_z R m s a) 9 - lft_z R m a C k 9) else nI (lft_z R m a C k 9)) = nI (mxT_z R m a C k) := by
      unfold mxT_z; simp (disch := omega) only [nI_le_z]; split <;> rfl
    have hmx : mxT_z R m a C k ≤ 9 ∧ (mxT_z R m a C k = 0 ↔ skn_z (fun s => mbe_z R m s a) 9 = 0) := by unfold mxT_z; split <;> omega
    rw [hv, ← Nat.add_assoc]
    by_cases q0 : skn_z (fun s => mbe_z R m s a) 9 = 0
    · have hz := hmx.2.mpr q0
      have hval : vTell_z R m a (0 + (100 * C + k)) = none := by unfold vTell_z; rw [if_neg (fun t => t.2 q0)]
      rw [hz, if_pos (by decide), if_pos (by decide), spc_none_z hval]
    · have hz : ¬ mxT_z R m a C k = 0 := fun t => q0 (hmx.2.mp t)
      have hval : vTell_z R m a (0 + (100 * C + k)) = some (nI (mxT_z R m a C k)) := by unfold vTell_z; rw [Nat.zero_add, dv, dm, if_pos ⟨by omega, q0⟩]
      have hnz : ¬ nI (mxT_z R m a C k) ≤ 0 := by rw [nI_lit_z, nI_le_z (by omega) (by omega)]; omega
      obtain ⟨s1, _, s3⟩ := spc_1_z hval
      rw [if_neg hnz, if_neg hnz, s1, s3, Nat.zero_add]
theorem op_tell_z {σ : Me_} (g : Rel_z σ) (x : Int32) : Op_z σ (fun σ => F_X0_tell σ x) (fun σ => F_X6_tell σ x) := by
  obtain ⟨n, f, a, c, e, w, z⟩ := g.fu; have hn8 := z.iv.n8; have hf3 := z.iv.f3; have ha5 := z.a5; have hc6 := z.c6; have he6 := z.e6; have hw8 := z.w8; have i4 := z.sr.e4; have i1 := z.sr.e1; have t0 := z.iv.t0; have t1 := z.iv.t1; have r2 := z.r2; have r3 := z.r3; have r4 := z.r4; have r5 := z.r5; have q2 := z.q2; have q3 := z.q3; have q4 := z.q4; have q5 := z.q5
  by_cases h : F_X6_in x.toInt64 (0 : Int64) ((nI n - 1 : Int32).toInt64) = 0
  · refine op_rf_z g 0 (by omega) (r := -2) ?_ ?_
    · show F_X0_tell σ x = _
      unfold F_X0_tell
      simp only [in06_z, in_and_z, i_z1_z, x0_bad_z, x0_no_z, x0_full_z, x0_badAsk_z, x6_bad_z, x6_no_z, x6_full_z, bi_some_z, bd_some_z, nm_eq_z, F_X0_isKind, F_X6_isKind, F_X0_isSkill, F_X6_isSkill, F_X0_isFar, F_X6_isFar, F_X0_isLong, F_X0_isShip, F_X6_isShip, F_X0_isMan, F_X6_isMan, F_X6_many, rf0_ne_z _ _ (show 91 ≠ 76 by omega), rf0_ne_z _ _ (show 90 ≠ 76 by omega), i4, h, if_true]
    · show F_X6_tell _ x = _
      unfold F_X6_tell
      simp only [in06_z, in_and_z, i_z1_z, x0_bad_z, x0_no_z, x0_full_z, x0_badAsk_z, x6_bad_z, x6_no_z, x6_full_z, bi_some_z, bd_some_z, nm_eq_z, F_X0_isKind, F_X6_isKind, F_X0_isSkill, F_X6_isSkill, F_X0_isFar, F_X6_isFar, F_X0_isLong, F_X0_isShip, F_X6_isShip, F_X0_isMan, F_X6_isMan, F_X6_many, rf0_ne_z _ _ (show 91 ≠ 76 by omega), rf0_ne_z _ _ (show 90 ≠ 76 by omega), t0, h, if_true]
  obtain ⟨m, hm, em⟩ := in_okn_z (by omega) h
  subst em
  have hs9 := skn_le_z (fun s => mbe_z (σ.1 91) m s a) 9
  have hsk : F_X0_skilled σ (nI m) 0 = some (nI (skn_z (fun s => mbe_z (σ.1 91) m s a) 9), σ) := by
    unfold F_X0_skilled
    have h0 : ¬ F_X6_in (0 : Int32).toInt64 (0 : Int64) (2 : Int64) = 0 := by decide
    simp only [in06_z, in_and_z, F_X0_isMan, i4, h, h0, if_false, nm_eq_z, Bool.false_eq_true]
    rw [x0_skilledL_z z hm, if_pos trivial]
  refine op_ro_z g (r := (spc_z (vTell_z (σ.1 91) m a) 0 531).1) (σ1 := σ) (σ2 := σ) ?_ ?_ (Same_z.refl _) (Same_z.refl _)
  · show F_X0_tell σ (nI m) = _
    unfold F_X0_tell
    rw [hsk]
    simp only [in06_z, in_and_z, F_X0_isMan, i4, h, if_false, bi_some_z]
    by_cases q0 : skn_z (fun s => mbe_z (σ.1 91) m s a) 9 = 0
    · rw [spc_all_z (fun c => by unfold vTell_z; rw [if_neg (fun t => t.2 q0)]), q0]
      obtain ⟨Q, hQ⟩ : ∃ Q, FU_ = Q + 1 := ⟨99999, rfl⟩
      rw [hQ, F_X0_tell_L29, if_neg (by decide), if_pos (by decide)]
    · refine loop3_z (F_X0_tell_L29 (nI m) σ (nI (skn_z (fun s => mbe_z (σ.1 91) m s a) 9))) (fun k => (spc_z (vTell_z (σ.1 91) m a) 0 k).1) (fun k => (spc_z (vTell_z (σ.1 91) m a) 0 k).2) (fun k => nI k) _ 531 ?_ ?_ FU_ 0 (Nat.zero_le _) (fu_lt_z (by omega))
      · intro q
        rw [F_X0_tell_L29, if_pos (by decide)]
      · intro k q hk
        have e531 : (531 : Int32) = nI 531 := rfl
        have e30 : (30 : Int32) = nI 30 := rfl
        have e100 : (100 : Int32) = nI 100 := rfl
        obtain ⟨d1, d2⟩ := nI_dm_z (c := k) (B := 100) (by omega) (by omega) (by omega)
        have hdl : k % 100 < 100 := Nat.mod_lt _ (by omega)
        have hnz : ¬ nI (skn_z (fun s => mbe_z (σ.1 91) m s a) 9) ≤ 0 := by rw [nI_lit_z, nI_le_z (by omega) (by omega)]; omega
        rw [F_X0_tell_L29, e531, if_neg (by rw [nI_le_z (by omega) (by omega)]; omega), if_neg hnz]
        simp only [nm_eq_z, nI_s_z]
        rw [e100, d2, e30]
        have hlt : nI 30 < nI (k % 100) ↔ 30 < k % 100 := nI_lt_z (by omega) (by omega)
        by_cases q1 : 30 < k % 100
        · have hval : vTell_z (σ.1 91) m a (0 + k) = none := by unfold vTell_z; rw [Nat.zero_add, if_neg (fun t => by omega)]
          obtain ⟨s1, s2⟩ := spc_0_z hval
          rw [if_pos (hlt.mpr q1), s1, s2, Nat.zero_add]
        · have hval : vTell_z (σ.1 91) m a (0 + k) = some (nI (mxT_z (σ.1 91) m a (k / 100) (k % 100))) := by unfold vTell_z; rw [Nat.zero_add, if_pos ⟨by omega, q0⟩]
          obtain ⟨s1, s2, _⟩ := spc_1_z hval
          rw [if_neg (fun t => q1 (hlt.mp t)), x0_parts_z z hm hk, bd_some_z, s1, s2, Nat.zero_add]
  · show F_X6_tell σ (nI m) = _
    unfold F_X6_tell
    simp only [in_and_z, F_X6_isMan, F_X6_many, t0, h, if_false]
    have sk1 : ∀ C, C < 6 → spc_z (vTell_z (σ.1 91) m a) 0 (100 * C + 31) = spc_z (vTell_z (σ.1 91) m a) 0 (100 * (C + 1)) := fun C hC => by
      rw [show 100 * (C + 1) = 100 * C + 31 + 69 by omega]
      exact (spc_skip_z 69 (fun j hj => by unfold vTell_z; rw [if_neg (fun t => by omega)])).symm
    have L3 := loop3_z (F_X6_tell_L23 σ (nI m)) (fun k => (spc_z (vTell_z (σ.1 91) m a) 0 (100 * k)).1) (fun k => (spc_z (vTell_z (σ.1 91) m a) 0 (100 * k)).2) (fun k => nI k) (some ((spc_z (vTell_z (σ.1 91) m a) 0 (100 * 6)).1, σ)) 6 ?_ ?_ FU_ 0 (Nat.zero_le _) (fu_lt_z (by omega))
    · have : spc_z (vTell_z (σ.1 91) m a) 0 (100 * 6) = spc_z (vTell_z (σ.1 91) m a) 0 531 := (sk1 5 (by omega)).symm
      rw [← this]; exact L3
    · intro q
      rw [F_X6_tell_L23, if_pos (by decide)]
    · intro k q hk
      have e6' : (6 : Int32) = nI 6 := rfl
      rw [F_X6_tell_L23, e6', if_neg (by rw [nI_le_z (by omega) (by omega)]; omega), nm_eq_z, x6_tell33_z rfl z.iv r2 ha5 hm hk, nm_eq_z, nI_s_z, sk1 k hk]
