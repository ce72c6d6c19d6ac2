set_option maxRecDepth 100000
set_option linter.unusedSimpArgs false
set_option linter.unusedVariables false

/-! PURE U: count, digest -/
def cof_z (R : Nat → Int32) (n f a c e w t : Nat) (k : Nat) : Int32 := if k = 0 then nI n else if k = 1 then nI f else if k = 2 then nI (cnt_z R 0 n) else if k = 3 then sks_z R 0 n else if k = 4 then R 14 + R 15 + R 16 else if k = 5 then nI a else if k = 6 then nI c else if k = 7 then nI e else if k = 8 then nI w else nI t
def acs_z (R : Nat → Int32) : Nat → Int32
  | 0 => 0
  | k + 1 => acs_z R k + R (14 + k)
theorem acs_eq_z {R : Nat → Int32} {n f : Nat} (iv : Iv_z R n f) : acs_z R f = R 14 + R 15 + R 16 := by
  have h3 := iv.f3
  have z0 : (0 : Int32) + R 14 = R 14 := Int32.zero_add _
  have hz := iv.cz
  have : f = 0 ∨ f = 1 ∨ f = 2 ∨ f = 3 := by omega
  rcases this with q | q | q | q
  · subst q
    have a := hz 0 (by omega) (by omega); have b := hz 1 (by omega) (by omega); have c := hz 2 (by omega) (by omega)
    rw [show R 14 = 0 from a, show R 15 = 0 from b, show R 16 = 0 from c]; rfl
  · subst q
    have b := hz 1 (by omega) (by omega); have c := hz 2 (by omega) (by omega)
    rw [show R 15 = 0 from b, show R 16 = 0 from c, i_zadd_z, i_zadd_z]
    show (0 : Int32) + R 14 = R 14; exact z0
  · subst q
    have c := hz 2 (by omega) (by omega)
    rw [show R 16 = 0 from c, i_zadd_z]
    show (0 : Int32) + R 14 + R 15 = R 14 + R 15; rw [z0]
  · subst q
    show (0 : Int32) + R 14 + R 15 + R 16 = R 14 + R 15 + R 16; rw [z0]
theorem k10_z {k : Nat} (h : k < 10) : k = 0 ∨ k = 1 ∨ k = 2 ∨ k = 3 ∨ k = 4 ∨ k = 5 ∨ k = 6 ∨ k = 7 ∨ k = 8 ∨ k = 9 := by omega
theorem x0_count_z {σ : Me_} {R : Nat → Int32} {n f a c e w t k : Nat} (z : Fu_z σ 1 R n f a c e w) (ht : σ.1 0 5 = nI t) (hk : k < 10) : F_X0_countOf σ (nI k) = some (cof_z R n f a c e w t k) := by
  have m0 : (-1 : Int32) + 1 = 0 := by decide
  have iv := z.iv
  have sr := z.sr
  have hf3 := iv.f3
  have hsh : F_X0_ashore σ = some (nI (bst_z R 0 n)) := by unfold F_X0_ashore; rw [x1_at_z iv sr, bd_some_z, m0]
  have hac : F_X0_allCalls σ = some (acs_z R f) := by
    unfold F_X0_allCalls
    refine loop2_z (F_X0_allCalls_L4 σ) (fun k => acs_z R k) (fun k => nI k) _ f ?_ ?_ FU_ 0 (Nat.zero_le _) (fu_lt_z (by omega))
    · intro q
      rw [F_X0_allCalls_L4, show σ.1 1 1 = nI f from sr.e1, if_pos (by rw [nI_le_z (by omega) (by omega)]; omega)]
    · intro k q hk
      rw [F_X0_allCalls_L4, show σ.1 1 1 = nI f from sr.e1, if_neg (by rw [nI_le_z (by omega) (by omega)]; omega), if_pos (by rw [nI_inb_z (by omega)]; omega), nI_nat_z (by omega), show σ.1 10 k = R (14 + k) from sr.cl k hk]
      simp only [nm_eq_z, nI_s_z]; rfl
  unfold F_X0_countOf cof_z
  rw [hsh, hac, acs_eq_z iv]
  simp only [bd_some_z]
  rw [x1_skillOf_z iv sr, bc_bst_z _ _ iv.n8, show σ.1 1 4 = nI n from sr.e4, show σ.1 1 1 = nI f from sr.e1, z.q2, z.q3, z.q4, z.q5, ht]
  rcases k10_z hk with q | q | q | q | q | q | q | q | q | q <;> subst q <;> rfl
theorem x6_count_z {σ : Me_} {R : Nat → Int32} {n f a c e w t k : Nat} (hR : σ.1 91 = R) (iv : Iv_z R n f) (r2 : R 2 = nI a) (r3 : R 3 = nI c) (r4 : R 4 = nI e) (r5 : R 5 = nI w) (ht : σ.1 90 12 = nI t) (hk : k < 10) : F_X6_counted σ (nI k) = some (cof_z R n f a c e w t k) := by
  have m0 : (-1 : Int32) + 1 = 0 := by decide
  have hsh : F_X6_ashore σ 91 192 = some (nI (cnt_z R 0 n)) := by unfold F_X6_ashore; rw [x6_aboard_z hR iv (by omega), bd_some_z, m0]
  unfold F_X6_counted cof_z F_X6_many
  rw [hsh, x6_skillsIn_z hR iv (by omega), hR, iv.t0, iv.t1, ht]
  simp only [bd_some_z]
  rcases k10_z hk with q | q | q | q | q | q | q | q | q | q <;> subst q
  · rfl
  · rfl
  · rfl
  · rfl
  · rfl
  · show some (R 2) = _; rw [r2]; rfl
  · show some (R 3) = _; rw [r3]; rfl
  · show some (R 4) = _; rw [r4]; rfl
  · show some (R 5) = _; rw [r5]; rfl
  · rfl
theorem op_count_z {σ : Me_} (g : Rel_z σ) (x : Int32) : Op_z σ (fun σ => F_X0_count σ x) (fun σ => F_X6_count σ x) := by
  obtain ⟨n, f, a, c, e, w, z⟩ := g.fu; have hn8 := z.iv.n8; have hf3 := z.iv.f3; have ha5 := z.a5; have hc6 := z.c6; have he6 := z.e6; have hw8 := z.w8; have i4 := z.sr.e4; have i1 := z.sr.e1; have t0 := z.iv.t0; have t1 := z.iv.t1; have r2 := z.r2; have r3 := z.r3; have r4 := z.r4; have r5 := z.r5; have q2 := z.q2; have q3 := z.q3; have q4 := z.q4; have q5 := z.q5
  obtain ⟨t, ht, e0, e9, _⟩ := g.re.tx
  by_cases h : F_X6_in x.toInt64 (0 : Int64) (9 : Int64) = 0
  · refine op_rf_z g 0 (by omega) (r := -2) ?_ ?_
    · show F_X0_count σ x = _
      unfold F_X0_count
      simp only [in06_z, in_and_z, i_z1_z, x0_bad_z, x0_no_z, x0_full_z, x0_badAsk_z, x6_bad_z, x6_no_z, x6_full_z, bi_some_z, bd_some_z, nm_eq_z, F_X0_isKind, F_X6_isKind, F_X0_isSkill, F_X6_isSkill, F_X0_isFar, F_X6_isFar, F_X0_isLong, F_X0_isShip, F_X6_isShip, F_X0_isMan, F_X6_isMan, F_X6_many, rf0_ne_z _ _ (show 91 ≠ 76 by omega), rf0_ne_z _ _ (show 90 ≠ 76 by omega), h, if_true]
    · show F_X6_count _ x = _
      unfold F_X6_count
      simp only [in06_z, in_and_z, i_z1_z, x0_bad_z, x0_no_z, x0_full_z, x0_badAsk_z, x6_bad_z, x6_no_z, x6_full_z, bi_some_z, bd_some_z, nm_eq_z, F_X0_isKind, F_X6_isKind, F_X0_isSkill, F_X6_isSkill, F_X0_isFar, F_X6_isFar, F_X0_isLong, F_X0_isShip, F_X6_isShip, F_X0_isMan, F_X6_isMan, F_X6_many, rf0_ne_z _ _ (show 91 ≠ 76 by omega), rf0_ne_z _ _ (show 90 ≠ 76 by omega), h, if_true]
  obtain ⟨k, _, hk, ek⟩ := in_oka_z (a := 0) (b := 9) (by decide) (by decide) h
  subst ek
  refine op_ro_z g (r := cof_z (σ.1 91) n f a c e w t k) (σ1 := σ) (σ2 := σ) ?_ ?_ (Same_z.refl _) (Same_z.refl _)
  · show F_X0_count σ (nI k) = _
    unfold F_X0_count
    simp only [in06_z, h, if_false, x0_count_z z e0 (show k < 10 by omega), bd_some_z]
  · show F_X6_count σ (nI k) = _
    unfold F_X6_count
    rw [x6_count_z rfl z.iv r2 r3 r4 r5 e9 (by omega)]
    simp only [h, if_false, bd_some_z]
/-! digest -/
def d10_z (C : Nat → Int32) : Nat → Int64
  | 0 => 1721
  | k + 1 => 31 * d10_z C k + (C k).toInt64
def d33_z (R : Nat → Int32) (y : Int64) : Nat → Int64
  | 0 => y
  | k + 1 => 31 * (31 * d33_z R y k + (R (17 + k)).toInt64) + (R (14 + k)).toInt64
def d83_z (R : Nat → Int32) (y : Int64) : Nat → Int64
  | 0 => y
  | k + 1 => 31 * (31 * (31 * d83_z R y k + (R (20 + k)).toInt64) + (R (28 + k)).toInt64) + (R (6 + k)).toInt64 - 1
def dsm_z (R : Nat → Int32) (b : Nat) (y : Int64) : Nat → Int64
  | 0 => y
  | k + 1 => 31 * dsm_z R b y k + (R (b + k)).toInt64
theorem x6_sums_z {σ : Me_} {R : Nat → Int32} {b c : Nat} (hR : σ.1 91 = R) (hb : b + c ≤ 104) (y : Int64) : F_X6_sums σ y (nI b) (nI c) = some (dsm_z R b y c) := by
  unfold F_X6_sums
  refine loop2_z (F_X6_sums_L6 σ (nI b) (nI c)) (fun k => dsm_z R b y k) (fun k => nI k) _ c ?_ ?_ FU_ 0 (Nat.zero_le _) (fu_lt_z (by omega))
  · intro q
    rw [F_X6_sums_L6, if_pos (by rw [nI_le_z (by omega) (by omega)]; omega)]
  · intro k q hk
    rw [F_X6_sums_L6, if_neg (by rw [nI_le_z (by omega) (by omega)]; omega), nI_add_z, if_pos (by rw [nI_inb_z (by omega)]; omega), nI_nat_z (by omega), hR]
    simp only [nm_eq_z, nI_s_z]; rfl
theorem pl_64_z : ∀ p, p < 4 → (nI p - 1 : Int32).toInt64 = (nI p).toInt64 - 1 := by decide +kernel
theorem l_asub_z (x y z : Int64) : x + (y - z) = x + y - z := by
  rw [Int64.sub_eq_add_neg, Int64.sub_eq_add_neg, Int64.add_assoc]
theorem x0_of012_z {σ : Me_} {R : Nat → Int32} {n f m : Nat} (iv : Iv_z R n f) (sr : Sr_z σ 1 8 R n f) (hm : m < n) : F_X0_of σ (nI m) 0 = some (R (20 + m), σ) ∧ F_X0_of σ (nI m) 1 = some (R (28 + m), σ) ∧ F_X0_of σ (nI m) 2 = some (R (6 + m) - 1, σ) := by
  have hn8 := iv.n8
  have b1 : inb_ (nI m) 8 = true := by rw [nI_inb_z (by omega)]; omega
  have pl : σ.1 9 m = R (6 + m) - 1 := sr.pl m hm
  have kd : σ.1 3 m = R (20 + m) := sr.kd m hm
  have sk : σ.1 4 m = R (28 + m) := sr.sk m hm
  have i4 : σ.1 1 4 = nI n := sr.e4
  obtain ⟨k, hk, ek⟩ := iv.kd m hm
  have h : ¬ F_X6_in (nI m).toInt64 (0 : Int64) ((nI n - 1 : Int32).toInt64) = 0 := by
    rw [in_no_z, nI_pred64_z (by omega), nI_int_z (by omega), show (0 : Int64).toInt = 0 from by decide]; omega
  refine ⟨?_, ?_, ?_⟩
  · unfold F_X0_of
    simp (disch := omega) only [in06_z, in_and_z, F_X0_isMan, i4, h, if_false, if_true, b1, nI_nat_z, kd, ek, nI_nn_z, Nat.mod_eq_of_lt hk, (kd_eq_z k hk).1]
  · unfold F_X0_of
    simp (disch := omega) only [in06_z, in_and_z, F_X0_isMan, i4, h, if_false, if_true, b1, nI_nat_z, sk, i_10_z]
  · unfold F_X0_of
    simp (disch := omega) only [in06_z, in_and_z, F_X0_isMan, i4, h, if_false, if_true, b1, nI_nat_z, pl, i_20_z, i_21_z]
/-- LeftBehind's three loops over arrays -/
theorem x0_dA_z (σ : Me_) {R : Nat → Int32} {c : Nat} (hc : 4 * c ≤ 20) (q2 : σ.1 1 6 = nI c) (se : ∀ i, i < 4 * c → σ.1 5 i = R (36 + i)) (kk : Int64 → Option (Int64 × Me_)) (y : Int64) : F_X0_digest_L139 σ kk FU_ y 0 = kk (dsm_z R 36 y (4 * c)) := by
  have e4 : (4 : Int32) * nI c = nI (4 * c) := nI_mul_z 4 c
  refine loop2_z (F_X0_digest_L139 σ kk) (fun k => dsm_z R 36 y k) (fun k => nI k) _ (4 * c) ?_ ?_ FU_ 0 (Nat.zero_le _) (fu_lt_z (by omega))
  · intro q
    rw [F_X0_digest_L139, q2, e4, if_pos (by rw [nI_le_z (by omega) (by omega)]; omega)]
  · intro k q hk
    rw [F_X0_digest_L139, q2, e4, if_neg (by rw [nI_le_z (by omega) (by omega)]; omega), if_pos (by rw [nI_inb_z (by omega)]; omega), nI_nat_z (by omega), se k hk]
    simp only [nm_eq_z, nI_s_z]; rfl
theorem x0_dB_z (σ : Me_) {R : Nat → Int32} {c : Nat} (hc : 4 * c ≤ 24) (q2 : σ.1 1 8 = nI c) (se : ∀ i, i < 4 * c → σ.1 6 i = R (56 + i)) (kk : Int64 → Option (Int64 × Me_)) (y : Int64) : F_X0_digest_L177 σ kk FU_ y 0 = kk (dsm_z R 56 y (4 * c)) := by
  have e4 : (4 : Int32) * nI c = nI (4 * c) := nI_mul_z 4 c
  refine loop2_z (F_X0_digest_L177 σ kk) (fun k => dsm_z R 56 y k) (fun k => nI k) _ (4 * c) ?_ ?_ FU_ 0 (Nat.zero_le _) (fu_lt_z (by omega))
  · intro q
    rw [F_X0_digest_L177, q2, e4, if_pos (by rw [nI_le_z (by omega) (by omega)]; omega)]
  · intro k q hk
    rw [F_X0_digest_L177, q2, e4, if_neg (by rw [nI_le_z (by omega) (by omega)]; omega), if_pos (by rw [nI_inb_z (by omega)]; omega), nI_nat_z (by omega), se k hk]
    simp only [nm_eq_z, nI_s_z]; rfl
theorem x0_dC_z (σ : Me_) {R : Nat → Int32} {c : Nat} (hc : 4 * c ≤ 24) (q2 : σ.1 1 10 = nI c) (se : ∀ i, i < 4 * c → σ.1 7 i = R (80 + i)) (kk : Int64 → Option (Int64 × Me_)) (y : Int64) : F_X0_digest_L215 σ kk FU_ y 0 = kk (dsm_z R 80 y (4 * c)) := by
  have e4 : (4 : Int32) * nI c = nI (4 * c) := nI_mul_z 4 c
  refine loop2_z (F_X0_digest_L215 σ kk) (fun k => dsm_z R 80 y k) (fun k => nI k) _ (4 * c) ?_ ?_ FU_ 0 (Nat.zero_le _) (fu_lt_z (by omega))
  · intro q
    rw [F_X0_digest_L215, q2, e4, if_pos (by rw [nI_le_z (by omega) (by omega)]; omega)]
  · intro k q hk
    rw [F_X0_digest_L215, q2, e4, if_neg (by rw [nI_le_z (by omega) (by omega)]; omega), if_pos (by rw [nI_inb_z (by omega)]; omega), nI_nat_z (by omega), se k hk]
    simp only [nm_eq_z, nI_s_z]; rfl
theorem x0_dM_z {σ : Me_} {R : Nat → Int32} {n f : Nat} (iv : Iv_z R n f) (sr : Sr_z σ 1 8 R n f) (kk : Int64 → Me_ → Option (Int64 × Me_)) (y : Int64) : F_X0_digest_L90 kk FU_ y 0 σ = kk (d83_z R y n) σ := by
  have hn8 := iv.n8
  have hf3 := iv.f3
  refine loop3_z (F_X0_digest_L90 kk) (fun k => d83_z R y k) (fun k => nI k) (fun _ => σ) _ n ?_ ?_ FU_ 0 (Nat.zero_le _) (fu_lt_z (by omega))
  · intro q
    rw [F_X0_digest_L90, show σ.1 1 4 = nI n from sr.e4, if_pos (by rw [nI_le_z (by omega) (by omega)]; omega)]
  · intro k q hk
    obtain ⟨o0, o1, o2⟩ := x0_of012_z iv sr hk
    obtain ⟨p, hp, ep⟩ := iv.pl k hk
    rw [F_X0_digest_L90, show σ.1 1 4 = nI n from sr.e4, if_neg (by rw [nI_le_z (by omega) (by omega)]; omega), nm_eq_z]
    obtain ⟨Q, hQ⟩ : ∃ Q, FU_ = Q + 1 + 1 + 1 + 1 := ⟨99996, rfl⟩
    rw [hQ, F_X0_digest_L104, if_neg (by decide), o0, bi_some_z]
    rw [nm_eq_z, nm_eq_z, show (0 : Int32) + 1 = 1 by decide, F_X0_digest_L104, if_neg (by decide), o1, bi_some_z]
    rw [nm_eq_z, nm_eq_z, show (1 : Int32) + 1 = 2 by decide, F_X0_digest_L104, if_neg (by decide), o2, bi_some_z]
    rw [nm_eq_z, nm_eq_z, show (2 : Int32) + 1 = 3 by decide, F_X0_digest_L104, if_pos (by decide), nm_eq_z, nI_s_z, ep, pl_64_z p (by omega), l_asub_z, d83_z, ep]
theorem op_digest_z {σ : Me_} (g : Rel_z σ) : ∃ r, F_X0_digest σ = some (r, σ) ∧ F_X6_digest σ = some r := by
  obtain ⟨n, f, a, c, e, w, z⟩ := g.fu; have hn8 := z.iv.n8; have hf3 := z.iv.f3; have ha5 := z.a5; have hc6 := z.c6; have he6 := z.e6; have hw8 := z.w8; have i4 := z.sr.e4; have i1 := z.sr.e1; have t0 := z.iv.t0; have t1 := z.iv.t1; have r2 := z.r2; have r3 := z.r3; have r4 := z.r4; have r5 := z.r5; have q2 := z.q2; have q3 := z.q3; have q4 := z.q4; have q5 := z.q5
  obtain ⟨t, ht, e0, e9, _⟩ := g.re.tx
  have iv := z.iv
  have sr := z.sr
  have fu60 : 60 < FU_ := fu_lt_z (by omega)
  refine ⟨31 * (31 * dsm_z (σ.1 91) 80 (dsm_z (σ.1 91) 56 (dsm_z (σ.1 91) 36 (d83_z (σ.1 91) (d33_z (σ.1 91) (d10_z (cof_z (σ.1 91) n f a c e w t) 10) f) n) (4 * a)) (4 * c)) (4 * e) + σ.2 0 7) + σ.2 0 8, ?_, ?_⟩
  · unfold F_X0_digest
    simp only [nm_eq_z]
    have LA : ∀ kk : Int64 → Option (Int64 × Me_), F_X0_digest_L6 σ kk FU_ 1721 0 = kk (d10_z (cof_z (σ.1 91) n f a c e w t) 10) := fun kk => by
      refine loop2_z (F_X0_digest_L6 σ kk) (fun k => d10_z (cof_z (σ.1 91) n f a c e w t) k) (fun k => nI k) _ 10 ?_ ?_ FU_ 0 (Nat.zero_le _) (by omega)
      · intro q
        rw [F_X0_digest_L6, if_pos (by decide)]
      · intro k q hk
        have e10 : (10 : Int32) = nI 10 := rfl
        rw [F_X0_digest_L6, e10, if_neg (by rw [nI_le_z (by omega) (by omega)]; omega), x0_count_z z e0 hk, bd_some_z]
        simp only [nm_eq_z, nI_s_z]; rfl
    have LB : ∀ (kk : Int64 → Option (Int64 × Me_)) (y : Int64), F_X0_digest_L33 σ kk FU_ y 0 = kk (d33_z (σ.1 91) y f) := fun kk y => by
      refine loop2_z (F_X0_digest_L33 σ kk) (fun k => d33_z (σ.1 91) y k) (fun k => nI k) _ f ?_ ?_ FU_ 0 (Nat.zero_le _) (by omega)
      · intro q
        rw [F_X0_digest_L33, i1, if_pos (by rw [nI_le_z (by omega) (by omega)]; omega)]
      · intro k q hk
        obtain ⟨kd, hkd, ek⟩ := iv.so k hk
        have hb : inb_ (nI k) 3 = true := by rw [nI_inb_z (by omega)]; omega
        rw [F_X0_digest_L33, i1, if_neg (by rw [nI_le_z (by omega) (by omega)]; omega), if_pos hb, nI_nat_z (by omega), show σ.1 2 k = σ.1 91 (17 + k) from sr.so k hk, show σ.1 10 k = σ.1 91 (14 + k) from sr.cl k hk, ek, if_neg (nI_nn_z (by omega)), if_pos hb, nI_nat_z (by omega), Nat.mod_eq_of_lt hkd, (kd_eq_z kd hkd).2]
        simp only [nm_eq_z, nI_s_z]
        rw [d33_z, ek]
    rw [LA, LB, x0_dM_z iv sr, x0_dA_z σ (by omega) q2 z.se, x0_dB_z σ (by omega) q3 z.no, x0_dC_z σ (by omega) q4 z.ma]
  · unfold F_X6_digest
    simp only [nm_eq_z]
    have LA : ∀ kk : Int64 → Option Int64, F_X6_digest_L6 σ kk FU_ 1721 0 = kk (d10_z (cof_z (σ.1 91) n f a c e w t) 10) := fun kk => by
      refine loop2_z (F_X6_digest_L6 σ kk) (fun k => d10_z (cof_z (σ.1 91) n f a c e w t) k) (fun k => nI k) _ 10 ?_ ?_ FU_ 0 (Nat.zero_le _) (by omega)
      · intro q
        rw [F_X6_digest_L6, if_pos (by decide)]
      · intro k q hk
        have e10 : (10 : Int32) = nI 10 := rfl
        rw [F_X6_digest_L6, e10, if_neg (by rw [nI_le_z (by omega) (by omega)]; omega), x6_count_z rfl iv r2 r3 r4 r5 e9 hk, bd_some_z]
        simp only [nm_eq_z, nI_s_z]; rfl
    have LB : ∀ (kk : Int64 → Option Int64) (y : Int64), F_X6_digest_L33 σ kk FU_ y 0 = kk (d33_z (σ.1 91) y f) := fun kk y => by
      refine loop2_z (F_X6_digest_L33 σ kk) (fun k => d33_z (σ.1 91) y k) (fun k => nI k) _ f ?_ ?_ FU_ 0 (Nat.zero_le _) (by omega)
      · intro q
        rw [F_X6_digest_L33, t1, if_pos (by rw [nI_le_z (by omega) (by omega)]; omega)]
      · intro k q hk
        have e17 : (17 : Int32) + nI k = nI (17 + k) := nI_add_z 17 k
        have e14 : (14 : Int32) + nI k = nI (14 + k) := nI_add_z 14 k
        rw [F_X6_digest_L33, t1, if_neg (by rw [nI_le_z (by omega) (by omega)]; omega), e17, e14, if_pos (by rw [nI_inb_z (by omega)]; omega), if_pos (by rw [nI_inb_z (by omega)]; omega), nI_nat_z (by omega), nI_nat_z (by omega)]
        simp only [nm_eq_z, nI_s_z]; rfl
    have LC : ∀ (kk : Int64 → Option Int64) (y : Int64), F_X6_digest_L83 σ kk FU_ y 0 = kk (d83_z (σ.1 91) y n) := fun kk y => by
      refine loop2_z (F_X6_digest_L83 σ kk) (fun k => d83_z (σ.1 91) y k) (fun k => nI k) _ n ?_ ?_ FU_ 0 (Nat.zero_le _) (by omega)
      · intro q
        rw [F_X6_digest_L83, F_X6_many, t0, if_pos (by rw [nI_le_z (by omega) (by omega)]; omega)]
      · intro k q hk
        have e20 : (20 : Int32) + nI k = nI (20 + k) := nI_add_z 20 k
        have e28 : (28 : Int32) + nI k = nI (28 + k) := nI_add_z 28 k
        have e6' : (6 : Int32) + nI k = nI (6 + k) := nI_add_z 6 k
        rw [F_X6_digest_L83, F_X6_many, t0, if_neg (by rw [nI_le_z (by omega) (by omega)]; omega), e20, e28, e6', if_pos (by rw [nI_inb_z (by omega)]; omega), if_pos (by rw [nI_inb_z (by omega)]; omega), if_pos (by rw [nI_inb_z (by omega)]; omega), nI_nat_z (by omega), nI_nat_z (by omega), nI_nat_z (by omega)]
        simp only [nm_eq_z, nI_s_z]; rfl
    have e4a : (4 : Int32) * nI a = nI (4 * a) := nI_mul_z 4 a
    have e4c : (4 : Int32) * nI c = nI (4 * c) := nI_mul_z 4 c
    have e4e : (4 : Int32) * nI e = nI (4 * e) := nI_mul_z 4 e
    have e36 : (36 : Int32) = nI 36 := rfl
    have e56 : (56 : Int32) = nI 56 := rfl
    have e80 : (80 : Int32) = nI 80 := rfl
    rw [LA, LB, LC, r2, r3, r4, e4a, e4c, e4e, e36, e56, e80, x6_sums_z rfl (by omega), bd_some_z, x6_sums_z rfl (by omega), bd_some_z, x6_sums_z rfl (by omega), bd_some_z, g.re.ab, g.re.be]
