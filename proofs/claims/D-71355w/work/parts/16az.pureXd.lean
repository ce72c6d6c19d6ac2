set_option maxRecDepth 100000
set_option linter.unusedSimpArgs false
set_option linter.unusedVariables false

/-! PURE Xd: the fewest calls, the model's side -/
theorem x6_ab39_z {s : Me_} {R T : Nat → Int32} {n f h d q : Nat} (h91 : s.1 91 = R) (h95 : s.1 95 = T) (iv : Iv_z R n f) (ivT : Iv_z T n f) (hh : h < 3) (hd : d ≤ 8) (h96 : s.1 96 h = nI d) (kk : Me_ → Option (Int32 × Me_)) : F_X6_ashoreBy_L39 kk (q + 1) (nI h) s = if d ≤ Mf_z R n f h then F_X6_ashoreBy_L39 kk q (nI (h + 1)) (me_arr s 95 (itr_z T h n d)) else some (-1, s) := by
  have hn8 := iv.n8
  have hf3 := iv.f3
  have e3 : (3 : Int32) = nI 3 := rfl
  have hb : inb_ (nI h) 3 = true := by rw [nI_inb_z (by omega)]; omega
  have e0 : (0 : Int32) = nI 0 := rfl
  have hd0 : nI d ≤ 0 ↔ d = 0 := by rw [e0, nI_le_z (by omega) (by omega)]; omega
  -- the calls
  have LP : ∀ kx : Me_ → Option (Int32 × Me_), (d = 0 ∨ h < f) → F_X6_ashoreBy_L84 (nI h) kx FU_ 0 s = kx (me_arr s 95 (itr_z T h n d)) := by
    intro kx hx
    have L := loop2_z (F_X6_ashoreBy_L84 (nI h) kx) (fun k => nI k) (fun k => me_arr s 95 (itr_z T h n k)) (kx (me_arr s 95 (itr_z T h n d))) d ?_ ?_ FU_ 0 (Nat.zero_le _) (fu_lt_z (by omega))
    · rw [show itr_z T h n 0 = T from rfl, ← h95, ma_self_z] at L; rw [← h95]; exact L
    · intro q
      rw [F_X6_ashoreBy_L84, if_pos hb, nI_nat_z (by omega), ma_ne_z _ _ (by omega), h96, if_pos (by rw [nI_le_z (by omega) (by omega)]; omega)]
    · intro k q hk
      rw [F_X6_ashoreBy_L84, if_pos hb, nI_nat_z (by omega), ma_ne_z _ _ (by omega), h96, if_neg (by rw [nI_le_z (by omega) (by omega)]; omega), x6_goCall_z (ma_same_z _ _ _) (itr_iv_z ivT (show h < f by omega) k) (by omega) (by omega), bi_some_z, ma_ma_z, nm_eq_z, nI_s_z]
      rfl
  rw [F_X6_ashoreBy_L39, if_neg (by rw [e3, nI_le_z (by omega) (by omega)]; omega), if_pos hb, nI_nat_z (by omega), h96, nm_eq_z, nm_eq_z, h91, iv.t1]
  by_cases c0 : d = 0
  · rw [if_pos (hd0.mpr c0), LP _ (Or.inl c0), if_pos (by omega), nm_eq_z, nI_s_z]
  · rw [if_neg (fun t => c0 (hd0.mp t))]
    have hle : nI f ≤ nI h ↔ f ≤ h := nI_le_z (by omega) (by omega)
    by_cases c1 : h < f
    · have hMc : Mf_z R n f h = cnt_z R (nI (h + 1)) n := if_pos c1
      have hcl := cnt_le_z R (nI (h + 1)) n
      rw [if_neg (fun t => by have := hle.mp t; omega), if_pos hb, x6_aboard_z h91 iv (by omega), bd_some_z, nI_s_z]
      have hl2 : nI d ≤ nI (cnt_z R (nI (h + 1)) n) ↔ d ≤ cnt_z R (nI (h + 1)) n := nI_le_z (by omega) (by omega)
      by_cases c2 : d ≤ cnt_z R (nI (h + 1)) n
      · rw [if_pos (hl2.mpr c2), if_pos (by omega), LP _ (Or.inr c1), nm_eq_z]
      · rw [if_neg (fun t => c2 (hl2.mp t)), if_neg (by omega)]
    · have hM0 : Mf_z R n f h = 0 := if_neg c1
      rw [if_pos (hle.mpr (by omega)), if_neg (by omega)]
def dg0_z (code : Nat) : Nat := code / 81
def dg1_z (code : Nat) : Nat := code / 9 % 9
def dg2_z (code : Nat) : Nat := code % 9
def vld_z (R : Nat → Int32) (n f code : Nat) : Bool := decide (dg0_z code ≤ Mf_z R n f 0) && decide (dg1_z code ≤ Mf_z R n f 1) && decide (dg2_z code ≤ Mf_z R n f 2)
theorem x6_ashBy_z {s : Me_} {R : Nat → Int32} {n f code : Nat} (h91 : s.1 91 = R) (iv : Iv_z R n f) (hc : code < 729) : ∃ τ, F_X6_ashoreBy s (nI code) = some (if vld_z R n f code = true then nI (skN_z R 0 n + (gns_z R 0 n (dg0_z code) + gns_z R 1 n (dg1_z code) + gns_z R 2 n (dg2_z code))) else -1, τ) ∧ τ.2 = s.2 ∧ (∀ j, j ≠ 95 → j ≠ 96 → τ.1 j = s.1 j) ∧ τ.1 96 0 = nI (dg0_z code) ∧ τ.1 96 1 = nI (dg1_z code) ∧ τ.1 96 2 = nI (dg2_z code) := by
  have hn8 := iv.n8
  have hf3 := iv.f3
  have e81 : (81 : Int32) = nI 81 := rfl
  have e9 : (9 : Int32) = nI 9 := rfl
  obtain ⟨a1, _⟩ := nI_dm_z (c := code) (B := 81) (by omega) (by omega) (by omega)
  obtain ⟨b1, b2⟩ := nI_dm_z (c := code) (B := 9) (by omega) (by omega) (by omega)
  obtain ⟨_, c2⟩ := nI_dm_z (c := code / 9) (B := 9) (by omega) (by omega) (by omega)
  have d0 : dg0_z code ≤ 8 := by unfold dg0_z; omega
  have d1 : dg1_z code ≤ 8 := by unfold dg1_z; omega
  have d2 : dg2_z code ≤ 8 := by unfold dg2_z; omega
  have oT : ∀ i, i < 36 → hnd_z R (s.1 95) i = R i := fun i hi => hnd_lt_z _ _ hi
  generalize hT : hnd_z R (s.1 95) = T at oT
  have iv0 := iv.congr oT
  have ag : ∀ u, u < 3 → Ag_z u n R T := fun u hu => ⟨fun m hm => by rw [oT _ (by omega)], (oT _ (by omega)).symm, fun m hm => (oT _ (by omega)).symm, fun m hm => (oT _ (by omega)).symm⟩
  have hsk0 : skN_z T 0 n = skN_z R 0 n := skN_congr_z n (fun m hm => ⟨oT _ (by omega), oT _ (by omega)⟩)
  generalize hσ4 : me_set (me_set (me_set (me_arr s 95 T) 96 0 (nI (dg0_z code))) 96 1 (nI (dg1_z code))) 96 2 (nI (dg2_z code)) = σ4
  have o4 : ∀ j, j ≠ 95 → j ≠ 96 → σ4.1 j = s.1 j := fun j h1 h2 => by rw [← hσ4, ms_ne_z _ _ _ h2, ms_ne_z _ _ _ h2, ms_ne_z _ _ _ h2, ma_ne_z _ _ h1]
  have s96 : σ4.1 96 0 = nI (dg0_z code) ∧ σ4.1 96 1 = nI (dg1_z code) ∧ σ4.1 96 2 = nI (dg2_z code) := by
    rw [← hσ4]; refine ⟨?_, ?_, ?_⟩ <;> simp (disch := omega) only [ms_ne_z, ms_same_z, upd_ne_z, upd_same_z]
  have s95 : σ4.1 95 = T := by rw [← hσ4, ms_ne_z _ _ _ (by omega), ms_ne_z _ _ _ (by omega), ms_ne_z _ _ _ (by omega), ma_same_z]
  have s22 : σ4.2 = s.2 := by rw [← hσ4]; rfl
  have s91 : σ4.1 91 = R := by rw [o4 91 (by omega) (by omega)]; exact h91
  have hun : F_X6_ashoreBy s (nI code) = F_X6_ashoreBy_L39 (fun σ_5 => Option.bind (F_X6_skillsIn σ_5 95 36 (0 : Int32)) fun r => some (r, σ_5)) FU_ (nI 0) σ4 := by
    unfold F_X6_ashoreBy
    rw [x6_layHand_z, h91, show cp_ R (s.1 95) 36 = T from hT, bd_some_z]
    simp only [nm_eq_z]
    rw [e81, e9, a1, b2, b1, c2, show code / 81 = dg0_z code from rfl, show code / 9 % 9 = dg1_z code from rfl, show code % 9 = dg2_z code from rfl, hσ4]
    rfl
  obtain ⟨Q, hQ⟩ : ∃ Q, FU_ = Q + 1 + 1 + 1 + 1 := ⟨99996, rfl⟩
  rw [hun, hQ]
  generalize hkk : (fun σ_5 => Option.bind (F_X6_skillsIn σ_5 95 36 (0 : Int32)) fun r => some (r, σ_5)) = kk
  -- rows
  have itv : ∀ (U : Nat → Int32) h d, Iv_z U n f → d ≤ Mf_z R n f h → Iv_z (itr_z U h n d) n f := fun U h d hU hd => by
    unfold Mf_z at hd
    by_cases q : h < f
    · exact itr_iv_z hU q d
    · rw [if_neg q] at hd
      have : d = 0 := by omega
      subst this; exact hU
  have its : ∀ (U : Nat → Int32) h d, Iv_z U n f → d ≤ Mf_z R n f h → skN_z (itr_z U h n d) 0 n = skN_z U 0 n + gns_z U h n d := fun U h d hU hd => by
    unfold Mf_z at hd
    by_cases q : h < f
    · exact skN_itr_z hU q d
    · rw [if_neg q] at hd
      have : d = 0 := by omega
      subst this; rfl
  rw [x6_ab39_z s91 s95 iv iv0 (by omega) d0 s96.1]
  unfold vld_z
  by_cases v0 : dg0_z code ≤ Mf_z R n f 0
  · rw [if_pos v0]
    have iv1 := itv T 0 _ iv0 v0
    have t91 : (me_arr σ4 95 (itr_z T 0 n (dg0_z code))).1 91 = R := by rw [ma_ne_z _ _ (by omega)]; exact s91
    rw [x6_ab39_z t91 (ma_same_z _ _ _) iv iv1 (by omega) d1 (by rw [ma_ne_z _ _ (by omega)]; exact s96.2.1)]
    by_cases v1 : dg1_z code ≤ Mf_z R n f 1
    · rw [if_pos v1, ma_ma_z]
      have iv2 := itv _ 1 _ iv1 v1
      have u91 : (me_arr σ4 95 (itr_z (itr_z T 0 n (dg0_z code)) 1 n (dg1_z code))).1 91 = R := by rw [ma_ne_z _ _ (by omega)]; exact s91
      rw [x6_ab39_z u91 (ma_same_z _ _ _) iv iv2 (by omega) d2 (by rw [ma_ne_z _ _ (by omega)]; exact s96.2.2)]
      by_cases v2 : dg2_z code ≤ Mf_z R n f 2
      · rw [if_pos v2, ma_ma_z]
        have iv3 := itv _ 2 _ iv2 v2
        have sk3 : skN_z (itr_z (itr_z (itr_z T 0 n (dg0_z code)) 1 n (dg1_z code)) 2 n (dg2_z code)) 0 n = skN_z R 0 n + (gns_z R 0 n (dg0_z code) + gns_z R 1 n (dg1_z code) + gns_z R 2 n (dg2_z code)) := by
          rw [its _ 2 _ iv2 v2, its _ 1 _ iv1 v1, its _ 0 _ iv0 v0, hsk0]
          have g0 := gns_ag_z (ag 0 (by omega)) (by omega) hn8 (dg0_z code)
          have g1 := gns_ag_z ((ag 1 (by omega)).trans (itr_oth_z (v := 0) (by omega) (by omega) (by omega) hn8 (dg0_z code))) (by omega) hn8 (dg1_z code)
          have g2 := gns_ag_z (((ag 2 (by omega)).trans (itr_oth_z (v := 0) (by omega) (by omega) (by omega) hn8 (dg0_z code))).trans (itr_oth_z (v := 1) (by omega) (by omega) (by omega) hn8 (dg1_z code))) (by omega) hn8 (dg2_z code)
          omega
        refine ⟨me_arr σ4 95 (itr_z (itr_z (itr_z T 0 n (dg0_z code)) 1 n (dg1_z code)) 2 n (dg2_z code)), ?_, by rw [ma_2_z, s22], fun j h1 h2 => by rw [ma_ne_z _ _ h1, o4 j h1 h2], by rw [ma_ne_z _ _ (by omega)]; exact s96.1, by rw [ma_ne_z _ _ (by omega)]; exact s96.2.1, by rw [ma_ne_z _ _ (by omega)]; exact s96.2.2⟩
        rw [F_X6_ashoreBy_L39, if_pos (show (3 : Int32) ≤ nI (2 + 1) by decide), ← hkk]
        simp only []
        rw [x6_skillsIn_z (ma_same_z _ _ _) iv3 (by omega), bd_some_z, (sks_N_z iv3 0 n (Nat.le_refl _)).1, sk3, if_pos (by simp only [v0, v1, v2, decide_true, Bool.and_self])]
      · rw [if_neg v2]
        refine ⟨me_arr σ4 95 (itr_z (itr_z T 0 n (dg0_z code)) 1 n (dg1_z code)), ?_, by rw [ma_2_z, s22], fun j h1 h2 => by rw [ma_ne_z _ _ h1, o4 j h1 h2], by rw [ma_ne_z _ _ (by omega)]; exact s96.1, by rw [ma_ne_z _ _ (by omega)]; exact s96.2.1, by rw [ma_ne_z _ _ (by omega)]; exact s96.2.2⟩
        rw [if_neg (by simp only [v2, decide_false, Bool.and_false, Bool.false_eq_true, not_false_eq_true])]
    · rw [if_neg v1]
      refine ⟨me_arr σ4 95 (itr_z T 0 n (dg0_z code)), ?_, by rw [ma_2_z, s22], fun j h1 h2 => by rw [ma_ne_z _ _ h1, o4 j h1 h2], by rw [ma_ne_z _ _ (by omega)]; exact s96.1, by rw [ma_ne_z _ _ (by omega)]; exact s96.2.1, by rw [ma_ne_z _ _ (by omega)]; exact s96.2.2⟩
      rw [if_neg (by simp only [v1, decide_false, Bool.and_false, Bool.false_and, Bool.false_eq_true, not_false_eq_true])]
  · rw [if_neg v0]
    refine ⟨_, ?_, s22, o4, s96.1, s96.2.1, s96.2.2⟩
    rw [if_neg (by simp only [v0, decide_false, Bool.false_and, Bool.false_eq_true, not_false_eq_true])]
/-- the model's search -/
def Gm_z (R : Nat → Int32) (n f X code : Nat) (S : Sf_z) : Sf_z := if vld_z R n f code = true then stp_z (fun h => gns_z R h n) (skN_z R 0 n) X (dg0_z code) (dg1_z code) (dg2_z code) S else S
theorem Gm_fold_z {R : Nat → Int32} {n f X : Nat} (hn : n ≤ 8) (S : Sf_z) : fo_z (Gm_z R n f X) 729 S = fw0_z (Mf_z R n f) (fun h => gns_z R h n) (skN_z R 0 n) X S := by
  have m0 := Mf_le_z (R := R) (n := n) (f := f) (h := 0) hn
  have m1 := Mf_le_z (R := R) (n := n) (f := f) (h := 1) hn
  have m2 := Mf_le_z (R := R) (n := n) (f := f) (h := 2) hn
  rw [show 729 = 81 * 9 from rfl, fo_mul_z]
  unfold fw0_z
  rw [← fo_cut_z (fun k0 => fo_z (fun k1 => fo_z (fun k2 => stp_z (fun h => gns_z R h n) (skN_z R 0 n) X k0 k1 k2) (Mf_z R n f 2 + 1)) (Mf_z R n f 1 + 1)) (show Mf_z R n f 0 < 9 by omega)]
  refine fo_congr_z 9 (fun k0 hk0 S => ?_) S
  rw [show (81 : Nat) = 9 * 9 from rfl, fo_mul_z]
  by_cases v0 : k0 ≤ Mf_z R n f 0
  · rw [if_pos v0, ← fo_cut_z (fun k1 => fo_z (fun k2 => stp_z (fun h => gns_z R h n) (skN_z R 0 n) X k0 k1 k2) (Mf_z R n f 2 + 1)) (show Mf_z R n f 1 < 9 by omega)]
    refine fo_congr_z 9 (fun k1 hk1 S => ?_) S
    by_cases v1 : k1 ≤ Mf_z R n f 1
    · rw [if_pos v1, ← fo_cut_z (fun k2 => stp_z (fun h => gns_z R h n) (skN_z R 0 n) X k0 k1 k2) (show Mf_z R n f 2 < 9 by omega)]
      refine fo_congr_z 9 (fun k2 hk2 S => ?_) S
      have e0 : dg0_z (9 * 9 * k0 + (9 * k1 + k2)) = k0 := by unfold dg0_z; omega
      have e1 : dg1_z (9 * 9 * k0 + (9 * k1 + k2)) = k1 := by unfold dg1_z; omega
      have e2 : dg2_z (9 * 9 * k0 + (9 * k1 + k2)) = k2 := by unfold dg2_z; omega
      unfold Gm_z vld_z
      rw [e0, e1, e2]
      by_cases v2 : k2 ≤ Mf_z R n f 2
      · rw [if_pos v2, if_pos (by simp only [v0, v1, v2, decide_true, Bool.and_self])]
      · rw [if_neg v2, if_neg (by simp only [v2, decide_false, Bool.and_false, Bool.false_eq_true, not_false_eq_true])]
    · rw [if_neg v1]
      refine fo_id_z 9 (fun k2 hk2 S => ?_) S
      have e1 : dg1_z (9 * 9 * k0 + (9 * k1 + k2)) = k1 := by unfold dg1_z; omega
      unfold Gm_z vld_z
      rw [e1, if_neg (by simp only [v1, decide_false, Bool.and_false, Bool.false_and, Bool.false_eq_true, not_false_eq_true])]
  · rw [if_neg v0]
    refine fo_id_z 9 (fun k1 hk1 S => fo_id_z 9 (fun k2 hk2 S => ?_) S) S
    have e0 : dg0_z (9 * 9 * k0 + (9 * k1 + k2)) = k0 := by unfold dg0_z; omega
    unfold Gm_z vld_z
    rw [e0, if_neg (by simp only [v0, decide_false, Bool.false_and, Bool.false_eq_true, not_false_eq_true])]
