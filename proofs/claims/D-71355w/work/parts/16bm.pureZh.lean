set_option maxRecDepth 100000
set_option linter.unusedSimpArgs false
set_option linter.unusedVariables false

/-! PURE Zh: read -/
theorem x6_cp109_z (s : Me_) (x : Int32) : F_X6_read_L109 x FU_ 0 s = some (x, me_arr s 91 (cp_ (s.1 101) (s.1 91) 104)) := by
  have L := loop2_z (F_X6_read_L109 x) (fun k => nI k) (fun k => me_arr s 91 (cp_ (s.1 101) (s.1 91) k)) (some (x, me_arr s 91 (cp_ (s.1 101) (s.1 91) 104))) 104 ?_ ?_ FU_ 0 (Nat.zero_le _) (fu_lt_z (by omega))
  · rw [cp_zero_z, ma_self_z] at L; exact L
  · intro q
    rw [F_X6_read_L109, if_pos (by decide)]
  · intro k q hk
    have e104 : (104 : Int32) = nI 104 := rfl
    rw [F_X6_read_L109, if_neg (by rw [e104, nI_le_z (by omega) (by omega)]; omega), if_pos (by rw [nI_inb_z (by omega)]; omega), if_pos (by rw [nI_inb_z (by omega)]; omega), nI_nat_z (by omega)]
    simp only [nm_eq_z, nI_s_z, ms_arr_z, ma_same_z, ma_ma_z, ma_ne_z _ _ (show 101 ≠ 91 by omega)]
    rw [← cp_upd_z]
theorem x6_read_z {s : Me_} {X : Nat → Nat} {t : Nat} {T0 : Nat → Int32} (h : Ty_z s X t) (hT : zr_z (s.1 101) 104 = T0) : MdR_z s (fun x1 σ_5 => F_X6_read_L109 x1 FU_ 0 σ_5) (F_X6_read s) (rdz_z X t T0) := by
  have ht := h.le
  unfold F_X6_read
  obtain ⟨s1, a1, a2, a3, a4, a5⟩ := x6_lookAt_z h (Nat.zero_le t)
  have hA0 := en_le_z (X := X) (P := pSp_z) (t := t) _ 0 rfl (Nat.zero_le _)
  have f1 : FrM_z s s1 := ⟨a2, fun j e _ _ => a3 j e, a4⟩
  have ty1 : Ty_z s1 X t := h.keep (a4 12 (by omega)) (a3 100 (by omega))
  rw [show F_X6_lookAt s 0 = F_X6_lookAt s (nI 0) from rfl, a1, bd_some_z]
  unfold rdz_z
  have hle : tkA_z X t 0 ≤ t := hA0.2
  generalize tkA_z X t 0 = A at *
  have w0 : F_X6_spells s1 6 105 115 108 97 110 100 = some (bI_z (wd_z X t A 0)) := x6_word_z ty1 a5 hle (by omega) rfl (by decide)
  rw [w0, bd_some_z]
  by_cases cw : wd_z X t A 0 = true
  · rw [if_neg (fun u => (bI_z_z _).mp u cw), if_pos cw]
    obtain ⟨s2, b1, b2, b3, b4, b5⟩ := x6_goBehind_z ty1 a5 hle
    have f2 : FrM_z s1 s2 := ⟨b2, fun j e _ _ => b3 j e, b4⟩
    have ty2 : Ty_z s2 X t := ty1.keep (b4 12 (by omega)) (b3 100 (by omega))
    have hle2 := (nx_le_z (X := X) hle).1
    have hK' := tkK_le_z X t (nx_z X t A)
    have k3 : nI (tkK_z X t (nx_z X t A)) = 3 ↔ tkK_z X t (nx_z X t A) = 3 := by rw [nI_lit_z, nI_inj_z (by omega) (by omega)]
    rw [b1, bd_some_z, b5.tk]
    by_cases c3 : tkK_z X t (nx_z X t A) = 3
    · obtain ⟨s3, d1, d2, d3, d4, d5⟩ := x6_goBehind_z ty2 b5 hle2
      have f3 : FrM_z s2 s3 := ⟨d2, fun j e _ _ => d3 j e, d4⟩
      have ty3 : Ty_z s3 X t := ty2.keep (d4 12 (by omega)) (d3 100 (by omega))
      have k101 : s3.1 101 = s.1 101 := by rw [d3 101 (by omega), b3 101 (by omega), a3 101 (by omega)]
      have hle3 := (nx_le_z (X := X) hle2).1
      rw [if_pos (k3.mpr c3), if_pos c3, d1, bd_some_z, x6_begin_z s3 101 104 (by omega), bd_some_z, k101, hT, nm_eq_z]
      have z4 : Mi_z (me_arr s3 101 T0) X t (nx_z X t (nx_z X t A)) T0 0 0 := ⟨ty3.keep (by rw [ma_ne_z _ _ (by omega)]) (ma_ne_z _ _ (by omega)), ⟨by rw [ma_ne_z _ _ (by omega)]; exact d5.st, by rw [ma_ne_z _ _ (by omega)]; exact d5.ln, by rw [ma_ne_z _ _ (by omega)]; exact d5.tk, by rw [ma_ne_z _ _ (by omega)]; exact d5.vl⟩, ma_same_z _ _ _, T0_iv_z T0 (fun i hi => by rw [← hT]; exact zr_lt_z _ hi), hle3⟩
      have f4 : FrM_z s3 (me_arr s3 101 T0) := ⟨rfl, fun j _ e _ => ma_ne_z _ _ e, fun k _ => by rw [ma_ne_z _ _ (by omega)]⟩
      exact (x6_loop_z (fun x1 σ_5 => F_X6_read_L109 x1 FU_ 0 σ_5) 200 _ T0 0 0 1 FU_ _ (by omega) (Nat.le_of_lt (fu_lt_z (by omega))) z4).tr (((f1.trans f2).trans f3).trans f4)
    · rw [if_neg (fun u => c3 (k3.mp u)), if_neg c3, b5.st]
      exact ⟨s2, rfl, f1.trans f2⟩
  · rw [if_pos ((bI_z_z _).mpr cw), if_neg cw, a5.st]
    exact ⟨s1, rfl, f1⟩
theorem Fa_z.fu {s : Me_} {T R : Nat → Int32} {n f : Nat} (z : Fa_z s T n f) (o : ∀ i, i < 104 → R i = T i) : Fu_z s 36 R n f 0 0 0 0 := by
  have hn8 := z.iv.n8; have hf3 := z.iv.f3
  have sr := z.sr
  have n0 : ∀ {P : Nat → Prop} (m : Nat), m < 0 → P m := fun m h => absurd h (Nat.not_lt_zero _)
  have n4 : ∀ {P : Nat → Prop} (m : Nat), m < 4 * 0 → P m := fun m h => absurd h (Nat.not_lt_zero _)
  refine ⟨z.iv.congr (fun i hi => o i (by omega)), ⟨sr.e4, sr.e1, ?_, ?_, ?_, ?_, ?_⟩, by omega, by omega, by omega, by omega, ?_, ?_, ?_, ?_, z.y6, z.y8, z.ya, z.yd, n4, n4, n4, n0, n0, n0, n0, n0, n0⟩
  · intro m hm; rw [o _ (by omega)]; exact sr.pl m hm
  · intro m hm; rw [o _ (by omega)]; exact sr.cl m hm
  · intro m hm; rw [o _ (by omega)]; exact sr.so m hm
  · intro m hm; rw [o _ (by omega)]; exact sr.kd m hm
  · intro m hm; rw [o _ (by omega)]; exact sr.sk m hm
  · rw [o _ (by omega)]; exact z.z2
  · rw [o _ (by omega)]; exact z.z3
  · rw [o _ (by omega)]; exact z.z4
  · rw [o _ (by omega)]; exact z.z5
theorem op_read_z {σ : Me_} (g : Rel_z σ) : Op_z σ F_X0_read F_X6_read := by
  obtain ⟨t, ht, e0, e9, ev⟩ := g.re.tx
  have hX : ∃ X : Nat → Nat, ∀ i, i < t → σ.1 100 i = nI (X i) ∧ X i < 128 ∧ σ.1 75 i = nI (X i) := by
    refine ⟨fun i => (σ.1 100 i).toNatClampNeg, fun i hi => ?_⟩
    obtain ⟨e, k, hk, ek⟩ := ev i hi
    have : (σ.1 100 i).toNatClampNeg = k := by rw [ek, nI_nat_z (by omega)]
    simp only []
    rw [this]; exact ⟨ek, hk, by rw [e, ek]⟩
  obtain ⟨X, hX⟩ := hX
  have tx : Tx_z σ X t := ⟨e0, ht, fun i hi => ⟨(hX i hi).2.2, (hX i hi).2.1⟩⟩
  have hL := x3_reads_z (T := zr_z (σ.1 101) 104) tx (fun i hi => zr_lt_z _ hi)
  have hM : ∀ s : Me_, s.1 90 = σ.1 90 → s.1 100 = σ.1 100 → s.1 101 = σ.1 101 → MdR_z s (fun x1 σ_5 => F_X6_read_L109 x1 FU_ 0 σ_5) (F_X6_read s) (rdz_z X t (zr_z (σ.1 101) 104)) := fun s h1 h2 h3 => x6_read_z ⟨by rw [h1]; exact e9, ht, fun i hi => by rw [h2]; exact ⟨(hX i hi).1, (hX i hi).2.1⟩⟩ (by rw [h3])
  generalize rdz_z X t (zr_z (σ.1 101) 104) = P at *
  cases P with
  | inl p =>
    obtain ⟨s1, b1, b2⟩ := hL
    obtain ⟨s2, c1, c2⟩ := hM s1 (b2.2 90 (by omega)) (b2.2 100 (by omega)) (b2.2 101 (by omega))
    refine op_ro_z g (r := -10 - nI p) (σ1 := s1) (σ2 := s2) ?_ c1 ⟨b2.1, fun j q => b2.2 j (by omega), by rw [b2.2 90 (by omega)]⟩ ⟨c2.1, fun j q => c2.2.1 j (by omega) (by omega) (by omega), c2.2.2 12 (by omega)⟩
    unfold F_X0_read
    rw [b1]; rfl
  | inr r =>
    obtain ⟨s1, b1, b2, b3⟩ := hL
    generalize hR : cp_ r.2.1 (σ.1 91) 104 = R
    have oR : ∀ i, i < 104 → R i = r.2.1 i := fun i hi => by rw [← hR]; exact cp_lt_z _ _ hi
    obtain ⟨τ, d1, d2, d3, d4⟩ := x1_takes_z (p := 1) (o := 36) (by omega) (b3.fu oR)
    obtain ⟨s2, c1, c2, c3⟩ := hM τ (by rw [d3 90 (by omega), b2.2 90 (by omega)]) (by rw [d3 100 (by omega), b2.2 100 (by omega)]) (by rw [d3 101 (by omega), b2.2 101 (by omega)])
    have k91 : s2.1 91 = σ.1 91 := by rw [c2.2.1 91 (by omega) (by omega) (by omega), d3 91 (by omega), b2.2 91 (by omega)]
    refine ⟨nI r.1, τ, me_arr s2 91 R, ?_, ?_, ?_, by rw [d3 71 (by omega), b2.2 71 (by omega)], by rw [ma_ne_z _ _ (by omega), c2.2.1 71 (by omega) (by omega) (by omega)]⟩
    · unfold F_X0_read
      rw [b1]
      show nm_ (α := Int32) (nI r.1) (fun x1 => Option.bind (F_X1_takes s1 1 36) fun σ_2 => some (x1, σ_2)) = _
      rw [nm_eq_z, d1, bd_some_z]
    · rw [c1]
      show F_X6_read_L109 (nI r.1) FU_ 0 s2 = _
      rw [x6_cp109_z, c3, k91, hR]
    · have c90 : s2.1 90 12 = σ.1 90 12 := by rw [c2.2.2 12 (by omega), d3 90 (by omega), b2.2 90 (by omega)]
      have co : ∀ j, j = 0 ∨ j = 71 ∨ j = 75 ∨ j = 76 ∨ (92 ≤ j ∧ j ≤ 94) ∨ j = 100 ∨ 110 ≤ j → (me_arr s2 91 R).1 j = σ.1 j := fun j hj => by rw [ma_ne_z _ _ (by omega), c2.2.1 j (by omega) (by omega) (by omega), d3 j (by omega), b2.2 j (by omega)]
      refine ⟨⟨r.2.2.1, r.2.2.2, 0, 0, 0, 0, ?_⟩, g.re.congr (by rw [ma_2_z, c2.1, d2, b2.1]) (co 0 (by omega)) (by rw [ma_ne_z _ _ (by omega)]; exact c90) (co 71 (by omega)) (co 75 (by omega)) (co 76 (by omega)) (co 92 (by omega)) (co 93 (by omega)) (co 94 (by omega)) (co 100 (by omega)) (fun k _ => co (110 + k) (by omega))⟩
      rw [ma_same_z]
      exact d4.congr (fun k hk => by rw [ma_ne_z _ _ (by omega), c2.2.1 _ (by omega) (by omega) (by omega)])
