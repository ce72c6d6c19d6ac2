set_option maxRecDepth 100000
set_option linter.unusedSimpArgs false
set_option linter.unusedVariables false

/-! PURE Xe: few -/
theorem x6_few102_z {s : Me_} {x6 : Int32} (kk : Int32 → Me_ → Option (Int32 × Me_)) : F_X6_few_L102 x6 kk FU_ 0 s = kk x6 (me_arr s 97 (cp_ (s.1 96) (s.1 97) 3)) := by
  have L := loop2_z (F_X6_few_L102 x6 kk) (fun k => nI k) (fun k => me_arr s 97 (cp_ (s.1 96) (s.1 97) k)) (kk x6 (me_arr s 97 (cp_ (s.1 96) (s.1 97) 3))) 3 ?_ ?_ FU_ 0 (Nat.zero_le _) (fu_lt_z (by omega))
  · rw [cp_zero_z, ma_self_z] at L; exact L
  · intro q
    rw [F_X6_few_L102, if_pos (by decide)]
  · intro k q hk
    have e3 : (3 : Int32) = nI 3 := rfl
    have hb : inb_ (nI k) 3 = true := by rw [nI_inb_z (by omega)]; omega
    rw [F_X6_few_L102, if_neg (by rw [e3, nI_le_z (by omega) (by omega)]; omega), if_pos hb, if_pos hb, nI_nat_z (by omega)]
    simp only [nm_eq_z, nI_s_z, ms_arr_z, ma_same_z, ma_ma_z, ma_ne_z _ _ (show 96 ≠ 97 by omega)]
    rw [← cp_upd_z]
theorem x6_few38_z {s0 : Me_} {R : Nat → Int32} {n f X : Nat} (h91 : s0.1 91 = R) (iv : Iv_z R n f) (hX : 1 ≤ X) (hX2 : X ≤ 72) (kk : Int32 → Me_ → Option (Int32 × Me_)) : ∃ s', F_X6_few_L38 (nI X) kk FU_ 1000000 0 s0 = kk (nI (fo_z (Gm_z R n f X) 729 (1000000, 0, 0, 0)).1) s' ∧ s'.2 = s0.2 ∧ (∀ j, j ≠ 95 → j ≠ 96 → j ≠ 97 → s'.1 j = s0.1 j) ∧ (fo_z (Gm_z R n f X) 729 (1000000, 0, 0, 0)).1 ≤ 1000000 ∧ ((fo_z (Gm_z R n f X) 729 (1000000, 0, 0, 0)).1 ≠ 1000000 → s'.1 97 0 = nI (fo_z (Gm_z R n f X) 729 (1000000, 0, 0, 0)).2.1 ∧ s'.1 97 1 = nI (fo_z (Gm_z R n f X) 729 (1000000, 0, 0, 0)).2.2.1 ∧ s'.1 97 2 = nI (fo_z (Gm_z R n f X) 729 (1000000, 0, 0, 0)).2.2.2) := by
  have hn8 := iv.n8
  generalize hS0 : ((1000000, 0, 0, 0) : Sf_z) = S0
  have hS01 : S0.1 = 1000000 := by rw [← hS0]
  have L := loopI2_z (F_X6_few_L38 (nI X) kk) (fun code x t => x = nI (fo_z (Gm_z R n f X) code S0).1 ∧ t.2 = s0.2 ∧ (∀ j, j ≠ 95 → j ≠ 96 → j ≠ 97 → t.1 j = s0.1 j) ∧ (fo_z (Gm_z R n f X) code S0).1 ≤ 1000000 ∧ ((fo_z (Gm_z R n f X) code S0).1 ≠ 1000000 → t.1 97 0 = nI (fo_z (Gm_z R n f X) code S0).2.1 ∧ t.1 97 1 = nI (fo_z (Gm_z R n f X) code S0).2.2.1 ∧ t.1 97 2 = nI (fo_z (Gm_z R n f X) code S0).2.2.2)) 729 (fun x t => kk x t) ?_ ?_ FU_ 0 1000000 s0 (Nat.zero_le _) (fu_lt_z (by omega)) ⟨by rw [fo_z, hS01]; rfl, rfl, fun _ _ _ _ => rfl, by rw [fo_z, hS01]; exact Nat.le_refl _, fun t => by rw [fo_z] at t; exact absurd hS01 t⟩
  · obtain ⟨x, t, ⟨p1, p2, p3, p4, p5⟩, et⟩ := L
    subst p1
    exact ⟨t, et, p2, p3, p4, p5⟩
  · intro q x t _
    rw [F_X6_few_L38, if_pos (by decide)]
  · intro code q x t hcode ⟨p1, p2, p3, p4, p5⟩
    subst p1
    have e729 : (729 : Int32) = nI 729 := rfl
    obtain ⟨τ, a1, a2, a3, b0, b1, b2⟩ := x6_ashBy_z (s := t) (code := code) (by rw [p3 91 (by omega) (by omega) (by omega)]; exact h91) iv hcode
    have d0 : dg0_z code ≤ 8 := by unfold dg0_z; omega
    have d1 : dg1_z code ≤ 8 := by unfold dg1_z; omega
    have d2 : dg2_z code ≤ 8 := by unfold dg2_z; omega
    rw [F_X6_few_L38, e729, if_neg (by rw [nI_le_z (by omega) (by omega)]; omega), a1, bi_some_z]
    simp only [nm_eq_z, nI_s_z]
    rw [b0, b1, b2, nI_add_z, nI_add_z]
    generalize hS : fo_z (Gm_z R n f X) code S0 = S at *
    have hfo : fo_z (Gm_z R n f X) (code + 1) S0 = Gm_z R n f X code S := by rw [fo_z, hS]
    rw [hfo]
    have hle : nI S.1 ≤ nI (dg0_z code + dg1_z code + dg2_z code) ↔ S.1 ≤ dg0_z code + dg1_z code + dg2_z code := nI_le_z (by omega) (by omega)
    unfold Gm_z
    -- does it do
    have noupd : ∀ (b : Bool), b = true → (if b = true then F_X6_few_L38 (nI X) kk q (nI S.1) (nI (code + 1)) τ else F_X6_few_L102 (nI (dg0_z code + dg1_z code + dg2_z code)) (fun x3_2 σ_5 => F_X6_few_L38 (nI X) kk q x3_2 (nI (code + 1)) σ_5) FU_ 0 τ) = F_X6_few_L38 (nI X) kk q (nI S.1) (nI (code + 1)) τ := fun b hb => if_pos hb
    have keep : ∀ j, j ≠ 95 → j ≠ 96 → j ≠ 97 → τ.1 j = s0.1 j := fun j h1 h2 h3 => by rw [a3 j h1 h2]; exact p3 j h1 h2 h3
    have k97 : τ.1 97 = t.1 97 := a3 97 (by omega) (by omega)
    by_cases v : vld_z R n f code = true
    · rw [if_pos v, if_pos v]
      have g0 : gns_z R 0 n (dg0_z code) ≤ 72 := gns_le_z iv (by unfold vld_z at v; simp only [Bool.and_eq_true, decide_eq_true_eq] at v; exact v.1.1)
      have g1 : gns_z R 1 n (dg1_z code) ≤ 72 := gns_le_z iv (by unfold vld_z at v; simp only [Bool.and_eq_true, decide_eq_true_eq] at v; exact v.1.2)
      have g2 : gns_z R 2 n (dg2_z code) ≤ 72 := gns_le_z iv (by unfold vld_z at v; simp only [Bool.and_eq_true, decide_eq_true_eq] at v; exact v.2)
      have hr := (sks_N_z iv 0 n (Nat.le_refl _)).2
      have hVb : skN_z R 0 n + (gns_z R 0 n (dg0_z code) + gns_z R 1 n (dg1_z code) + gns_z R 2 n (dg2_z code)) ≤ 300 := by omega
      unfold stp_z
      generalize skN_z R 0 n + (gns_z R 0 n (dg0_z code) + gns_z R 1 n (dg1_z code) + gns_z R 2 n (dg2_z code)) = V at *
      have hV : nI V < nI X ↔ V < X := nI_lt_z (by omega) (by omega)
      by_cases c1 : V < X
      · rw [if_pos (hV.mpr c1), if_neg (by omega), if_pos rfl]
        exact ⟨_, τ, ⟨rfl, by rw [a2, p2], keep, p4, fun z => by rw [k97]; exact p5 z⟩, noupd true rfl⟩
      · rw [if_neg (fun z => c1 (hV.mp z)), if_neg i_10_z]
        by_cases c2 : S.1 ≤ dg0_z code + dg1_z code + dg2_z code
        · rw [if_pos (hle.mpr c2), if_neg (by omega)]
          exact ⟨_, τ, ⟨rfl, by rw [a2, p2], keep, p4, fun z => by rw [k97]; exact p5 z⟩, noupd true rfl⟩
        · rw [if_neg (fun z => c2 (hle.mp z)), if_pos (by omega), if_neg (by decide), x6_few102_z]
          refine ⟨_, _, ⟨rfl, by rw [ma_2_z, a2, p2], fun j h1 h2 h3 => by rw [ma_ne_z _ _ h3]; exact keep j h1 h2 h3, by show dg0_z code + dg1_z code + dg2_z code ≤ 1000000; omega, fun _ => ⟨?_, ?_, ?_⟩⟩, rfl⟩
          · rw [ma_same_z, cp_lt_z _ _ (by omega)]; exact b0
          · rw [ma_same_z, cp_lt_z _ _ (by omega)]; exact b1
          · rw [ma_same_z, cp_lt_z _ _ (by omega)]; exact b2
    · rw [if_neg v, if_neg v]
      have hm1 : (-1 : Int32) < nI X := by rw [Int32.lt_iff_toInt_lt, nI_int_z (by omega), show (-1 : Int32).toInt = -1 from by decide]; omega
      rw [if_pos hm1, if_pos rfl]
      exact ⟨_, τ, ⟨rfl, by rw [a2, p2], keep, p4, fun z => by rw [k97]; exact p5 z⟩, noupd true rfl⟩
theorem x0_goes_z {σ : Me_} {R : Nat → Int32} {n f X : Nat} (iv : Iv_z R n f) (sr : Sr_z σ 1 8 R n f) (hX : X ≤ 72) : ∃ s', F_X4_goes σ (nI X) = some s' ∧ s'.2 = σ.2 ∧ (∀ j, j ≠ 73 → j ≠ 74 → (j < 78 ∨ 83 ≤ j) → s'.1 j = σ.1 j) ∧ Rf_z s' (fw0_z (Mf_z R n f) (fun h => gns_z R h n) (skN_z R 0 n) X (1000000, 0, 0, 0)) := by
  have hn8 := iv.n8
  have hf3 := iv.f3
  have m0 : (-1 : Int32) + 1 = 0 := by decide
  have hr := sks_N_z iv 0 n (Nat.le_refl _)
  unfold F_X4_goes F_X0_ashore
  rw [x1_at_z iv sr, bd_some_z, bd_some_z, m0, x1_skillOf_z iv sr, bd_some_z, hr.1, nm_eq_z]
  generalize hσ1 : me_set σ 78 4 (nI X - nI (skN_z R 0 n)) = σ1
  have o1 : ∀ j, j ≠ 78 → σ1.1 j = σ.1 j := fun j h => by rw [← hσ1]; exact ms_ne_z _ _ _ h
  have sr1 : Sr_z σ1 1 8 R n f := sr.congr (o1 _ (by omega)) (o1 _ (by omega)) (o1 _ (by omega)) (o1 _ (by omega)) (o1 _ (by omega)) (o1 _ (by omega))
  obtain ⟨τ, e1, e2, e3, st⟩ := x0_trial_z iv sr1 (T' := R) (fun _ _ => rfl)
  rw [e1, bd_some_z]
  have sr2 : Sr_z τ 1 8 R n f := sr1.congr (e3 _ (by omega) (by omega)) (e3 _ (by omega) (by omega)) (e3 _ (by omega) (by omega)) (e3 _ (by omega) (by omega)) (e3 _ (by omega) (by omega)) (e3 _ (by omega) (by omega))
  rw [nm_eq_z]
  obtain ⟨t, g1, g2, g3, g4, g5⟩ := x4_g45_z iv sr2 st (fun σ_3 => nm_ (α := Me_) (me_set σ_3 78 5 (1000000 : Int32)) fun σ_4 => Option.bind (F_X4_tries 5 σ_4 (0 : Int32) (0 : Int32) (0 : Int32)) fun σ_5 => some σ_5)
  rw [g1, nm_eq_z]
  have t78 : t.1 78 4 = nI X - nI (skN_z R 0 n) := by rw [g3 78 (by omega) (by omega) (by omega) (by omega), e3 78 (by omega) (by omega), ← hσ1, ms_same_z, upd_same_z]
  have hZ : Zt_z t (me_set t 78 5 1000000) (Mf_z R n f) (fun h => gns_z R h n) := ⟨rfl, fun j h _ _ => ms_ne_z _ _ _ h, by rw [ms_same_z, upd_ne_z _ _ (by omega)], g4, g5⟩
  have hR : Rf_z (me_set t 78 5 1000000) (1000000, 0, 0, 0) := ⟨by rw [ms_same_z, upd_same_z]; rfl, Nat.le_refl _, fun h => absurd rfl h⟩
  obtain ⟨s', a1, a2, a3⟩ := x4_tries_z (r := skN_z R 0 n) (X := X) (fun h _ => Mf_le_z hn8) (fun h _ k hk => by have := gns_le_z iv hk; omega) hZ hR (fun g hg => by
    rw [t78, Int32.lt_iff_toInt_lt, nI_int_z (by omega)]
    have : (nI X - nI (skN_z R 0 n)).toInt = (X : Int) - skN_z R 0 n := by
      rw [Int32.toInt_sub, nI_int_z (by omega), nI_int_z (by omega), Int.bmod_eq_of_le] <;> omega
    rw [this]; omega)
  rw [a1, bd_some_z]
  refine ⟨s', rfl, by rw [a2.s2, g2, e2, ← hσ1, ms_2_z], ?_, a3⟩
  intro j h1 h2 h3
  rw [a2.fr j (by omega) (by omega) (by omega), g3 j h1 h2 (by omega) (by omega), e3 j h1 h2, o1 j (by omega)]
theorem op_few_z {σ : Me_} (g : Rel_z σ) (x y : Int32) : Op_z σ (fun σ => F_X0_few σ x y) (fun σ => F_X6_few σ x y) := by
  obtain ⟨n, f, a, c, e, w, z⟩ := g.fu; have hn8 := z.iv.n8; have hf3 := z.iv.f3; have ha5 := z.a5; have hc6 := z.c6; have he6 := z.e6; have hw8 := z.w8; have i4 := z.sr.e4; have i1 := z.sr.e1; have t0 := z.iv.t0; have t1 := z.iv.t1; have r2 := z.r2; have r3 := z.r3; have r4 := z.r4; have r5 := z.r5; have q2 := z.q2; have q3 := z.q3; have q4 := z.q4; have q5 := z.q5
  by_cases h : F_X6_in x.toInt64 (1 : Int64) (72 : Int64) = 0
  · refine op_rf_z g 0 (by omega) (r := -10) ?_ ?_
    · show F_X0_few σ x y = _
      unfold F_X0_few
      simp only [in06_z, in_and_z, i_z1_z, x0_bad_z, x0_no_z, x0_full_z, x0_badAsk_z, x6_bad_z, x6_no_z, x6_full_z, bi_some_z, bd_some_z, nm_eq_z, F_X0_isKind, F_X6_isKind, F_X0_isSkill, F_X6_isSkill, F_X0_isFar, F_X6_isFar, F_X0_isLong, F_X0_isShip, F_X6_isShip, F_X0_isMan, F_X6_isMan, F_X6_many, rf0_ne_z _ _ (show 91 ≠ 76 by omega), rf0_ne_z _ _ (show 90 ≠ 76 by omega), h, if_true]
    · show F_X6_few _ x y = _
      unfold F_X6_few
      simp only [in06_z, in_and_z, i_z1_z, x0_bad_z, x0_no_z, x0_full_z, x0_badAsk_z, x6_bad_z, x6_no_z, x6_full_z, bi_some_z, bd_some_z, nm_eq_z, F_X0_isKind, F_X6_isKind, F_X0_isSkill, F_X6_isSkill, F_X0_isFar, F_X6_isFar, F_X0_isLong, F_X0_isShip, F_X6_isShip, F_X0_isMan, F_X6_isMan, F_X6_many, rf0_ne_z _ _ (show 91 ≠ 76 by omega), rf0_ne_z _ _ (show 90 ≠ 76 by omega), h, if_true]
  by_cases hp : y = -1 ∨ ¬ F_X6_in y.toInt64 (0 : Int64) ((nI f - 1 : Int32).toInt64) = 0
  · have hc0 : (if y = (-1 : Int32) then false else if F_X6_in y.toInt64 (0 : Int64) ((nI f - 1 : Int32).toInt64) = 0 then true else false) = false := by
      by_cases q : y = -1
      · rw [if_pos q]
      · rw [if_neg q]; cases hp with
        | inl u => exact absurd u q
        | inr u => rw [if_neg u]
    obtain ⟨X, hX1, hX2, eX⟩ := in_oka_z (a := 1) (b := 72) (by decide) (by decide) h
    subst eX
    obtain ⟨s', a1, a2, a3, a4⟩ := x0_goes_z z.iv z.sr (X := X) (by omega)
    rw [← Gm_fold_z hn8] at a4
    have k91 : s'.1 91 = σ.1 91 := a3 91 (by omega) (by omega) (by omega)
    obtain ⟨t, b1, b2, b3, b4, b5⟩ := x6_few38_z k91 z.iv hX1 (by omega) (fun (x3 : Int32) (σ_2 : Me_) => if x3 = (1000000 : Int32) then some ((-6 : Int32), σ_2) else if y = (-1 : Int32) then some (x3, σ_2) else if inb_ y 3 = true then some (σ_2.1 97 y.toNatClampNeg, σ_2) else none)
    generalize fo_z (Gm_z (σ.1 91) n f X) 729 (1000000, 0, 0, 0) = S at *
    have s1 : Same_z σ s' := ⟨a2, fun j q => a3 j (by omega) (by omega) (by omega), by rw [a3 90 (by omega) (by omega) (by omega)]⟩
    have s2 : Same_z s' t := ⟨b2, fun j q => b3 j (by omega) (by omega) (by omega), by rw [b3 90 (by omega) (by omega) (by omega)]⟩
    have hV : nI S.1 = 1000000 ↔ S.1 = 1000000 := by rw [nI_lit_z, nI_inj_z (by omega) (by omega)]
    have F0 : F_X0_few σ (nI X) y = if (s'.1 78 5) = (1000000 : Int32) then some ((-6 : Int32), s') else if y = (-1 : Int32) then some (s'.1 78 5, s') else if inb_ y 3 = true then some (s'.1 82 y.toNatClampNeg, s') else none := by
      unfold F_X0_few
      rw [a1]
      simp only [in06_z, in_and_z, F_X0_isShip, i1, h, if_false, hc0, nm_eq_z, Bool.false_eq_true, bd_some_z]
    have F6 : F_X6_few s' (nI X) y = if nI S.1 = (1000000 : Int32) then some ((-6 : Int32), t) else if y = (-1 : Int32) then some (nI S.1, t) else if inb_ y 3 = true then some (t.1 97 y.toNatClampNeg, t) else none := by
      unfold F_X6_few
      simp only [in_and_z, F_X6_isShip, k91, t1, h, if_false, hc0]
      rw [show (∀ (k : Bool → Option (Int32 × Me_)), nm_ false k = k false) from fun k => rfl, if_neg (by decide), nm_eq_z, b1]
    rw [a4.fw] at F0
    by_cases cV : S.1 = 1000000
    · refine op_ro_z g (r := -6) (σ1 := s') (σ2 := t) ?_ ?_ s1 s2
      · show F_X0_few σ (nI X) y = _
        rw [F0, if_pos (hV.mpr cV)]
      · show F_X6_few s' (nI X) y = _
        rw [F6, if_pos (hV.mpr cV)]
    · have nV : ¬ nI S.1 = 1000000 := fun u => cV (hV.mp u)
      by_cases cy : y = -1
      · refine op_ro_z g (r := nI S.1) (σ1 := s') (σ2 := t) ?_ ?_ s1 s2
        · show F_X0_few σ (nI X) y = _
          rw [F0, if_neg nV, if_pos cy]
        · show F_X6_few s' (nI X) y = _
          rw [F6, if_neg nV, if_pos cy]
      · have hy : ¬ F_X6_in y.toInt64 (0 : Int64) ((nI f - 1 : Int32).toInt64) = 0 := by
          cases hp with
          | inl u => exact absurd u cy
          | inr u => exact u
        obtain ⟨u, hu, eu⟩ := in_okn_z (by omega) hy
        subst eu
        have hb : inb_ (nI u) 3 = true := by rw [nI_inb_z (by omega)]; omega
        have heq : s'.1 82 u = t.1 97 u := by
          obtain ⟨c0, c1, c2⟩ := a4.fo_z cV
          obtain ⟨d0, d1, d2⟩ := b5 cV
          have : u = 0 ∨ u = 1 ∨ u = 2 := by omega
          rcases this with q | q | q
          · subst q; rw [c0, d0]
          · subst q; rw [c1, d1]
          · subst q; rw [c2, d2]
        refine op_ro_z g (r := s'.1 82 u) (σ1 := s') (σ2 := t) ?_ ?_ s1 s2
        · show F_X0_few σ (nI X) (nI u) = _
          rw [F0, if_neg nV, if_neg cy, if_pos hb, nI_nat_z (by omega)]
        · show F_X6_few s' (nI X) (nI u) = _
          rw [F6, if_neg nV, if_neg cy, if_pos hb, nI_nat_z (by omega), heq]
  · have hq1 : ¬ y = -1 := fun u => hp (Or.inl u)
    have hq2 : F_X6_in y.toInt64 (0 : Int64) ((nI f - 1 : Int32).toInt64) = 0 := Classical.byContradiction fun u => hp (Or.inr u)
    refine op_rf_z g 0 (by omega) (r := -10) ?_ ?_
    · show F_X0_few σ x y = _
      unfold F_X0_few
      simp only [in06_z, in_and_z, i_z1_z, x0_bad_z, x0_no_z, x0_full_z, x0_badAsk_z, x6_bad_z, x6_no_z, x6_full_z, bi_some_z, bd_some_z, nm_eq_z, F_X0_isKind, F_X6_isKind, F_X0_isSkill, F_X6_isSkill, F_X0_isFar, F_X6_isFar, F_X0_isLong, F_X0_isShip, F_X6_isShip, F_X0_isMan, F_X6_isMan, F_X6_many, rf0_ne_z _ _ (show 91 ≠ 76 by omega), rf0_ne_z _ _ (show 90 ≠ 76 by omega), h, if_false, i1, hq1, hq2, if_true]
    · show F_X6_few _ x y = _
      unfold F_X6_few
      simp only [in06_z, in_and_z, i_z1_z, x0_bad_z, x0_no_z, x0_full_z, x0_badAsk_z, x6_bad_z, x6_no_z, x6_full_z, bi_some_z, bd_some_z, nm_eq_z, F_X0_isKind, F_X6_isKind, F_X0_isSkill, F_X6_isSkill, F_X0_isFar, F_X6_isFar, F_X0_isLong, F_X0_isShip, F_X6_isShip, F_X0_isMan, F_X6_isMan, F_X6_many, rf0_ne_z _ _ (show 91 ≠ 76 by omega), rf0_ne_z _ _ (show 90 ≠ 76 by omega), h, if_false, t1, hq1, hq2, if_true]
