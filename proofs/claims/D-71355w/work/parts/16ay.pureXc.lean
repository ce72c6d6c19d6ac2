set_option maxRecDepth 100000
set_option linter.unusedSimpArgs false
set_option linter.unusedVariables false

/-! PURE Xc: the fewest calls, both sides -/
def Mf_z (R : Nat → Int32) (n f h : Nat) : Nat := if h < f then cnt_z R (nI (h + 1)) n else 0
def Th_z (R : Nat → Int32) (n f : Nat) : Nat → Nat → Int32
  | 0 => R
  | h + 1 => if h < f then itr_z (Th_z R n f h) h n (Mf_z R n f h) else Th_z R n f h
theorem Th_iv_z {R : Nat → Int32} {n f : Nat} (iv : Iv_z R n f) (h : Nat) : Iv_z (Th_z R n f h) n f := by
  induction h with
  | zero => exact iv
  | succ h ih =>
    rw [Th_z]; split
    · rename_i q; exact itr_iv_z ih q _
    · exact ih
theorem Th_ag_z {R : Nat → Int32} {n f : Nat} (hn : n ≤ 8) {u : Nat} (hu : u < 3) : ∀ h, h ≤ u → Ag_z u n R (Th_z R n f h) := by
  intro h
  induction h with
  | zero => intro _; exact Ag_z.refl _ _ _
  | succ h ih =>
    intro hq
    rw [Th_z]; split
    · exact (ih (by omega)).trans (itr_oth_z hu (by omega) (by omega) hn _)
    · exact ih (by omega)
theorem gns_le_z {R : Nat → Int32} {n f h k : Nat} (iv : Iv_z R n f) (hk : k ≤ Mf_z R n f h) : gns_z R h n k ≤ 72 := by
  have hn := iv.n8
  unfold Mf_z at hk
  by_cases q : h < f
  · have e := skN_itr_z iv q k
    have := (sks_N_z (itr_iv_z iv q k) 0 n (Nat.le_refl _)).2
    omega
  · rw [if_neg q] at hk
    have : k = 0 := by omega
    subst this; exact Nat.zero_le _
theorem Mf_le_z {R : Nat → Int32} {n f h : Nat} (hn : n ≤ 8) : Mf_z R n f h ≤ 8 := by
  unfold Mf_z; split
  · have := cnt_le_z R (nI (h + 1)) n; omega
  · omega
/-- gains of one ship -/
theorem x4_g110_z {s : Me_} {R : Nat → Int32} {n f h : Nat} (iv : Iv_z R n f) (hh : h < f) (sr : Sr_z s 1 72 (Th_z R n f h) n f) (m80 : s.1 80 h = nI (Mf_z R n f h)) (g0 : s.1 79 (h * 9) = nI 0) (kk : Me_ → Option Me_) : ∃ s', F_X4_goes_L110 (nI h) kk FU_ 1 s = kk s' ∧ s'.2 = s.2 ∧ (∀ j, j ≠ 73 → j ≠ 74 → j ≠ 79 → s'.1 j = s.1 j) ∧ (∀ i, (i < h * 9 ∨ h * 9 + 9 ≤ i) → s'.1 79 i = s.1 79 i) ∧ (∀ k, k ≤ Mf_z R n f h → s'.1 79 (h * 9 + k) = nI (gns_z R h n k)) ∧ Sr_z s' 1 72 (Th_z R n f (h + 1)) n f := by
  have hn8 := iv.n8
  have hf3 := iv.f3
  have hM := Mf_le_z (R := R) (f := f) (h := h) hn8
  have hMc : Mf_z R n f h = cnt_z R (nI (h + 1)) n := if_pos hh
  have ivT := Th_iv_z iv h
  have ag := Th_ag_z (R := R) (n := n) (f := f) hn8 (show h < 3 by omega) h (Nat.le_refl _)
  have L := loopI_z (F_X4_goes_L110 (nI h) kk) (fun k t => 1 ≤ k ∧ t.2 = s.2 ∧ (∀ j, j ≠ 73 → j ≠ 74 → j ≠ 79 → t.1 j = s.1 j) ∧ (∀ i, (i < h * 9 ∨ h * 9 + 9 ≤ i) → t.1 79 i = s.1 79 i) ∧ (∀ i, i < k → t.1 79 (h * 9 + i) = nI (gns_z R h n i)) ∧ Sr_z t 1 72 (itr_z (Th_z R n f h) h n (k - 1)) n f) (Mf_z R n f h + 1) (fun t => kk t) ?_ ?_ FU_ 1 s (by omega) (fu_lt_z (by omega)) ⟨by omega, rfl, fun _ _ _ _ => rfl, fun _ _ => rfl, fun i hi => by
      have : i = 0 := by omega
      subst this; exact g0, sr⟩
  · obtain ⟨t, ⟨_, p1, p2, p3, p4, p5⟩, et⟩ := L
    refine ⟨t, et, p1, p2, p3, fun k hk => p4 k (by omega), ?_⟩
    rw [Th_z, if_pos hh]
    rw [Nat.add_sub_cancel] at p5; exact p5
  · intro q t ⟨_, _, p2, _⟩
    rw [F_X4_goes_L110, if_pos (by rw [nI_inb_z (by omega)]; omega), nI_nat_z (by omega), p2 80 (by omega) (by omega) (by omega), m80, if_pos (by rw [nI_lt_z (by omega) (by omega)]; omega)]
  · intro k q t hk ⟨h1, p1, p2, p3, p4, p5⟩
    have ivk := itr_iv_z ivT hh (k - 1)
    have hcn : cnt_z (Th_z R n f h) (nI (h + 1)) n = Mf_z R n f h := by rw [hMc]; exact (cnt_ag_z ag n (Nat.le_refl _)).symm
    have hci := cnt_itr_z ivT hh (k - 1) (by omega)
    cases el : lst_z (itr_z (Th_z R n f h) h n (k - 1)) h n with
    | none => have := (lst_none_z _ _ _).mp el; omega
    | some m =>
      have hm := (lst_lt_z _ _ _ _ el).1
      have sk : (tcl_z t (itr_z (Th_z R n f h) h n (k - 1)) h n).1 4 m = (itr_z (Th_z R n f h) h n (k - 1)) (28 + m) := by
        rw [tcl_ne_z _ _ _ _ _ (by omega) (by omega)]; exact p5.sk m hm
      obtain ⟨v, _, hv9, ev⟩ := ivk.sk m hm
      have hg : gns_z R h n k = gns_z R h n (k - 1) + v := by
        obtain ⟨k', rfl⟩ : ∃ k', k = k' + 1 := ⟨k - 1, by omega⟩
        rw [Nat.add_sub_cancel] at el ev
        rw [gns_z, Nat.add_sub_cancel, gn1_ag_z (itr_ag_z ag (by omega) hn8 k')]
        unfold gn1_z; rw [el]; simp only []; rw [ev, nI_nat_z (by omega)]
      have e9 : nI h * 9 = nI (h * 9) := nI_mul_z h 9
      have e1 : nI (h * 9 + k) - 1 = nI (h * 9 + k - 1) := nI_sub_z (b := 1) (by omega)
      have g79 : t.1 79 (h * 9 + k - 1) = nI (gns_z R h n (k - 1)) := by rw [show h * 9 + k - 1 = h * 9 + (k - 1) by omega]; exact p4 (k - 1) (by omega)
      generalize ht : tcl_z t (itr_z (Th_z R n f h) h n (k - 1)) h n = t1 at sk
      have t1o : ∀ j, j ≠ 73 → j ≠ 74 → t1.1 j = t.1 j := fun j a b => by rw [← ht]; exact tcl_ne_z _ _ _ _ _ a b
      refine ⟨me_set t1 79 (h * 9 + k) (nI (gns_z R h n k)), ⟨by omega, ?_, ?_, ?_, ?_, ?_⟩, ?_⟩
      · rw [ms_2_z, ← ht, tcl_2_z, p1]
      · intro j a b d; rw [ms_ne_z _ _ _ d, t1o j a b]; exact p2 j a b d
      · intro i hi; rw [ms_same_z, upd_ne_z _ _ (by omega), t1o 79 (by omega) (by omega)]; exact p3 i hi
      · intro i hi; rw [ms_same_z]
        by_cases q : i = k
        · subst q; rw [upd_same_z]
        · rw [upd_ne_z _ _ (by omega), t1o 79 (by omega) (by omega)]; exact p4 i (by omega)
      · have hsr := tcl_sr_z ivk p5 hh
        rw [ht] at hsr
        have : itr_z (Th_z R n f h) h n (k + 1 - 1) = gcr_z (itr_z (Th_z R n f h) h n (k - 1)) h n := by
          obtain ⟨k', rfl⟩ : ∃ k', k = k' + 1 := ⟨k - 1, by omega⟩
          rw [Nat.add_sub_cancel, Nat.add_sub_cancel, itr_z]
        rw [this]
        exact hsr.congr (ms_ne_z _ _ _ (by omega)) (ms_ne_z _ _ _ (by omega)) (ms_ne_z _ _ _ (by omega)) (ms_ne_z _ _ _ (by omega)) (ms_ne_z _ _ _ (by omega)) (ms_ne_z _ _ _ (by omega))
      · rw [F_X4_goes_L110, if_pos (by rw [nI_inb_z (by omega)]; omega), nI_nat_z (by omega), p2 80 (by omega) (by omega) (by omega), m80, if_neg (by rw [nI_lt_z (by omega) (by omega)]; omega), e9, nI_add_z, e1, if_pos (by rw [nI_inb_z (by omega)]; omega), x1_calls_z ivk p5 hh el, bi_some_z, ← tcl_some_z el, ht, if_pos (by rw [nI_inb_z (by omega)]; omega), if_pos (by rw [nI_inb_z (by omega)]; omega), nI_nat_z (by omega), nI_nat_z (by omega), nI_nat_z (by omega), g79, sk, ev, nI_add_z, ← hg, nm_eq_z, nm_eq_z, nI_s_z]
theorem x4_g45_z {s0 : Me_} {R : Nat → Int32} {n f : Nat} (iv : Iv_z R n f) (sr8 : Sr_z s0 1 8 R n f) (sr : Sr_z s0 1 72 R n f) (kk : Me_ → Option Me_) : ∃ s', F_X4_goes_L45 kk FU_ 0 s0 = kk s' ∧ s'.2 = s0.2 ∧ (∀ j, j ≠ 73 → j ≠ 74 → j ≠ 79 → j ≠ 80 → s'.1 j = s0.1 j) ∧ (∀ h, h < 3 → s'.1 80 h = nI (Mf_z R n f h)) ∧ (∀ h, h < 3 → ∀ k, k ≤ Mf_z R n f h → s'.1 79 (h * 9 + k) = nI (gns_z R h n k)) := by
  have hn8 := iv.n8
  have hf3 := iv.f3
  have L := loopI_z (F_X4_goes_L45 kk) (fun h t => t.2 = s0.2 ∧ (∀ j, j ≠ 73 → j ≠ 74 → j ≠ 79 → j ≠ 80 → t.1 j = s0.1 j) ∧ (∀ u, u < h → t.1 80 u = nI (Mf_z R n f u)) ∧ (∀ u, u < h → ∀ k, k ≤ Mf_z R n f u → t.1 79 (u * 9 + k) = nI (gns_z R u n k)) ∧ Sr_z t 1 72 (Th_z R n f h) n f) 3 (fun t => kk t) ?_ ?_ FU_ 0 s0 (by omega) (fu_lt_z (by omega)) ⟨rfl, fun _ _ _ _ _ => rfl, fun u hu => absurd hu (Nat.not_lt_zero _), fun u hu => absurd hu (Nat.not_lt_zero _), sr⟩
  · obtain ⟨t, ⟨p1, p2, p3, p4, _⟩, et⟩ := L
    exact ⟨t, et, p1, p2, p3, p4⟩
  · intro q t _
    rw [F_X4_goes_L45, if_pos (by decide)]
  · intro h q t hh ⟨p1, p2, p3, p4, p5⟩
    have e3 : (3 : Int32) = nI 3 := rfl
    have e9 : nI h * 9 = nI (h * 9) := nI_mul_z h 9
    have hM := Mf_le_z (R := R) (f := f) (h := h) hn8
    -- the number of men
    have hv : (fun (kx : Int32 → Option Me_) => if t.1 1 1 ≤ nI h then kx 0 else Option.bind (F_X1_at t 1 8 (nI h)) fun r_3 => kx (F_J7_bitCount r_3)) = fun kx => kx (nI (Mf_z R n f h)) := by
      funext kx
      rw [p2 1 (by omega) (by omega) (by omega) (by omega), show s0.1 1 1 = nI f from sr.e1]
      have hle : nI f ≤ nI h ↔ f ≤ h := nI_le_z (by omega) (by omega)
      by_cases q : h < f
      · have s8 : Sr_z t 1 8 R n f := sr8.congr (p2 _ (by omega) (by omega) (by omega) (by omega)) (p2 _ (by omega) (by omega) (by omega) (by omega)) (p2 _ (by omega) (by omega) (by omega) (by omega)) (p2 _ (by omega) (by omega) (by omega) (by omega)) (p2 _ (by omega) (by omega) (by omega) (by omega)) (p2 _ (by omega) (by omega) (by omega) (by omega))
        rw [if_neg (fun t => by have := hle.mp t; omega), x1_at_z iv s8, bd_some_z, nI_s_z, bc_bst_z _ _ hn8]
        unfold Mf_z; rw [if_pos q]
      · rw [if_pos (hle.mpr (by omega))]
        unfold Mf_z; rw [if_neg q]; rfl
    generalize hs1 : me_set (me_set t 80 h (nI (Mf_z R n f h))) 79 (h * 9) 0 = t1
    have t1o : ∀ j, j ≠ 79 → j ≠ 80 → t1.1 j = t.1 j := fun j a b => by rw [← hs1, ms_ne_z _ _ _ a, ms_ne_z _ _ _ b]
    have t180 : t1.1 80 = upd (t.1 80) h (nI (Mf_z R n f h)) := by rw [← hs1, ms_ne_z _ _ _ (by omega), ms_same_z]
    have t179 : t1.1 79 = upd (t.1 79) (h * 9) 0 := by rw [← hs1, ms_same_z, ms_ne_z _ _ _ (by omega)]
    have p5' : Sr_z t1 1 72 (Th_z R n f h) n f := p5.congr (t1o _ (by omega) (by omega)) (t1o _ (by omega) (by omega)) (t1o _ (by omega) (by omega)) (t1o _ (by omega) (by omega)) (t1o _ (by omega) (by omega)) (t1o _ (by omega) (by omega))
    have hstep : F_X4_goes_L45 kk (q + 1) (nI h) t = F_X4_goes_L110 (nI h) (fun σ_9 => F_X4_goes_L45 kk q (nI (h + 1)) σ_9) FU_ 1 t1 := by
      rw [F_X4_goes_L45, if_neg (by rw [e3, nI_le_z (by omega) (by omega)]; omega)]
      have := congrFun hv (fun v => if inb_ (nI h) 3 = true then nm_ (α := Me_) (me_set t 80 (nI h).toNatClampNeg v) fun σ_7 => if inb_ (nI h * (9 : Int32)) 27 = true then nm_ (α := Me_) (me_set σ_7 79 (nI h * (9 : Int32)).toNatClampNeg (0 : Int32)) fun σ_8 => nm_ (fun (σ_9 : Me_) => nm_ (α := Int32) (nI h + (1 : Int32)) fun x2_1 => F_X4_goes_L45 kk q x2_1 σ_9) fun k180 => F_X4_goes_L110 (nI h) k180 FU_ (1 : Int32) σ_8 else none else none)
      rw [nm_eq_z]
      refine Eq.trans this ?_
      simp only [nm_eq_z]
      rw [if_pos (by rw [nI_inb_z (by omega)]; omega), e9, if_pos (by rw [nI_inb_z (by omega)]; omega), nI_nat_z (by omega), nI_nat_z (by omega), hs1, nI_s_z]
    have fin : ∃ t2, F_X4_goes_L110 (nI h) (fun σ_9 => F_X4_goes_L45 kk q (nI (h + 1)) σ_9) FU_ 1 t1 = F_X4_goes_L45 kk q (nI (h + 1)) t2 ∧ t2.2 = t1.2 ∧ (∀ j, j ≠ 73 → j ≠ 74 → j ≠ 79 → t2.1 j = t1.1 j) ∧ (∀ i, (i < h * 9 ∨ h * 9 + 9 ≤ i) → t2.1 79 i = t1.1 79 i) ∧ (∀ k, k ≤ Mf_z R n f h → t2.1 79 (h * 9 + k) = nI (gns_z R h n k)) ∧ Sr_z t2 1 72 (Th_z R n f (h + 1)) n f := by
      by_cases q2 : h < f
      · exact x4_g110_z iv q2 p5' (by rw [t180, upd_same_z]) (by rw [t179, upd_same_z]; rfl) (fun σ_9 => F_X4_goes_L45 kk q (nI (h + 1)) σ_9)
      · have m0 : Mf_z R n f h = 0 := if_neg q2
        obtain ⟨Q, hQ⟩ : ∃ Q, FU_ = Q + 1 := ⟨99999, rfl⟩
        refine ⟨t1, ?_, rfl, fun _ _ _ _ => rfl, fun _ _ => rfl, ?_, ?_⟩
        · rw [hQ, F_X4_goes_L110, if_pos (by rw [nI_inb_z (by omega)]; omega), nI_nat_z (by omega), t180, upd_same_z, m0, if_pos (by decide)]
        · intro k hk
          have : k = 0 := by omega
          subst this; rw [t179, Nat.add_zero, upd_same_z]; rfl
        · rw [Th_z, if_neg q2]; exact p5'
    obtain ⟨t2, f1, f2, f3, f4, f5, f6⟩ := fin
    refine ⟨t2, ⟨by rw [f2, ← hs1, ms_2_z, ms_2_z, p1], ?_, ?_, ?_, f6⟩, by rw [hstep, f1]⟩
    · intro j a b c d; rw [f3 j a b c, t1o j c d]; exact p2 j a b c d
    · intro u hu; rw [f3 80 (by omega) (by omega) (by omega), t180]
      by_cases q : u = h
      · subst q; rw [upd_same_z]
      · rw [upd_ne_z _ _ q]; exact p3 u (by omega)
    · intro u hu k hk
      by_cases q : u = h
      · subst q; exact f5 k hk
      · have := Mf_le_z (R := R) (f := f) (h := u) hn8
        rw [f4 _ (by omega), t179, upd_ne_z _ _ (by omega)]; exact p4 u (by omega) k hk
