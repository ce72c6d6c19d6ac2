set_option maxRecDepth 100000
set_option linter.unusedSimpArgs false
set_option linter.unusedVariables false

/-! PURE Yc: crews, the model's side -/
theorem nI_d4_z {c : Nat} (hc : c < 1000000) : nI c / 4 = nI (c / 4) ∧ nI c - nI c / 4 * 4 = nI (c % 4) := by
  have e4 : (4 : Int32) = nI 4 := rfl
  have hle : c / 4 ≤ c := Nat.div_le_self c 4
  have e : nI c / nI 4 = nI (c / 4) := by
    apply Int32.toInt_inj.mp
    rw [nI_int_z (by omega), Int32.toInt_div_of_ne_right]
    · rw [nI_int_z (by omega), nI_int_z (by omega), Int.ofNat_tdiv]
    · decide
  refine ⟨by rw [e4, e], ?_⟩
  rw [e4, e, nI_mul_z, nI_sub_z (Nat.div_mul_le_self c 4)]
  congr 1
  have := Nat.div_add_mod c 4
  rw [Nat.mul_comm] at this
  omega
def dgt_z : Nat → Nat → Nat → Nat
  | 0, _, _ => 0
  | k + 1, c, i => if i = k then c % 4 else dgt_z k (c / 4) i
def cwk_z : Nat → Nat → (Nat → Int32) → Nat → Int32
  | 0, _, T => T
  | k + 1, c, T => cwk_z k (c / 4) (upd T (6 + k) (if 0 < c % 4 then nI (c % 4) else T (6 + k)))
theorem rvl_congr_z {T T' : Nat → Int32} : ∀ k c i, T' (6 + i) = T (6 + i) → rvl_z T' k c i = rvl_z T k c i := by
  intro k
  induction k with
  | zero => intro c i h; exact h
  | succ k ih => intro c i h; rw [rvl_z, rvl_z, h, ih _ _ h]
theorem cwk_pl_z : ∀ k c (T : Nat → Int32) i, cwk_z k c T (6 + i) = rvl_z T k c i := by
  intro k
  induction k with
  | zero => intro c T i; rfl
  | succ k ih =>
    intro c T i
    rw [cwk_z, ih, rvl_z]
    by_cases q : i = k
    · subst q; rw [if_pos rfl, rvl_hi_z _ _ _ _ (Nat.le_refl _), upd_same_z]
    · rw [if_neg q]; exact rvl_congr_z _ _ _ (upd_ne_z _ _ (by omega))
theorem cwk_o_z : ∀ k c (T : Nat → Int32) j, k ≤ 8 → (j < 6 ∨ 14 ≤ j) → cwk_z k c T j = T j := by
  intro k
  induction k with
  | zero => intro c T j _ _; rfl
  | succ k ih => intro c T j hk hj; rw [cwk_z, ih _ _ _ (by omega) hj, upd_ne_z _ _ (by omega)]
theorem rvl_dgt_z {R : Nat → Int32} : ∀ k c i, i < k → rvl_z R k c i = if 0 < dgt_z k c i then nI (dgt_z k c i) else R (6 + i) := by
  intro k
  induction k with
  | zero => intro c i h; omega
  | succ k ih =>
    intro c i h
    rw [rvl_z, dgt_z]
    by_cases q : i = k
    · rw [if_pos q, if_pos q]
    · rw [if_neg q, if_neg q]; exact ih _ _ (by omega)
theorem pv_dgt_z {R : Nat → Int32} {f : Nat} : ∀ k c i, pv_z R f k c = true → i < k → R (6 + i) ≠ 0 → dgt_z k c i = 0 := by
  intro k
  induction k with
  | zero => intro c i _ h; omega
  | succ k ih =>
    intro c i hp h hn
    rw [pv_z, Bool.and_eq_true] at hp
    rw [dgt_z]
    by_cases q : i = k
    · subst q
      rw [if_pos rfl]
      have := hp.2
      unfold okd_z at this
      simp only [hn, Bool.or_eq_true, Bool.and_eq_true, decide_eq_true_eq, false_and, or_false] at this
      exact this
    · rw [if_neg q]; exact ih _ _ hp.1 (by omega) hn
theorem dgt_lt_z : ∀ k c i, dgt_z k c i < 4 := by
  intro k
  induction k with
  | zero => intro c i; exact (by decide : 0 < 4)
  | succ k ih =>
    intro c i; rw [dgt_z]; split
    · exact Nat.mod_lt _ (by omega)
    · exact ih _ _
theorem x6_cb14_z {R : Nat → Int32} {n f : Nat} (iv : Iv_z R n f) (kk : Me_ → Option (Int32 × Me_)) : ∀ k c q (s : Me_) (T : Nat → Int32), k ≤ n → k < q → c < 4 ^ k → s.1 91 = R → s.1 95 = T → ∃ s', F_X6_crewBy_L14 kk q (nI c) (nI k - 1) s = (if pv_z R f k c = true then kk s' else some (-1, s')) ∧ s'.2 = s.2 ∧ (∀ j, j ≠ 95 → j ≠ 98 → s'.1 j = s.1 j) ∧ (pv_z R f k c = true → s'.1 95 = cwk_z k c T ∧ ∀ i, i < k → s'.1 98 i = nI (dgt_z k c i)) ∧ (∀ i, k ≤ i → s'.1 98 i = s.1 98 i) := by
  have hn8 := iv.n8; have hf3 := iv.f3
  intro k
  induction k with
  | zero =>
    intro c q s T hk hq hc h91 h95
    obtain ⟨q, rfl⟩ : ∃ r, q = r + 1 := ⟨q - 1, by omega⟩
    refine ⟨s, ?_, rfl, fun _ _ _ => rfl, fun _ => ⟨h95, fun i hi => absurd hi (Nat.not_lt_zero _)⟩, fun _ _ => rfl⟩
    rw [F_X6_crewBy_L14, if_pos (show nI 0 - 1 < (0 : Int32) by decide)]; rfl
  | succ k ih =>
    intro c q s T hk hq hc h91 h95
    obtain ⟨q, rfl⟩ : ∃ r, q = r + 1 := ⟨q - 1, by omega⟩
    have hc8 : c < 1000000 := by
      have : 4 ^ (k + 1) ≤ 4 ^ 8 := Nat.pow_le_pow_right (by decide) (by omega)
      have : (4 : Nat) ^ 8 = 65536 := by decide
      omega
    obtain ⟨e1, e2⟩ := nI_d4_z hc8
    have ek : nI (k + 1) - 1 = nI k := by rw [← nI_s_z]; exact i_add1s_z _
    have e6 : (6 : Int32) + nI k = nI (6 + k) := nI_add_z 6 k
    have hb8 : inb_ (nI k) 8 = true := by rw [nI_inb_z (by omega)]; omega
    have hb36 : inb_ (nI (6 + k)) 36 = true := by rw [nI_inb_z (by omega)]; omega
    have hb192 : inb_ (nI (6 + k)) 192 = true := by rw [nI_inb_z (by omega)]; omega
    have hg4 : c % 4 < 4 := Nat.mod_lt _ (by omega)
    have hkm : nI k + (-1 : Int32) = nI k - 1 := by rw [Int32.sub_eq_add_neg]
    have hg0 : nI (c % 4) ≤ 0 ↔ c % 4 = 0 := by rw [nI_lit_z, nI_le_z (by omega) (by omega)]; omega
    have hgf : nI (c % 4) ≤ nI f ↔ c % 4 ≤ f := nI_le_z (by omega) (by omega)
    generalize hσ4 : me_set s 98 k (nI (c % 4)) = σ4
    have o4 : ∀ j, j ≠ 98 → σ4.1 j = s.1 j := fun j h => by rw [← hσ4]; exact ms_ne_z _ _ _ h
    have s98 : σ4.1 98 = upd (s.1 98) k (nI (c % 4)) := by rw [← hσ4]; exact ms_same_z _ _ _ _
    have g98 : σ4.1 98 k = nI (c % 4) := by rw [s98, upd_same_z]
    have t91 : σ4.1 91 = R := by rw [o4 91 (by omega)]; exact h91
    have t95 : σ4.1 95 = T := by rw [o4 95 (by omega)]; exact h95
    -- the man goes
    have hcont : ∀ v, v = (if 0 < c % 4 then nI (c % 4) else T (6 + k)) → okd_z R f k (c % 4) = true → ∃ s', F_X6_crewBy_L14 kk q (nI (c / 4)) (nI k - 1) (me_set σ4 95 (6 + k) v) = (if pv_z R f (k + 1) c = true then kk s' else some (-1, s')) ∧ s'.2 = s.2 ∧ (∀ j, j ≠ 95 → j ≠ 98 → s'.1 j = s.1 j) ∧ (pv_z R f (k + 1) c = true → s'.1 95 = cwk_z (k + 1) c T ∧ ∀ i, i < k + 1 → s'.1 98 i = nI (dgt_z (k + 1) c i)) ∧ (∀ i, k + 1 ≤ i → s'.1 98 i = s.1 98 i) := by
      intro v hv hok
      obtain ⟨s', a1, a2, a3, a4, a5⟩ := ih (c / 4) q (me_set σ4 95 (6 + k) v) (upd T (6 + k) v) (by omega) (by omega) (by rw [Nat.pow_succ] at hc; omega) (by rw [ms_ne_z _ _ _ (by omega)]; exact t91) (by rw [ms_same_z, t95])
      have hpe : pv_z R f (k + 1) c = pv_z R f k (c / 4) := by rw [pv_z, hok, Bool.and_true]
      refine ⟨s', ?_, ?_, ?_, ?_, ?_⟩
      · rw [hpe]; exact a1
      · rw [a2, ms_2_z, ← hσ4, ms_2_z]
      · intro j h1 h2; rw [a3 j h1 h2, ms_ne_z _ _ _ h1, o4 j h2]
      · intro hp; rw [hpe] at hp
        obtain ⟨b1, b2⟩ := a4 hp
        refine ⟨by rw [b1, cwk_z, hv], fun i hi => ?_⟩
        rw [dgt_z]
        by_cases e : i = k
        · rw [if_pos e, a5 i (by omega), ms_ne_z _ _ _ (by omega), e, g98]
        · rw [if_neg e]; exact b2 i (by omega)
      · intro i hi; rw [a5 i (by omega), ms_ne_z _ _ _ (by omega), s98, upd_ne_z _ _ (by omega)]
    -- or may not
    have hstop : okd_z R f k (c % 4) = false → ∃ s', (some (-1, σ4) : Option (Int32 × Me_)) = (if pv_z R f (k + 1) c = true then kk s' else some (-1, s')) ∧ s'.2 = s.2 ∧ (∀ j, j ≠ 95 → j ≠ 98 → s'.1 j = s.1 j) ∧ (pv_z R f (k + 1) c = true → s'.1 95 = cwk_z (k + 1) c T ∧ ∀ i, i < k + 1 → s'.1 98 i = nI (dgt_z (k + 1) c i)) ∧ (∀ i, k + 1 ≤ i → s'.1 98 i = s.1 98 i) := by
      intro hno
      have hpf : pv_z R f (k + 1) c = false := by rw [pv_z, hno, Bool.and_false]
      refine ⟨σ4, by rw [hpf, if_neg (by decide)], by rw [← hσ4, ms_2_z], fun j _ h2 => o4 j h2, fun h => (by rw [hpf] at h; cases h), fun i hi => by rw [s98, upd_ne_z _ _ (by omega)]⟩
    rw [F_X6_crewBy_L14, ek, if_neg (nI_nn_z (by omega)), if_pos hb8, e2, e1, nI_nat_z (by omega), nm_eq_z, hσ4, nm_eq_z, if_pos hb8, nm_eq_z, if_pos hb8, nm_eq_z, g98, e6, if_pos hb192, if_pos hb36, nI_nat_z (by omega), t91, t95, iv.t1, hkm]
    by_cases c0 : c % 4 = 0
    · rw [if_pos (hg0.mpr c0), if_pos (hg0.mpr c0)]
      simp only [hb36, if_true, nm_eq_z]
      exact hcont _ (by rw [if_neg (by omega)]) (by unfold okd_z; simp only [c0, decide_true, Bool.true_or])
    · have n0 : ¬ nI (c % 4) ≤ 0 := fun t => c0 (hg0.mp t)
      rw [if_neg n0]
      by_cases cf : R (6 + k) = 0
      · rw [if_pos cf, if_pos hb8]
        by_cases cg : c % 4 ≤ f
        · rw [if_pos (hgf.mpr cg), if_neg n0, if_pos hb8]
          simp only [hb36, if_true, nm_eq_z]
          exact hcont _ (by rw [if_pos (by omega)]) (by unfold okd_z; simp only [cf, cg, decide_true, Bool.and_self, Bool.or_true])
        · rw [if_neg (fun t => cg (hgf.mp t))]
          exact hstop (by unfold okd_z; simp only [c0, cg, decide_false, Bool.and_false, Bool.or_self])
      · rw [if_neg cf]
        exact hstop (by unfold okd_z; simp only [c0, cf, decide_false, Bool.false_and, Bool.or_self])
theorem x6_crewBy_z {s : Me_} {R : Nat → Int32} {n f d code : Nat} (iv : Iv_z R n f) (h91 : s.1 91 = R) (hc : code < 4 ^ n) : ∃ s', F_X6_crewBy s (nI code) (nI d) = some (if pv_z R f n code = true then nI (vlC_z R n d code f) else -1, s') ∧ s'.2 = s.2 ∧ (∀ j, j ≠ 95 → j ≠ 98 → s'.1 j = s.1 j) ∧ (pv_z R f n code = true → ∀ i, i < n → s'.1 98 i = nI (dgt_z n code i)) := by
  have hn8 := iv.n8; have hf3 := iv.f3
  have oT : ∀ i, i < 36 → hnd_z R (s.1 95) i = R i := fun i hi => hnd_lt_z _ _ hi
  unfold F_X6_crewBy F_X6_many
  rw [x6_layHand_z, h91, bd_some_z, nm_eq_z, nm_eq_z, ma_ne_z _ _ (show 91 ≠ 95 by omega), h91, iv.t0]
  obtain ⟨s', a1, a2, a3, a4, a5⟩ := x6_cb14_z iv (fun σ_2 => F_X6_crewBy_L126 (nI d) σ_2 FU_ 0 0) n code FU_ (me_arr s 95 (hnd_z R (s.1 95))) (hnd_z R (s.1 95)) (Nat.le_refl _) (fu_lt_z (by omega)) hc (by rw [ma_ne_z _ _ (by omega)]; exact h91) (ma_same_z _ _ _)
  rw [show cp_ R (s.1 95) 36 = hnd_z R (s.1 95) from rfl, a1]
  refine ⟨s', ?_, by rw [a2, ma_2_z], fun j h1 h2 => by rw [a3 j h1 h2, ma_ne_z _ _ h1], fun hp => (a4 hp).2⟩
  by_cases hp : pv_z R f n code = true
  · rw [if_pos hp, if_pos hp]
    have h95 := (a4 hp).1
    have k91 : s'.1 91 = R := by rw [a3 91 (by omega) (by omega), ma_ne_z _ _ (by omega)]; exact h91
    have oC : ∀ i, i < 36 → cwk_z n code (hnd_z R (s.1 95)) i = rwC_z R n code i := fun i hi => by
      by_cases q : 6 ≤ i ∧ i < 6 + n
      · obtain ⟨m, rfl⟩ : ∃ m, i = 6 + m := ⟨i - 6, by omega⟩
        rw [cwk_pl_z, rwC_pl_z _ _ _ (by omega)]; exact rvl_congr_z _ _ _ (oT _ hi)
      · have e1 : rwC_z R n code i = R i := if_neg q
        rw [e1, ← oT i hi]
        by_cases q2 : i < 6 ∨ 14 ≤ i
        · exact cwk_o_z _ _ _ _ hn8 q2
        · obtain ⟨m, rfl⟩ : ∃ m, i = 6 + m := ⟨i - 6, by omega⟩
          rw [cwk_pl_z, rvl_hi_z _ _ _ _ (by omega)]
    have ivC := (rwC_iv_z iv hp).congr oC
    refine loop2_z (F_X6_crewBy_L126 (nI d) s') (fun k => nI (vlC_z R n d code k)) (fun k => nI k) _ f ?_ ?_ FU_ 0 (Nat.zero_le _) (fu_lt_z (by omega))
    · intro q
      rw [F_X6_crewBy_L126, k91, iv.t1, if_pos (by rw [nI_le_z (by omega) (by omega)]; omega)]
    · intro k q hk
      rw [F_X6_crewBy_L126, k91, iv.t1, if_neg (by rw [nI_le_z (by omega) (by omega)]; omega), x6_canSail_z h95 ivC (by omega) hk, bd_some_z, canT_congr_z hn8 (by omega) oC]
      simp only [nm_eq_z, nI_s_z]
      rw [vlC_z]
      by_cases q : canT_z (rwC_z R n code) n k d = true
      · rw [if_neg (fun t => (bI_z_z _).mp t q), if_pos q, nI_s_z]
      · rw [if_pos ((bI_z_z _).mpr q), if_neg q, i_zadd_z]; rfl
  · rw [if_neg hp, if_neg hp]
def mSo_z : So_z → Int32
  | none => -1
  | some v => nI v.1
def bSo_z : So_z → Int32
  | none => 0
  | some v => nI v.2
theorem mSo_some_z (v : Nat × Nat) : mSo_z (some v) = nI v.1 := Eq.trans (Eq.refl (mSo_z (some v))) (Eq.refl (nI v.1))
theorem bSo_some_z (v : Nat × Nat) : bSo_z (some v) = nI v.2 := Eq.trans (Eq.refl (bSo_z (some v))) (Eq.refl (nI v.2))
theorem Gc_ok_z {R : Nat → Int32} {n f d : Nat} (hf : f ≤ 3) : ∀ k v, fo_z (Gc_z R n f d) k none = some v → v.1 ≤ 3 ∧ v.2 < k ∧ pv_z R f n v.2 = true := by
  intro k
  induction k with
  | zero => intro v h; cases h
  | succ k ih =>
    intro v h
    rw [fo_z] at h
    unfold Gc_z at h
    have hv := vlC_le_z R n d k f
    split at h
    · rename_i hp
      cases e : fo_z (Gc_z R n f d) k none with
      | none => unfold Gc_z at e; rw [e] at h; cases h; exact ⟨by show vlC_z R n d k f ≤ 3; omega, Nat.lt_succ_self _, hp⟩
      | some s =>
        have := ih s e
        unfold Gc_z at e; rw [e] at h
        unfold enS_z at h
        simp only [] at h
        split at h
        · cases h; exact ⟨this.1, by omega, this.2.2⟩
        · cases h; exact ⟨by show vlC_z R n d k f ≤ 3; omega, Nat.lt_succ_self _, hp⟩
    · have := ih v h; exact ⟨this.1, by omega, this.2.2⟩
theorem x6_cr60_z {s0 : Me_} {R : Nat → Int32} {n f d : Nat} (iv : Iv_z R n f) (h91 : s0.1 91 = R) (kk : Int32 → Int32 → Me_ → Option (Int32 × Me_)) : ∃ s', F_X6_crew_L60 (nI d) (nI (4 ^ n)) kk FU_ (-1) 0 0 s0 = kk (mSo_z (fo_z (Gc_z R n f d) (4 ^ n) none)) (bSo_z (fo_z (Gc_z R n f d) (4 ^ n) none)) s' ∧ s'.2 = s0.2 ∧ (∀ j, j ≠ 95 → j ≠ 98 → s'.1 j = s0.1 j) := by
  have hn8 := iv.n8; have hf3 := iv.f3
  have h48 : 4 ^ n ≤ 65536 := by
    have : 4 ^ n ≤ 4 ^ 8 := Nat.pow_le_pow_right (by decide) hn8
    have : (4 : Nat) ^ 8 = 65536 := by decide
    omega
  generalize hN : 4 ^ n = N at *
  have L := loopP_z (fun q (w : Int32 × Int32 × Int32 × Me_) => F_X6_crew_L60 (nI d) (nI N) kk q w.1 w.2.1 w.2.2.1 w.2.2.2) (fun k w => w.1 = mSo_z (fo_z (Gc_z R n f d) k none) ∧ w.2.1 = bSo_z (fo_z (Gc_z R n f d) k none) ∧ w.2.2.1 = nI k ∧ w.2.2.2.2 = s0.2 ∧ (∀ j, j ≠ 95 → j ≠ 98 → w.2.2.2.1 j = s0.1 j)) N (fun w => kk w.1 w.2.1 w.2.2.2) ?_ ?_ FU_ 0 (-1, 0, 0, s0) (Nat.zero_le _) (fu_lt_z (by omega)) ⟨rfl, rfl, rfl, rfl, fun _ _ _ => rfl⟩
  · obtain ⟨⟨x, y, i, t⟩, ⟨p1, p2, p3, p4, p5⟩, et⟩ := L
    simp only [] at p1 p2 p3 p4 p5
    refine ⟨t, ?_, p4, p5⟩
    rw [← p1, ← p2]; exact et
  · intro q w hw
    obtain ⟨x, y, i, t⟩ := w
    obtain ⟨p1, p2, p3, p4, p5⟩ := hw
    simp only [] at p1 p2 p3 p4 p5
    subst p3
    show F_X6_crew_L60 (nI d) (nI N) kk (q + 1) x y (nI N) t = kk x y t
    rw [F_X6_crew_L60, if_pos (i_le_refl_z _)]
  · intro k q w hk hw
    obtain ⟨x, y, i, t⟩ := w
    obtain ⟨p1, p2, p3, p4, p5⟩ := hw
    simp only [] at p1 p2 p3 p4 p5
    subst p3
    obtain ⟨t', a1, a2, a3, _⟩ := x6_crewBy_z (s := t) (d := d) (code := k) iv (by rw [p5 91 (by omega) (by omega)]; exact h91) (by rw [hN]; exact hk)
    have hv := vlC_le_z R n d k f
    have hm1 : (-1 : Int32).toInt = -1 := by decide
    have step : ∃ x' y', x' = mSo_z (fo_z (Gc_z R n f d) (k + 1) none) ∧ y' = bSo_z (fo_z (Gc_z R n f d) (k + 1) none) ∧ (if (if pv_z R f n k = true then nI (vlC_z R n d k f) else -1) ≤ x then y else nI k) = y' ∧ (if (if pv_z R f n k = true then nI (vlC_z R n d k f) else -1) ≤ x then x else (if pv_z R f n k = true then nI (vlC_z R n d k f) else -1)) = x' := by
      have hok := Gc_ok_z (R := R) (n := n) (d := d) hf3 k
      have hfo : fo_z (Gc_z R n f d) (k + 1) none = Gc_z R n f d k (fo_z (Gc_z R n f d) k none) := by rw [fo_z]
      rw [hfo]
      generalize fo_z (Gc_z R n f d) k none = S at *
      subst p1
      subst p2
      unfold Gc_z
      refine ⟨_, _, rfl, rfl, ?_⟩
      by_cases hp : pv_z R f n k = true
      · rw [if_pos hp, if_pos hp]
        cases S with
        | none =>
          have : ¬ nI (vlC_z R n d k f) ≤ mSo_z none := by
            show ¬ nI (vlC_z R n d k f) ≤ -1
            rw [Int32.le_iff_toInt_le, nI_int_z (by omega), hm1]; omega
          rw [if_neg this, if_neg this]; exact ⟨rfl, rfl⟩
        | some v =>
          have hg := hok v rfl
          have hle : nI (vlC_z R n d k f) ≤ mSo_z (some v) ↔ vlC_z R n d k f ≤ v.1 := by rw [mSo_some_z]; exact nI_le_z (by omega) (by omega)
          unfold enS_z
          simp only []
          by_cases c1 : vlC_z R n d k f ≤ v.1
          · rw [if_pos (hle.mpr c1), if_pos (hle.mpr c1), if_pos c1]; exact ⟨rfl, rfl⟩
          · rw [if_neg (fun t => c1 (hle.mp t)), if_neg (fun t => c1 (hle.mp t)), if_neg c1]; exact ⟨rfl, rfl⟩
      · rw [if_neg hp, if_neg hp]
        have hle : (-1 : Int32) ≤ mSo_z S := by
          cases S with
          | none => exact i_le_refl_z _
          | some v =>
            have hg := hok v rfl
            rw [mSo_some_z, Int32.le_iff_toInt_le, nI_int_z (by omega), hm1]; omega
        rw [if_pos hle, if_pos hle]; exact ⟨rfl, rfl⟩
    obtain ⟨x', y', h1, h2, h3, h4⟩ := step
    refine ⟨(x', y', nI (k + 1), t'), ⟨h1, h2, rfl, by show t'.2 = s0.2; rw [a2, p4], fun j e1 e2 => by show t'.1 j = s0.1 j; rw [a3 j e1 e2, p5 j e1 e2]⟩, ?_⟩
    show F_X6_crew_L60 (nI d) (nI N) kk (q + 1) x y (nI k) t = F_X6_crew_L60 (nI d) (nI N) kk q x' y' (nI (k + 1)) t'
    rw [F_X6_crew_L60, if_neg (by rw [nI_le_z (by omega) (by omega)]; omega), a1, bi_some_z]
    simp only [nm_eq_z, nI_s_z]
    rw [h3, h4]
