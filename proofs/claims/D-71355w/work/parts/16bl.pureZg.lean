set_option maxRecDepth 100000
set_option linter.unusedSimpArgs false
set_option linter.unusedVariables false

/-! PURE Zg: read -/
theorem pr_gt_z {a t b : Nat} {T : Nat → Int32} {n f : Nat} {r : Nat × (Nat → Int32) × Nat × Nat} (h : (.inr (b, T, n, f) : Pr_z) = .inr r) (g : a < b) (k : b ≤ t) : a < r.1 ∧ r.1 ≤ t := by
  rw [← Sum.inr.inj h]; exact ⟨g, k⟩
set_option maxHeartbeats 4000000 in
theorem itm_gt_z {X : Nat → Nat} {t a : Nat} {T : Nat → Int32} {n f : Nat} {r : Nat × (Nat → Int32) × Nat × Nat} (ha : a ≤ t) (hne : a ≠ t) (h : itm_z X t a T n f = .inr r) : a < r.1 ∧ r.1 ≤ t := by
  have h1 := nx_le_z (X := X) ha
  have h2 := nx_le_z (X := X) h1.1
  have h3 := nx_le_z (X := X) h2.1
  have h4 := nx_le_z (X := X) h3.1
  have h5 := h1.2.2 hne
  have g2 : a < nx_z X t (nx_z X t a) := Nat.lt_of_lt_of_le h5 h2.2.1
  have g3 : a < nx_z X t (nx_z X t (nx_z X t a)) := Nat.lt_of_lt_of_le g2 h3.2.1
  have g4 : a < nx_z X t (nx_z X t (nx_z X t (nx_z X t a))) := Nat.lt_of_lt_of_le g3 h4.2.1
  unfold itm_z at h
  split at h
  · split at h
    · exact (Sum.inl_ne_inr h).elim
    · split at h
      · exact pr_gt_z h g2 h2.1
      · exact (Sum.inl_ne_inr h).elim
  · split at h
    · split at h
      · exact (Sum.inl_ne_inr h).elim
      · split at h
        · split at h
          · split at h
            · exact pr_gt_z h g4 h4.1
            · exact (Sum.inl_ne_inr h).elim
          · exact (Sum.inl_ne_inr h).elim
        · exact (Sum.inl_ne_inr h).elim
    · split at h
      · split at h
        · exact pr_gt_z h g2 h2.1
        · exact (Sum.inl_ne_inr h).elim
      · split at h
        · split at h
          · split at h
            · exact pr_gt_z h g3 h3.1
            · exact (Sum.inl_ne_inr h).elim
          · exact (Sum.inl_ne_inr h).elim
        · exact (Sum.inl_ne_inr h).elim
abbrev Pz_z : Type := Nat ⊕ (Nat × (Nat → Int32) × Nat × Nat)
def prs_z (X : Nat → Nat) (t : Nat) : Nat → Nat → (Nat → Int32) → Nat → Nat → Nat → Pz_z
  | 0, _, _, _, _, _ => .inl 0
  | N + 1, a, T, n, f, k => if tkK_z X t a = 0 then .inr (k, T, n, f) else match itm_z X t a T n f with
    | .inl p => .inl p
    | .inr r => if tkK_z X t r.1 = 3 then prs_z X t N (nx_z X t r.1) r.2.1 r.2.2.1 r.2.2.2 (k + 1) else .inl r.1
theorem tkK_0_z {X : Nat → Nat} {t a : Nat} : tkK_z X t a = 0 ↔ a = t := by
  unfold tkK_z
  by_cases q : a = t
  · rw [if_pos q]; exact ⟨fun _ => q, fun _ => rfl⟩
  · rw [if_neg q]
    refine ⟨fun h => ?_, fun h => absurd h q⟩
    split at h
    · cases h
    · split at h
      · split at h <;> cases h
      · split at h <;> cases h
def LdR_z (s : Me_) (o : Option Ex_) : Pz_z → Prop
  | .inl p => ∃ s', o = some (.inr (nI p), s') ∧ FrL_z s s'
  | .inr r => ∃ s', o = some (.inl (nI r.1), s') ∧ FrL_z s s' ∧ Fa_z s' r.2.1 r.2.2.1 r.2.2.2
theorem LdR_z.tr {s s' : Me_} {o : Option Ex_} {r : Pz_z} (h : FrL_z s s') (k : LdR_z s' o r) : LdR_z s o r := by
  cases r with
  | inl p => obtain ⟨w, e, h1⟩ := k; exact ⟨w, e, h.trans h1⟩
  | inr p => obtain ⟨w, e, h1, h2⟩ := k; exact ⟨w, e, h.trans h1, h2⟩
theorem x3_loop_z {X : Nat → Nat} {t : Nat} : ∀ N a T n f k q (s : Me_), t - a < N → N ≤ q → Li_z s X t a T n f → s.1 77 4 = 1 → LdR_z s (F_X3_reads_L42 q (nI k) s) (prs_z X t N a T n f k) := by
  intro N
  induction N with
  | zero => intro a T n f k q s h; omega
  | succ N ih =>
    intro a T n f k q s hN hq z hb
    obtain ⟨q, rfl⟩ : ∃ r, q = r + 1 := ⟨q - 1, by omega⟩
    have hK := tkK_le_z X t a
    obtain ⟨_, _, k0, _⟩ := lbk_eq_z _ hK
    rw [F_X3_reads_L42, z.tk.tk, prs_z]
    by_cases c0 : tkK_z X t a = 0
    · rw [if_pos (k0.mpr c0), if_pos c0]; exact ⟨s, rfl, FrL_z.refl _, z.fa⟩
    · rw [if_neg (fun u => c0 (k0.mp u)), if_neg c0]
      have hi := x3_item_z z hb
      cases e : itm_z X t a T n f with
      | inl p =>
        rw [e] at hi
        obtain ⟨s', e1, e2⟩ := hi
        rw [e1, bt_inr_z]; exact ⟨s', rfl, e2⟩
      | inr r =>
        rw [e] at hi
        obtain ⟨s', e1, e2, e3, e4⟩ := hi
        have hgt := itm_gt_z z.le (fun u => c0 (tkK_0_z.mpr u)) e
        have hK' := tkK_le_z X t r.1
        obtain ⟨_, _, _, k3⟩ := lbk_eq_z _ hK'
        rw [e1, bt_inl_z, e4.tk.tk]
        simp only []
        by_cases c3 : tkK_z X t r.1 = 3
        · rw [if_pos (k3.mpr c3), if_pos c3, nm_eq_z, want1_z]
          obtain ⟨sa, a1, a2, a3, a4⟩ := x3_next_z e4
          rw [a1, bd_some_z, nm_eq_z, nI_s_z]
          have hnx := nx_le_z (X := X) e4.le
          exact (ih (nx_z X t r.1) r.2.1 r.2.2.1 r.2.2.2 (k + 1) q sa (by omega) (by omega) a4 (by rw [a3, e3]; exact hb)).tr (e2.trans a2)
        · rw [if_neg (fun u => c3 (k3.mp u)), if_neg c3, nm_eq_z, want0_z s' e4.tk.st]
          exact ⟨s', rfl, e2⟩
def MdR_z (s : Me_) (kk : Int32 → Me_ → Option (Int32 × Me_)) (o : Option (Int32 × Me_)) : Pz_z → Prop
  | .inl p => ∃ s', o = some (-10 - nI p, s') ∧ FrM_z s s'
  | .inr r => ∃ s', o = kk (nI r.1) s' ∧ FrM_z s s' ∧ s'.1 101 = r.2.1
theorem MdR_z.tr {s s' : Me_} {kk : Int32 → Me_ → Option (Int32 × Me_)} {o : Option (Int32 × Me_)} {r : Pz_z} (h : FrM_z s s') (k : MdR_z s' kk o r) : MdR_z s kk o r := by
  cases r with
  | inl p => obtain ⟨w, e, h1⟩ := k; exact ⟨w, e, h.trans h1⟩
  | inr p => obtain ⟨w, e, h1, h2⟩ := k; exact ⟨w, e, h.trans h1, h2⟩
theorem x6_loop_z {X : Nat → Nat} {t : Nat} (kk : Int32 → Me_ → Option (Int32 × Me_)) : ∀ N a T n f k q (s : Me_), t - a < N → N ≤ q → Mi_z s X t a T n f → MdR_z s kk (F_X6_read_L67 kk q (nI k) s) (prs_z X t N a T n f k) := by
  intro N
  induction N with
  | zero => intro a T n f k q s h; omega
  | succ N ih =>
    intro a T n f k q s hN hq z
    obtain ⟨q, rfl⟩ : ∃ r, q = r + 1 := ⟨q - 1, by omega⟩
    have hK := tkK_le_z X t a
    have k0 : nI (tkK_z X t a) = 0 ↔ tkK_z X t a = 0 := by rw [nI_lit_z, nI_inj_z (by omega) (by omega)]
    rw [F_X6_read_L67, z.mk.tk, prs_z]
    by_cases c0 : tkK_z X t a = 0
    · rw [if_pos (k0.mpr c0), if_pos c0]; exact ⟨s, rfl, FrM_z.refl _, z.an⟩
    · rw [if_neg (fun u => c0 (k0.mp u)), if_neg c0]
      have hi := x6_item_z z
      cases e : itm_z X t a T n f with
      | inl p =>
        rw [e] at hi
        obtain ⟨s', e1, e2, e3⟩ := hi
        rw [e1, bi_some_z, if_pos rfl, nm_eq_z, if_pos rfl, e3]; exact ⟨s', rfl, e2⟩
      | inr r =>
        rw [e] at hi
        obtain ⟨s', e1, e2, e4⟩ := hi
        have hgt := itm_gt_z z.le (fun u => c0 (tkK_0_z.mpr u)) e
        have hK' := tkK_le_z X t r.1
        have k3 : nI (tkK_z X t r.1) = 3 ↔ tkK_z X t r.1 = 3 := by rw [nI_lit_z, nI_inj_z (by omega) (by omega)]
        rw [e1, bi_some_z, if_neg i_10_z, e4.mk.tk]
        simp only []
        by_cases c3 : tkK_z X t r.1 = 3
        · rw [if_pos (k3.mpr c3), if_pos c3, nm_eq_z, if_neg (by decide)]
          obtain ⟨sa, a1, a2, a3, a4⟩ := x6_next_z e4
          rw [a1, bd_some_z, nm_eq_z, nI_s_z]
          have hnx := nx_le_z (X := X) e4.le
          exact (ih (nx_z X t r.1) r.2.1 r.2.2.1 r.2.2.2 (k + 1) q sa (by omega) (by omega) a4).tr (e2.trans a2)
        · rw [if_neg (fun u => c3 (k3.mp u)), if_neg c3, nm_eq_z, if_pos rfl, e4.mk.st]
          exact ⟨s', rfl, e2⟩
/-- the whole of a text -/
def rdz_z (X : Nat → Nat) (t : Nat) (T : Nat → Int32) : Pz_z := if wd_z X t (tkA_z X t 0) 0 = true then (if tkK_z X t (nx_z X t (tkA_z X t 0)) = 3 then prs_z X t 200 (nx_z X t (nx_z X t (tkA_z X t 0))) T 0 0 1 else .inl (nx_z X t (tkA_z X t 0))) else .inl (tkA_z X t 0)
theorem T0_iv_z (T : Nat → Int32) (h : ∀ i, i < 104 → T i = 0) : Iv_z T 0 0 := by
  have n0 : ∀ {P : Nat → Prop} (m : Nat), m < 0 → P m := fun m h => absurd h (Nat.not_lt_zero _)
  exact ⟨by omega, by omega, h 0 (by omega), h 1 (by omega), n0, n0, fun u hu _ => h _ (by omega), n0, n0, n0⟩
theorem x3_reads_z {s : Me_} {X : Nat → Nat} {t : Nat} {T : Nat → Int32} (h : Tx_z s X t) (hT : ∀ i, i < 104 → T i = 0) : LdR_z s (F_X3_reads s) (rdz_z X t T) := by
  have ht := h.le
  have hs : F_X1_begins s 36 = some (me_arr s 36 (upd (upd (upd (upd (upd (upd (s.1 36) 1 0) 4 0) 6 0) 8 0) 10 0) 13 0)) := by
    unfold F_X1_begins
    simp only [nm_eq_z, ms_arr_z, ma_same_z, ma_ma_z]
  unfold F_X3_reads
  rw [hs, bd_some_z, nm_eq_z, nm_eq_z]
  generalize hU : upd (upd (upd (upd (upd (upd (s.1 36) 1 0) 4 0) 6 0) 8 0) 10 0) 13 0 = U
  generalize hs3 : me_set (me_set (me_arr s 36 U) 77 0 0) 77 4 0 = s3
  have o3 : ∀ j, j ≠ 36 → j ≠ 77 → s3.1 j = s.1 j := fun j a b => by rw [← hs3, ms_ne_z _ _ _ b, ms_ne_z _ _ _ b, ma_ne_z _ _ a]
  have u3 : s3.1 36 = U := by rw [← hs3, ms_ne_z _ _ _ (by omega), ms_ne_z _ _ _ (by omega), ma_same_z]
  have f3 : FrL_z s s3 := ⟨by rw [← hs3]; rfl, fun j hj => o3 j (by omega) (by omega)⟩
  have n0 : ∀ {P : Nat → Prop} (m : Nat), m < 0 → P m := fun m h => absurd h (Nat.not_lt_zero _)
  have z3 : Fa_z s3 T 0 0 := ⟨T0_iv_z T hT, ⟨by rw [u3, ← hU]; rfl, by rw [u3, ← hU]; rfl, n0, n0, n0, n0, n0⟩, hT 2 (by omega), hT 3 (by omega), hT 4 (by omega), hT 5 (by omega), by rw [u3, ← hU]; rfl, by rw [u3, ← hU]; rfl, by rw [u3, ← hU]; rfl, by rw [u3, ← hU]; rfl⟩
  have b3 : s3.1 77 4 = 0 := by rw [← hs3, ms_same_z, upd_same_z]
  have a3 : s3.1 77 0 = nI 0 := by rw [← hs3, ms_same_z, upd_ne_z _ _ (by omega), ms_same_z, upd_same_z]; rfl
  have tx3 : Tx_z s3 X t := h.keep (o3 0 (by omega) (by omega)) (o3 75 (by omega) (by omega))
  obtain ⟨s4, c1, c2, c3, c4, c5⟩ := x3_scans_z tx3 (Nat.zero_le _) a3
  have f4 : FrL_z s3 s4 := ⟨c2, fun j hj => c3 j (by omega)⟩
  have hA0 := en_le_z (X := X) (P := pSp_z) (t := t) _ 0 rfl (Nat.zero_le _)
  have z4 : Li_z s4 X t (tkA_z X t 0) T 0 0 := ⟨tx3.keep (c3 0 (by omega)) (c3 75 (by omega)), c5, ⟨z3.iv, z3.sr.congr (c3 _ (by omega)) (c3 _ (by omega)) (c3 _ (by omega)) (c3 _ (by omega)) (c3 _ (by omega)) (c3 _ (by omega)), z3.z2, z3.z3, z3.z4, z3.z5, by rw [c3 36 (by omega)]; exact z3.y6, by rw [c3 36 (by omega)]; exact z3.y8, by rw [c3 36 (by omega)]; exact z3.ya, by rw [c3 36 (by omega)]; exact z3.yd⟩, hA0.2⟩
  have b4 : s4.1 77 4 = 0 := by rw [c4]; exact b3
  rw [c1, bd_some_z, c5.tk]
  unfold rdz_z
  generalize tkA_z X t 0 = A at *
  have hK := tkK_le_z X t A
  obtain ⟨_, _, k0, _⟩ := lbk_eq_z _ hK
  have w0 := x3_word_z z4.tx z4.tk z4.le (show 0 < 5 by omega)
  by_cases cE : tkK_z X t A = 0
  · rw [if_pos (k0.mpr cE), nm_eq_z, want0_z s4 c5.st, if_neg (by unfold wd_z; rw [cE, show decide (0 = 1) = false from rfl, Bool.false_and]; decide)]
    exact ⟨s4, rfl, f3.trans f4⟩
  · rw [if_neg (fun u => cE (k0.mp u)), nm_eq_z, want1_z]
    obtain ⟨Q, hQ⟩ : ∃ Q, FU_ = Q + 1 := ⟨99999, rfl⟩
    have hQ2 : 200 ≤ Q := by have : FU_ = 100000 := rfl; omega
    rw [hQ, F_X3_reads_L42, c5.tk, if_neg (fun u => cE (k0.mp u))]
    unfold F_X3_item
    rw [w0, bd_some_z, b4]
    by_cases cw : wd_z X t A 0 = true
    · rw [if_neg (fun u => (bI_z_z _).mp u cw), if_pos cw, if_pos rfl, nm_eq_z, want1_z, nm_eq_z]
      generalize hs5 : me_set s4 77 4 1 = s5
      have o5 : ∀ j, j ≠ 77 → s5.1 j = s4.1 j := fun j e => by rw [← hs5, ms_ne_z _ _ _ e]
      have g5 : ∀ k, k ≠ 4 → s5.1 77 k = s4.1 77 k := fun k e => by rw [← hs5, ms_same_z, upd_ne_z _ _ e]
      have f5 : FrL_z s4 s5 := ⟨by rw [← hs5]; rfl, fun j hj => o5 j (by omega)⟩
      have w := z4.fa
      have z5 : Li_z s5 X t A T 0 0 := ⟨z4.tx.keep (o5 0 (by omega)) (o5 75 (by omega)), ⟨by rw [g5 1 (by omega)]; exact c5.st, by rw [g5 0 (by omega)]; exact c5.aa, by rw [g5 2 (by omega)]; exact c5.tk, by rw [g5 3 (by omega)]; exact c5.vl⟩, ⟨w.iv, w.sr.congr (o5 _ (by omega)) (o5 _ (by omega)) (o5 _ (by omega)) (o5 _ (by omega)) (o5 _ (by omega)) (o5 _ (by omega)), w.z2, w.z3, w.z4, w.z5, by rw [o5 36 (by omega)]; exact w.y6, by rw [o5 36 (by omega)]; exact w.y8, by rw [o5 36 (by omega)]; exact w.ya, by rw [o5 36 (by omega)]; exact w.yd⟩, z4.le⟩
      obtain ⟨sa, a1, a2, a3', a4⟩ := x3_next_z z5
      have hK' := tkK_le_z X t (nx_z X t A)
      obtain ⟨_, _, _, k3⟩ := lbk_eq_z _ hK'
      have b5 : s5.1 77 4 = 1 := by rw [← hs5, ms_same_z, upd_same_z]
      rw [a1, bd_some_z, bt_inl_z, a4.tk.tk]
      by_cases c3' : tkK_z X t (nx_z X t A) = 3
      · rw [if_pos (k3.mpr c3'), if_pos c3', nm_eq_z, want1_z]
        obtain ⟨sb, d1, d2, d3, d4⟩ := x3_next_z a4
        rw [d1, bd_some_z, nm_eq_z]
        exact (x3_loop_z 200 _ T 0 0 1 Q sb (by omega) hQ2 d4 (by rw [d3, a3']; exact b5)).tr ((((f3.trans f4).trans f5).trans a2).trans d2)
      · rw [if_neg (fun u => c3' (k3.mp u)), if_neg c3', nm_eq_z, want0_z sa a4.tk.st]
        exact ⟨sa, rfl, ((f3.trans f4).trans f5).trans a2⟩
    · rw [if_pos ((bI_z_z _).mpr cw), if_neg cw, want0_z s4 c5.st, bt_inr_z]
      exact ⟨s4, rfl, f3.trans f4⟩
