set_option maxRecDepth 100000
set_option linter.unusedSimpArgs false
set_option linter.unusedVariables false

/-! PURE Xb: the fewest calls, LeftBehind's search -/
abbrev Sf_z : Type := Nat × Nat × Nat × Nat
def stp_z (G : Nat → Nat → Nat) (r X k0 k1 k2 : Nat) (S : Sf_z) : Sf_z := if X ≤ r + (G 0 k0 + G 1 k1 + G 2 k2) ∧ k0 + k1 + k2 < S.1 then (k0 + k1 + k2, k0, k1, k2) else S
def Zt_z (β s : Me_) (M : Nat → Nat) (G : Nat → Nat → Nat) : Prop :=
  (s.2 = β.2) ∧
  (∀ j, j ≠ 78 → j ≠ 81 → j ≠ 82 → s.1 j = β.1 j) ∧
  (s.1 78 4 = β.1 78 4) ∧
  (∀ h, h < 3 → β.1 80 h = nI (M h)) ∧
  (∀ h, h < 3 → ∀ k, k ≤ M h → β.1 79 (h * 9 + k) = nI (G h k))
theorem Zt_z.s2 {β s : Me_} {M : Nat → Nat} {G : Nat → Nat → Nat} (h : Zt_z β s M G) : s.2 = β.2 := h.1
theorem Zt_z.fr {β s : Me_} {M : Nat → Nat} {G : Nat → Nat → Nat} (h : Zt_z β s M G) : ∀ j, j ≠ 78 → j ≠ 81 → j ≠ 82 → s.1 j = β.1 j := h.2.1
theorem Zt_z.w4 {β s : Me_} {M : Nat → Nat} {G : Nat → Nat → Nat} (h : Zt_z β s M G) : s.1 78 4 = β.1 78 4 := h.2.2.1
theorem Zt_z.mo {β s : Me_} {M : Nat → Nat} {G : Nat → Nat → Nat} (h : Zt_z β s M G) : ∀ h, h < 3 → β.1 80 h = nI (M h) := h.2.2.2.1
theorem Zt_z.ga {β s : Me_} {M : Nat → Nat} {G : Nat → Nat → Nat} (h : Zt_z β s M G) : ∀ h, h < 3 → ∀ k, k ≤ M h → β.1 79 (h * 9 + k) = nI (G h k) := h.2.2.2.2
def Rf_z (s : Me_) (S : Sf_z) : Prop :=
  (s.1 78 5 = nI S.1) ∧
  (S.1 ≤ 1000000) ∧
  (S.1 ≠ 1000000 → s.1 82 0 = nI S.2.1 ∧ s.1 82 1 = nI S.2.2.1 ∧ s.1 82 2 = nI S.2.2.2)
theorem Rf_z.fw {s : Me_} {S : Sf_z} (h : Rf_z s S) : s.1 78 5 = nI S.1 := h.1
theorem Rf_z.le {s : Me_} {S : Sf_z} (h : Rf_z s S) : S.1 ≤ 1000000 := h.2.1
theorem Rf_z.fo_z {s : Me_} {S : Sf_z} (h : Rf_z s S) : S.1 ≠ 1000000 → s.1 82 0 = nI S.2.1 ∧ s.1 82 1 = nI S.2.2.1 ∧ s.1 82 2 = nI S.2.2.2 := h.2.2
theorem tr3_z {β s : Me_} {M : Nat → Nat} {G : Nat → Nat → Nat} {r X k0 k1 k2 D : Nat} {S : Sf_z} (z : Zt_z β s M G) (hs : Rf_z s S) (hW : ∀ g, g ≤ 300 → (nI g < β.1 78 4 ↔ r + g < X)) (e0 : s.1 81 0 = nI k0) (e1 : s.1 81 1 = nI k1) (e2 : s.1 81 2 = nI k2) (hk : k0 + k1 + k2 ≤ 30) (hg : G 0 k0 + G 1 k1 + G 2 k2 ≤ 300) : ∃ s', F_X4_tries (D + 1) s 3 (nI (k0 + k1 + k2)) (nI (G 0 k0 + G 1 k1 + G 2 k2)) = some s' ∧ Zt_z β s' M G ∧ Rf_z s' (stp_z G r X k0 k1 k2 S) ∧ (∀ i, s'.1 81 i = s.1 81 i) := by
  have hle := hs.le
  have hw := hW _ hg
  have hlt : (nI S.1 ≤ nI (k0 + k1 + k2)) ↔ S.1 ≤ k0 + k1 + k2 := nI_le_z (by omega) (by omega)
  rw [F_X4_tries, F_X4_triesB, if_pos rfl, z.w4, hs.fw]
  unfold stp_z
  by_cases c1 : r + (G 0 k0 + G 1 k1 + G 2 k2) < X
  · rw [if_pos (hw.mpr c1), nm_eq_z, if_pos rfl, if_neg (by omega)]
    exact ⟨s, rfl, z, hs, fun _ => rfl⟩
  · rw [if_neg (fun t => c1 (hw.mp t))]
    by_cases c2 : S.1 ≤ k0 + k1 + k2
    · rw [if_pos (hlt.mpr c2), nm_eq_z, if_pos rfl, if_neg (by omega)]
      exact ⟨s, rfl, z, hs, fun _ => rfl⟩
    · rw [if_neg (fun t => c2 (hlt.mp t)), nm_eq_z, if_neg (by decide), nm_eq_z, nm_eq_z, if_pos (by omega)]
      refine ⟨_, rfl, ⟨z.s2, ?_, ?_, z.mo, z.ga⟩, ⟨?_, by show k0 + k1 + k2 ≤ 1000000; omega, fun _ => ⟨?_, ?_, ?_⟩⟩, ?_⟩
      · intro j h1 h2 h3; rw [ma_ne_z _ _ h3, ms_ne_z _ _ _ h1]; exact z.fr j h1 h2 h3
      · rw [ma_ne_z _ _ (by omega), ms_same_z, upd_ne_z _ _ (by omega)]; exact z.w4
      · rw [ma_ne_z _ _ (by omega), ms_same_z, upd_same_z]
      · rw [ma_same_z, cp_lt_z _ _ (by omega), ms_ne_z _ _ _ (by omega)]; exact e0
      · rw [ma_same_z, cp_lt_z _ _ (by omega), ms_ne_z _ _ _ (by omega)]; exact e1
      · rw [ma_same_z, cp_lt_z _ _ (by omega), ms_ne_z _ _ _ (by omega)]; exact e2
      · intro i; rw [ma_ne_z _ _ (by omega), ms_ne_z _ _ _ (by omega)]
theorem trL_z {β : Me_} {M : Nat → Nat} {G : Nat → Nat → Nat} {h c g : Nat} (hh : h < 3) (rec : Me_ → Int32 → Int32 → Int32 → Option Me_) (Fk : Nat → Sf_z → Sf_z) (ks : Nat → Nat) (hM : M h ≤ 8)
    (hr : ∀ k, k ≤ M h → ∀ (s : Me_) (S : Sf_z), Zt_z β s M G → Rf_z s S → (∀ i, i < h → s.1 81 i = nI (ks i)) → s.1 81 h = nI k → ∃ s', rec s (nI (h + 1)) (nI (c + k)) (nI (g + G h k)) = some s' ∧ Zt_z β s' M G ∧ Rf_z s' (Fk k S) ∧ (∀ i, i < h + 1 → s'.1 81 i = s.1 81 i)) :
    ∀ (s : Me_) (S : Sf_z), Zt_z β s M G → Rf_z s S → (∀ i, i < h → s.1 81 i = nI (ks i)) → ∃ s', F_X4_triesB rec s (nI h) (nI c) (nI g) = some s' ∧ Zt_z β s' M G ∧ Rf_z s' (fo_z Fk (M h + 1) S) ∧ (∀ i, i < h → s'.1 81 i = s.1 81 i) := by
  intro s S z hs hk0
  have h3 : ¬ nI h = 3 := by rw [nI_lit_z, nI_inj_z (by omega) (by omega)]; omega
  rw [F_X4_triesB, if_neg h3]
  have L := loopI_z (F_X4_tries_L44 rec (nI h) (nI c) (nI g)) (fun k t => Zt_z β t M G ∧ Rf_z t (fo_z Fk k S) ∧ (∀ i, i < h → t.1 81 i = s.1 81 i)) (M h + 1) (fun t => some t) ?_ ?_ FU_ 0 s (Nat.zero_le _) (fu_lt_z (by omega)) ⟨z, hs, fun _ _ => rfl⟩
  · obtain ⟨t, ⟨p1, p2, p3⟩, et⟩ := L
    exact ⟨t, et, p1, p2, p3⟩
  · intro q t ⟨p1, _, _⟩
    rw [F_X4_tries_L44, if_pos (by rw [nI_inb_z (by omega)]; omega), nI_nat_z (by omega), p1.fr 80 (by omega) (by omega) (by omega), p1.mo h hh, if_pos (by rw [nI_lt_z (by omega) (by omega)]; omega)]
  · intro k q t hk ⟨p1, p2, p3⟩
    have e9 : nI h * 9 = nI (h * 9) := nI_mul_z h 9
    have p1' : Zt_z β (me_set t 81 h (nI k)) M G := ⟨p1.s2, fun j a b d => by rw [ms_ne_z _ _ _ b]; exact p1.fr j a b d, by rw [ms_ne_z _ _ _ (by omega)]; exact p1.w4, p1.mo, p1.ga⟩
    have p2' : Rf_z (me_set t 81 h (nI k)) (fo_z Fk k S) := ⟨by rw [ms_ne_z _ _ _ (by omega)]; exact p2.fw, p2.le, fun a => by rw [ms_ne_z _ _ _ (by omega)]; exact p2.fo_z a⟩
    obtain ⟨t', b1, b2, b3, b4⟩ := hr k (by omega) (me_set t 81 h (nI k)) (fo_z Fk k S) p1' p2' (fun i hi => by rw [ms_same_z, upd_ne_z _ _ (by omega), p3 i hi, hk0 i hi]) (by rw [ms_same_z, upd_same_z])
    refine ⟨t', ⟨b2, b3, fun i hi => by rw [b4 i (by omega), ms_same_z, upd_ne_z _ _ (by omega), p3 i hi]⟩, ?_⟩
    rw [F_X4_tries_L44, if_pos (by rw [nI_inb_z (by omega)]; omega), nI_nat_z (by omega), p1.fr 80 (by omega) (by omega) (by omega), p1.mo h hh, if_neg (by rw [nI_lt_z (by omega) (by omega)]; omega), if_pos (by rw [nI_inb_z (by omega)]; omega), nm_eq_z, e9, nI_add_z, if_pos (by rw [nI_inb_z (by omega)]; omega), nI_nat_z (by omega), p1'.fr 79 (by omega) (by omega) (by omega), p1.ga h hh k (by omega), nI_s_z, nI_add_z, nI_add_z, b1, bd_some_z, nm_eq_z, nI_s_z]
def fw0_z (M : Nat → Nat) (G : Nat → Nat → Nat) (r X : Nat) : Sf_z → Sf_z := fo_z (fun k0 => fo_z (fun k1 => fo_z (fun k2 => stp_z G r X k0 k1 k2) (M 2 + 1)) (M 1 + 1)) (M 0 + 1)
theorem x4_tries_z {β s : Me_} {M : Nat → Nat} {G : Nat → Nat → Nat} {r X : Nat} {S : Sf_z} (hM : ∀ h, h < 3 → M h ≤ 8) (hG : ∀ h, h < 3 → ∀ k, k ≤ M h → G h k ≤ 100) (z : Zt_z β s M G) (hs : Rf_z s S) (hW : ∀ g, g ≤ 300 → (nI g < β.1 78 4 ↔ r + g < X)) : ∃ s', F_X4_tries 5 s 0 0 0 = some s' ∧ Zt_z β s' M G ∧ Rf_z s' (fw0_z M G r X S) := by
  have l2 : ∀ k0 k1, k0 ≤ M 0 → k1 ≤ M 1 → ∀ (s : Me_) (S : Sf_z), Zt_z β s M G → Rf_z s S → (∀ i, i < 2 → s.1 81 i = nI (if i = 0 then k0 else k1)) → ∃ s', F_X4_tries 3 s (nI 2) (nI (k0 + k1)) (nI (G 0 k0 + G 1 k1)) = some s' ∧ Zt_z β s' M G ∧ Rf_z s' (fo_z (fun k2 => stp_z G r X k0 k1 k2) (M 2 + 1) S) ∧ (∀ i, i < 2 → s'.1 81 i = s.1 81 i) := by
    intro k0 k1 h0 h1
    have m0 := hM 0 (by omega); have m1 := hM 1 (by omega); have m2 := hM 2 (by omega)
    refine trL_z (h := 2) (c := k0 + k1) (g := G 0 k0 + G 1 k1) (by omega) (F_X4_tries 2) (fun k2 => stp_z G r X k0 k1 k2) (fun i => if i = 0 then k0 else k1) m2 ?_
    intro k2 hk2 s S z hs hp hk
    have g0 := hG 0 (by omega) k0 h0; have g1 := hG 1 (by omega) k1 h1; have g2 := hG 2 (by omega) k2 hk2
    obtain ⟨s', a1, a2, a3, a4⟩ := tr3_z (D := 1) (k0 := k0) (k1 := k1) (k2 := k2) z hs hW (hp 0 (by omega)) (hp 1 (by omega)) hk (by omega) (by omega)
    exact ⟨s', a1, a2, a3, fun i _ => a4 i⟩
  have l1 : ∀ k0, k0 ≤ M 0 → ∀ (s : Me_) (S : Sf_z), Zt_z β s M G → Rf_z s S → (∀ i, i < 1 → s.1 81 i = nI k0) → ∃ s', F_X4_tries 4 s (nI 1) (nI k0) (nI (G 0 k0)) = some s' ∧ Zt_z β s' M G ∧ Rf_z s' (fo_z (fun k1 => fo_z (fun k2 => stp_z G r X k0 k1 k2) (M 2 + 1)) (M 1 + 1) S) ∧ (∀ i, i < 1 → s'.1 81 i = s.1 81 i) := by
    intro k0 h0
    refine trL_z (h := 1) (c := k0) (g := G 0 k0) (by omega) (F_X4_tries 3) (fun k1 => fo_z (fun k2 => stp_z G r X k0 k1 k2) (M 2 + 1)) (fun _ => k0) (hM 1 (by omega)) ?_
    intro k1 hk1 s S z hs hp hk
    exact l2 k0 k1 h0 hk1 s S z hs (fun i hi => by
      by_cases q : i = 0
      · subst q; rw [if_pos rfl]; exact hp 0 (by omega)
      · have : i = 1 := by omega
        subst this; rw [if_neg q]; exact hk)
  have l0 := trL_z (h := 0) (c := 0) (g := 0) (β := β) (M := M) (G := G) (by omega) (F_X4_tries 4) (fun k0 => fo_z (fun k1 => fo_z (fun k2 => stp_z G r X k0 k1 k2) (M 2 + 1)) (M 1 + 1)) (fun _ => 0) (hM 0 (by omega)) (by
    intro k0 hk0 s S z hs hp hk
    have := l1 k0 hk0 s S z hs (fun i hi => by
      have : i = 0 := by omega
      subst this; exact hk)
    simp only [Nat.zero_add]
    exact this) s S z hs (fun i hi => absurd hi (Nat.not_lt_zero _))
  obtain ⟨s', a1, a2, a3, _⟩ := l0
  exact ⟨s', a1, a2, a3⟩
