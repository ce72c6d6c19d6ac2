set_option maxRecDepth 100000
set_option linter.unusedSimpArgs false
set_option linter.unusedVariables false

/-! PURE Zd: an island that lies aside -/
def Fa_z (s : Me_) (T : Nat → Int32) (n f : Nat) : Prop :=
  (Iv_z T n f) ∧
  (Sr_z s 36 43 T n f) ∧
  (T 2 = 0) ∧
  (T 3 = 0) ∧
  (T 4 = 0) ∧
  (T 5 = 0) ∧
  (s.1 36 6 = 0) ∧
  (s.1 36 8 = 0) ∧
  (s.1 36 10 = 0) ∧
  (s.1 36 13 = 0)
theorem Fa_z.iv {s : Me_} {T : Nat → Int32} {n f : Nat} (h : Fa_z s T n f) : Iv_z T n f := h.1
theorem Fa_z.sr {s : Me_} {T : Nat → Int32} {n f : Nat} (h : Fa_z s T n f) : Sr_z s 36 43 T n f := h.2.1
theorem Fa_z.z2 {s : Me_} {T : Nat → Int32} {n f : Nat} (h : Fa_z s T n f) : T 2 = 0 := h.2.2.1
theorem Fa_z.z3 {s : Me_} {T : Nat → Int32} {n f : Nat} (h : Fa_z s T n f) : T 3 = 0 := h.2.2.2.1
theorem Fa_z.z4 {s : Me_} {T : Nat → Int32} {n f : Nat} (h : Fa_z s T n f) : T 4 = 0 := h.2.2.2.2.1
theorem Fa_z.z5 {s : Me_} {T : Nat → Int32} {n f : Nat} (h : Fa_z s T n f) : T 5 = 0 := h.2.2.2.2.2.1
theorem Fa_z.y6 {s : Me_} {T : Nat → Int32} {n f : Nat} (h : Fa_z s T n f) : s.1 36 6 = 0 := h.2.2.2.2.2.2.1
theorem Fa_z.y8 {s : Me_} {T : Nat → Int32} {n f : Nat} (h : Fa_z s T n f) : s.1 36 8 = 0 := h.2.2.2.2.2.2.2.1
theorem Fa_z.ya {s : Me_} {T : Nat → Int32} {n f : Nat} (h : Fa_z s T n f) : s.1 36 10 = 0 := h.2.2.2.2.2.2.2.2.1
theorem Fa_z.yd {s : Me_} {T : Nat → Int32} {n f : Nat} (h : Fa_z s T n f) : s.1 36 13 = 0 := h.2.2.2.2.2.2.2.2.2
def shT_z (T : Nat → Int32) (f v : Nat) : Nat → Int32 := upd (upd T (17 + f) (nI v)) 1 (nI (f + 1))
def mnT_z (T : Nat → Int32) (n k s p : Nat) : Nat → Int32 := upd (upd (upd (upd T (20 + n) (nI k)) (28 + n) (nI s)) (6 + n) (nI p)) 0 (nI (n + 1))
theorem Iv_z.ship {T : Nat → Int32} {n f v : Nat} (iv : Iv_z T n f) (hf : f < 3) (hv : v < 6) : Iv_z (shT_z T f v) n (f + 1) := by
  have hn8 := iv.n8
  unfold shT_z
  refine ⟨hn8, by omega, ?_, ?_, ?_, ?_, ?_, ?_, ?_, ?_⟩
  · simp (disch := omega) only [ms_ne_z, ms_same_z, upd_ne_z, upd_same_z]; exact iv.t0
  · simp (disch := omega) only [ms_ne_z, ms_same_z, upd_ne_z, upd_same_z]
  · intro m hm; simp (disch := omega) only [ms_ne_z, ms_same_z, upd_ne_z, upd_same_z]; obtain ⟨p, hp, ep⟩ := iv.pl m hm; exact ⟨p, by omega, ep⟩
  · intro u hu; simp (disch := omega) only [ms_ne_z, ms_same_z, upd_ne_z, upd_same_z]; by_cases q : u = f
    · subst q; exact ⟨0, by omega, iv.cz u (by omega) (by omega)⟩
    · exact iv.cl u (by omega)
  · intro u hu hq; simp (disch := omega) only [ms_ne_z, ms_same_z, upd_ne_z, upd_same_z]; exact iv.cz u hu (by omega)
  · intro u hu; by_cases q : u = f
    · subst q; simp (disch := omega) only [ms_ne_z, ms_same_z, upd_ne_z, upd_same_z]; exact ⟨v, by omega, rfl⟩
    · simp (disch := omega) only [ms_ne_z, ms_same_z, upd_ne_z, upd_same_z]; exact iv.so u (by omega)
  · intro m hm; simp (disch := omega) only [ms_ne_z, ms_same_z, upd_ne_z, upd_same_z]; exact iv.kd m hm
  · intro m hm; simp (disch := omega) only [ms_ne_z, ms_same_z, upd_ne_z, upd_same_z]; exact iv.sk m hm
theorem Iv_z.man {T : Nat → Int32} {n f k s p : Nat} (iv : Iv_z T n f) (hn : n < 8) (hk : k < 6) (hs1 : 1 ≤ s) (hs : s < 10) (hp : p ≤ f) : Iv_z (mnT_z T n k s p) (n + 1) f := by
  have hf3 := iv.f3
  unfold mnT_z
  refine ⟨by omega, hf3, ?_, ?_, ?_, ?_, ?_, ?_, ?_, ?_⟩
  · simp (disch := omega) only [ms_ne_z, ms_same_z, upd_ne_z, upd_same_z]
  · simp (disch := omega) only [ms_ne_z, ms_same_z, upd_ne_z, upd_same_z]; exact iv.t1
  · intro m hm; by_cases q : m = n
    · subst q; simp (disch := omega) only [ms_ne_z, ms_same_z, upd_ne_z, upd_same_z]; exact ⟨p, hp, rfl⟩
    · simp (disch := omega) only [ms_ne_z, ms_same_z, upd_ne_z, upd_same_z]; exact iv.pl m (by omega)
  · intro u hu; simp (disch := omega) only [ms_ne_z, ms_same_z, upd_ne_z, upd_same_z]; exact iv.cl u hu
  · intro u hu hq; simp (disch := omega) only [ms_ne_z, ms_same_z, upd_ne_z, upd_same_z]; exact iv.cz u hu hq
  · intro u hu; simp (disch := omega) only [ms_ne_z, ms_same_z, upd_ne_z, upd_same_z]; exact iv.so u hu
  · intro m hm; by_cases q : m = n
    · subst q; simp (disch := omega) only [ms_ne_z, ms_same_z, upd_ne_z, upd_same_z]; exact ⟨k, hk, rfl⟩
    · simp (disch := omega) only [ms_ne_z, ms_same_z, upd_ne_z, upd_same_z]; exact iv.kd m (by omega)
  · intro m hm; by_cases q : m = n
    · subst q; simp (disch := omega) only [ms_ne_z, ms_same_z, upd_ne_z, upd_same_z]; exact ⟨s, hs1, by omega, rfl⟩
    · simp (disch := omega) only [ms_ne_z, ms_same_z, upd_ne_z, upd_same_z]; exact iv.sk m (by omega)
def FrL_z (s s' : Me_) : Prop := s'.2 = s.2 ∧ ∀ j, (j < 36 ∨ (71 ≤ j ∧ j ≠ 77)) → s'.1 j = s.1 j
theorem FrL_z.refl (s : Me_) : FrL_z s s := ⟨rfl, fun _ _ => rfl⟩
theorem FrL_z.trans {s s' s'' : Me_} (h : FrL_z s s') (k : FrL_z s' s'') : FrL_z s s'' := ⟨k.1.trans h.1, fun j q => (k.2 j q).trans (h.2 j q)⟩
theorem fa_ship_z {s : Me_} {T : Nat → Int32} {n f v : Nat} (z : Fa_z s T n f) (hf : f < 3) (hv : v < 6) : ∃ s', F_X1_launches s 36 (nI v) = some s' ∧ FrL_z s s' ∧ s'.1 77 = s.1 77 ∧ Fa_z s' (shT_z T f v) n (f + 1) := by
  have hn8 := z.iv.n8
  have sr := z.sr
  have i1 : s.1 36 1 = nI f := sr.e1
  have b1 : inb_ (nI v) 6 = true := by rw [nI_inb_z (by omega)]; omega
  have b2 : inb_ (nI f) 3 = true := by rw [nI_inb_z (by omega)]; omega
  generalize hs1 : me_set (me_set (me_set (me_set s (36 + 1) f (nI v)) (36 + 7 + 2) f 0) 36 1 (nI (f + 1))) 36 13 0 = s1
  have v36 : s1.1 36 = upd (upd (s.1 36) 1 (nI (f + 1))) 13 0 := by rw [← hs1]; simp (disch := omega) only [ms_ne_z, ms_same_z, upd_ne_z, upd_same_z]
  have v37 : s1.1 (36 + 1) = upd (s.1 (36 + 1)) f (nI v) := by rw [← hs1]; simp (disch := omega) only [ms_ne_z, ms_same_z, upd_ne_z, upd_same_z]
  have v45 : s1.1 (43 + 2) = upd (s.1 (43 + 2)) f 0 := by rw [← hs1, show 36 + 7 + 2 = 43 + 2 from rfl]; simp (disch := omega) only [ms_ne_z, ms_same_z, upd_ne_z, upd_same_z]
  have vo : ∀ j, j ≠ 36 → j ≠ 37 → j ≠ 45 → s1.1 j = s.1 j := fun j a b c => by rw [← hs1]; simp (disch := omega) only [ms_ne_z, ms_same_z, upd_ne_z, upd_same_z]
  have s12 : s1.2 = s.2 := by rw [← hs1]; rfl
  refine ⟨s1, ?_, ⟨s12, fun j hj => vo j (by omega) (by omega) (by omega)⟩, vo 77 (by omega) (by omega) (by omega), ⟨z.iv.ship hf hv, ⟨?_, ?_, ?_, ?_, ?_, ?_, ?_⟩, ?_, ?_, ?_, ?_, ?_, ?_, ?_, ?_⟩⟩
  · unfold F_X1_launches
    simp (disch := omega) only [b1, b2, i1, if_true, nm_eq_z, nI_nat_z, ms_ne_z, ms_same_z, upd_same_z, nI_s_z, upd_ne_z]
    rw [← hs1]
  · rw [v36]; simp (disch := omega) only [ms_ne_z, ms_same_z, upd_ne_z, upd_same_z]; exact sr.e4
  · rw [v36]; simp (disch := omega) only [ms_ne_z, ms_same_z, upd_ne_z, upd_same_z]
  · intro m hm; rw [vo _ (by omega) (by omega) (by omega)]; unfold shT_z; simp (disch := omega) only [ms_ne_z, ms_same_z, upd_ne_z, upd_same_z]; exact sr.pl m hm
  · intro u hu; rw [v45]; unfold shT_z; by_cases q : u = f
    · subst q; simp (disch := omega) only [ms_ne_z, ms_same_z, upd_ne_z, upd_same_z]; exact (z.iv.cz u (by omega) (by omega)).symm
    · simp (disch := omega) only [ms_ne_z, ms_same_z, upd_ne_z, upd_same_z]; exact sr.cl u (by omega)
  · intro u hu; rw [v37]; unfold shT_z; by_cases q : u = f
    · subst q; simp (disch := omega) only [ms_ne_z, ms_same_z, upd_ne_z, upd_same_z]
    · simp (disch := omega) only [ms_ne_z, ms_same_z, upd_ne_z, upd_same_z]; exact sr.so u (by omega)
  · intro m hm; rw [vo _ (by omega) (by omega) (by omega)]; unfold shT_z; simp (disch := omega) only [ms_ne_z, ms_same_z, upd_ne_z, upd_same_z]; exact sr.kd m hm
  · intro m hm; rw [vo _ (by omega) (by omega) (by omega)]; unfold shT_z; simp (disch := omega) only [ms_ne_z, ms_same_z, upd_ne_z, upd_same_z]; exact sr.sk m hm
  · unfold shT_z; simp (disch := omega) only [ms_ne_z, ms_same_z, upd_ne_z, upd_same_z]; exact z.z2
  · unfold shT_z; simp (disch := omega) only [ms_ne_z, ms_same_z, upd_ne_z, upd_same_z]; exact z.z3
  · unfold shT_z; simp (disch := omega) only [ms_ne_z, ms_same_z, upd_ne_z, upd_same_z]; exact z.z4
  · unfold shT_z; simp (disch := omega) only [ms_ne_z, ms_same_z, upd_ne_z, upd_same_z]; exact z.z5
  · rw [v36]; simp (disch := omega) only [ms_ne_z, ms_same_z, upd_ne_z, upd_same_z]; exact z.y6
  · rw [v36]; simp (disch := omega) only [ms_ne_z, ms_same_z, upd_ne_z, upd_same_z]; exact z.y8
  · rw [v36]; simp (disch := omega) only [ms_ne_z, ms_same_z, upd_ne_z, upd_same_z]; exact z.ya
  · rw [v36]; simp (disch := omega) only [ms_ne_z, ms_same_z, upd_ne_z, upd_same_z]
theorem fa_man_z {s : Me_} {T : Nat → Int32} {n f k w p : Nat} {x3 : Int32} (z : Fa_z s T n f) (hn : n < 8) (hk : k < 6) (hw1 : 1 ≤ w) (hs : w < 10) (hp : p ≤ f) (hx : x3 = nI p - 1) : ∃ s', F_X1_adds s 36 (nI k) (nI w) x3 = some s' ∧ FrL_z s s' ∧ s'.1 77 = s.1 77 ∧ Fa_z s' (mnT_z T n k w p) (n + 1) f := by
  have hf3 := z.iv.f3
  have sr := z.sr
  have i4 : s.1 36 4 = nI n := sr.e4
  have b1 : inb_ (nI k) 6 = true := by rw [nI_inb_z (by omega)]; omega
  have b2 : inb_ (nI n) 8 = true := by rw [nI_inb_z (by omega)]; omega
  generalize hs1 : me_set (me_set (me_set (me_set (me_set s (36 + 2) n (nI k)) (36 + 3) n (nI w)) (36 + 7 + 1) n x3) 36 4 (nI (n + 1))) 36 13 0 = s1
  have v36 : s1.1 36 = upd (upd (s.1 36) 4 (nI (n + 1))) 13 0 := by rw [← hs1]; simp (disch := omega) only [ms_ne_z, ms_same_z, upd_ne_z, upd_same_z]
  have v38 : s1.1 (36 + 2) = upd (s.1 (36 + 2)) n (nI k) := by rw [← hs1]; simp (disch := omega) only [ms_ne_z, ms_same_z, upd_ne_z, upd_same_z]
  have v39 : s1.1 (36 + 3) = upd (s.1 (36 + 3)) n (nI w) := by rw [← hs1]; simp (disch := omega) only [ms_ne_z, ms_same_z, upd_ne_z, upd_same_z]
  have v44 : s1.1 (43 + 1) = upd (s.1 (43 + 1)) n x3 := by rw [← hs1, show 36 + 7 + 1 = 43 + 1 from rfl]; simp (disch := omega) only [ms_ne_z, ms_same_z, upd_ne_z, upd_same_z]
  have vo : ∀ j, j ≠ 36 → j ≠ 38 → j ≠ 39 → j ≠ 44 → s1.1 j = s.1 j := fun j a b c d => by rw [← hs1]; simp (disch := omega) only [ms_ne_z, ms_same_z, upd_ne_z, upd_same_z]
  have s12 : s1.2 = s.2 := by rw [← hs1]; rfl
  refine ⟨s1, ?_, ⟨s12, fun j hj => vo j (by omega) (by omega) (by omega) (by omega)⟩, vo 77 (by omega) (by omega) (by omega) (by omega), ⟨z.iv.man hn hk hw1 hs hp, ⟨?_, ?_, ?_, ?_, ?_, ?_, ?_⟩, ?_, ?_, ?_, ?_, ?_, ?_, ?_, ?_⟩⟩
  · unfold F_X1_adds
    simp (disch := omega) only [b1, b2, i4, if_true, nm_eq_z, nI_nat_z, ms_ne_z, ms_same_z, upd_same_z, nI_s_z, upd_ne_z]
    rw [← hs1]
  · rw [v36]; simp (disch := omega) only [ms_ne_z, ms_same_z, upd_ne_z, upd_same_z]
  · rw [v36]; simp (disch := omega) only [ms_ne_z, ms_same_z, upd_ne_z, upd_same_z]; exact sr.e1
  · intro m hm; rw [v44]; unfold mnT_z; by_cases q : m = n
    · subst q; simp (disch := omega) only [ms_ne_z, ms_same_z, upd_ne_z, upd_same_z]; exact hx
    · simp (disch := omega) only [ms_ne_z, ms_same_z, upd_ne_z, upd_same_z]; exact sr.pl m (by omega)
  · intro u hu; rw [vo _ (by omega) (by omega) (by omega) (by omega)]; unfold mnT_z; simp (disch := omega) only [ms_ne_z, ms_same_z, upd_ne_z, upd_same_z]; exact sr.cl u hu
  · intro u hu; rw [vo _ (by omega) (by omega) (by omega) (by omega)]; unfold mnT_z; simp (disch := omega) only [ms_ne_z, ms_same_z, upd_ne_z, upd_same_z]; exact sr.so u hu
  · intro m hm; rw [v38]; unfold mnT_z; by_cases q : m = n
    · subst q; simp (disch := omega) only [ms_ne_z, ms_same_z, upd_ne_z, upd_same_z]
    · simp (disch := omega) only [ms_ne_z, ms_same_z, upd_ne_z, upd_same_z]; exact sr.kd m (by omega)
  · intro m hm; rw [v39]; unfold mnT_z; by_cases q : m = n
    · subst q; simp (disch := omega) only [ms_ne_z, ms_same_z, upd_ne_z, upd_same_z]
    · simp (disch := omega) only [ms_ne_z, ms_same_z, upd_ne_z, upd_same_z]; exact sr.sk m (by omega)
  · unfold mnT_z; simp (disch := omega) only [ms_ne_z, ms_same_z, upd_ne_z, upd_same_z]; exact z.z2
  · unfold mnT_z; simp (disch := omega) only [ms_ne_z, ms_same_z, upd_ne_z, upd_same_z]; exact z.z3
  · unfold mnT_z; simp (disch := omega) only [ms_ne_z, ms_same_z, upd_ne_z, upd_same_z]; exact z.z4
  · unfold mnT_z; simp (disch := omega) only [ms_ne_z, ms_same_z, upd_ne_z, upd_same_z]; exact z.z5
  · rw [v36]; simp (disch := omega) only [ms_ne_z, ms_same_z, upd_ne_z, upd_same_z]; exact z.y6
  · rw [v36]; simp (disch := omega) only [ms_ne_z, ms_same_z, upd_ne_z, upd_same_z]; exact z.y8
  · rw [v36]; simp (disch := omega) only [ms_ne_z, ms_same_z, upd_ne_z, upd_same_z]; exact z.ya
  · rw [v36]; simp (disch := omega) only [ms_ne_z, ms_same_z, upd_ne_z, upd_same_z]
theorem fa_call_z {s : Me_} {T : Nat → Int32} {n f u : Nat} (z : Fa_z s T n f) (hu : u < f) (hc : cnt_z T (nI (u + 1)) n ≠ 0) : ∃ m s', F_X1_calls s 36 43 (nI u) = some (nI m, s') ∧ FrL_z s s' ∧ s'.1 77 = s.1 77 ∧ Fa_z s' (gcr_z T u n) n f := by
  have hn8 := z.iv.n8; have hf3 := z.iv.f3
  cases el : lst_z T u n with
  | none => exact absurd ((lst_none_z _ _ _).mp el) hc
  | some m =>
    refine ⟨m, mcl_z s 43 m u, x1_calls_z z.iv z.sr hu el, ⟨rfl, fun j hj => mcl_ne_z _ _ _ _ _ (by omega) (by omega)⟩, mcl_ne_z _ _ _ _ _ (by omega) (by omega), ⟨z.iv.gcr_z hu, Sr_z.gcr_z z.iv z.sr hu el (by omega) (by omega), ?_, ?_, ?_, ?_, ?_, ?_, ?_, ?_⟩⟩
    · rw [gcr_ne_z (by omega) (by omega) hn8]; exact z.z2
    · rw [gcr_ne_z (by omega) (by omega) hn8]; exact z.z3
    · rw [gcr_ne_z (by omega) (by omega) hn8]; exact z.z4
    · rw [gcr_ne_z (by omega) (by omega) hn8]; exact z.z5
    · rw [mcl_ne_z _ _ _ _ _ (by omega) (by omega)]; exact z.y6
    · rw [mcl_ne_z _ _ _ _ _ (by omega) (by omega)]; exact z.y8
    · rw [mcl_ne_z _ _ _ _ _ (by omega) (by omega)]; exact z.ya
    · rw [mcl_ne_z _ _ _ _ _ (by omega) (by omega)]; exact z.yd
theorem fa_board_z {s : Me_} {T : Nat → Int32} {n f u m : Nat} (z : Fa_z s T n f) (hu : u < f) (hm : m < n) : FrL_z s (me_set s 44 m (nI u)) ∧ (me_set s 44 m (nI u)).1 77 = s.1 77 ∧ Fa_z (me_set s 44 m (nI u)) (upd T (6 + m) (nI (u + 1))) n f := by
  have hn8 := z.iv.n8; have hf3 := z.iv.f3
  have hp : nI (u + 1) - 1 = nI u := by rw [← nI_s_z]; exact i_add1s_z _
  have hsr := Sr_z.put (v := nI (u + 1)) z.iv z.sr hm (by omega)
  rw [hp] at hsr
  refine ⟨⟨rfl, fun j hj => ms_ne_z _ _ _ (by omega)⟩, ms_ne_z _ _ _ (by omega), ⟨z.iv.put hm (by omega), hsr, ?_, ?_, ?_, ?_, ?_, ?_, ?_, ?_⟩⟩
  · simp (disch := omega) only [ms_ne_z, ms_same_z, upd_ne_z, upd_same_z]; exact z.z2
  · simp (disch := omega) only [ms_ne_z, ms_same_z, upd_ne_z, upd_same_z]; exact z.z3
  · simp (disch := omega) only [ms_ne_z, ms_same_z, upd_ne_z, upd_same_z]; exact z.z4
  · simp (disch := omega) only [ms_ne_z, ms_same_z, upd_ne_z, upd_same_z]; exact z.z5
  · simp (disch := omega) only [ms_ne_z, ms_same_z, upd_ne_z, upd_same_z]; exact z.y6
  · simp (disch := omega) only [ms_ne_z, ms_same_z, upd_ne_z, upd_same_z]; exact z.y8
  · simp (disch := omega) only [ms_ne_z, ms_same_z, upd_ne_z, upd_same_z]; exact z.ya
  · simp (disch := omega) only [ms_ne_z, ms_same_z, upd_ne_z, upd_same_z]; exact z.yd
