set_option maxRecDepth 100000
set_option linter.unusedSimpArgs false
set_option linter.unusedVariables false

/-! PURE N: water, lots, centuries -/
/-- canT_z looks at the row's head alone -/
theorem sks_congr_z {T T' : Nat → Int32} (p : Int32) : ∀ n, n ≤ 8 → (∀ i, i < 36 → T' i = T i) → sks_z T' p n = sks_z T p n := by
  intro n
  induction n with
  | zero => intro _ _; rfl
  | succ k ih => intro h o; rw [sks_z, sks_z, ih (by omega) o, o _ (by omega), o _ (by omega)]
theorem lkT_congr_z {T T' : Nat → Int32} {u m : Nat} (hu : u < 3) (hm : m < 8) (o : ∀ i, i < 36 → T' i = T i) : lkT_z T' m u = lkT_z T m u := by
  unfold lkT_z; rw [o _ (by omega), o _ (by omega), o _ (by omega)]
theorem lst_congr_z {T T' : Nat → Int32} {u : Nat} (hu : u < 3) : ∀ n, n ≤ 8 → (∀ i, i < 36 → T' i = T i) → lst_z T' u n = lst_z T u n := by
  intro n
  induction n with
  | zero => intro _ _; rfl
  | succ k ih =>
    intro h o
    rw [lst_z, lst_z, ih (by omega) o]
    cases e : lst_z T u k with
    | none => simp only []; rw [o _ (by omega)]
    | some b =>
      have := (lst_lt_z T u k b e).1
      simp only []
      rw [o _ (by omega), lkT_congr_z hu (show b < 8 by omega) o, lkT_congr_z hu (show k < 8 by omega) o]
theorem canT_congr_z {T T' : Nat → Int32} {n u d : Nat} (hn : n ≤ 8) (hu : u < 3) (o : ∀ i, i < 36 → T' i = T i) : canT_z T' n u d = canT_z T n u d := by
  unfold canT_z
  rw [cnt_congr_z _ n (fun m hm => o _ (by omega)), sks_congr_z _ n hn o, o _ (by omega)]
theorem gcr_congr_z {T T' : Nat → Int32} {n u : Nat} (hn : n ≤ 8) (hu : u < 3) (o : ∀ i, i < 36 → T' i = T i) : ∀ i, i < 36 → gcr_z T' u n i = gcr_z T u n i := by
  intro i hi
  cases e : lst_z T u n with
  | none => rw [gcr_none_z e, gcr_none_z (by rw [lst_congr_z hu n hn o]; exact e), o i hi]
  | some m =>
    rw [gcr_some_z e, gcr_some_z (by rw [lst_congr_z hu n hn o]; exact e), o _ (by omega)]
    unfold upd
    split
    · rfl
    · split
      · rfl
      · exact o i hi
/-- whether a ship can, calling first or not -/
def cou_z (R : Nat → Int32) (n u d : Nat) (b : Bool) : Bool := if b = true then canT_z (gcr_z R u n) n u d else canT_z R n u d
theorem cou_f_z (R : Nat → Int32) (n u d : Nat) : cou_z R n u d false = canT_z R n u d := if_neg (by decide)
theorem cou_t_z (R : Nat → Int32) (n u d : Nat) : cou_z R n u d true = canT_z (gcr_z R u n) n u d := if_pos rfl
theorem x0_could_z {σ : Me_} {R : Nat → Int32} {n f u d : Nat} (iv : Iv_z R n f) (sr : Sr_z σ 1 8 R n f) (hu : u < f) (hd : d < 31) (b : Bool) : ∃ τ, F_X0_could σ (nI u) (nI d) (bI_z b) = some (bI_z (cou_z R n u d b), τ) ∧ τ.2 = σ.2 ∧ (∀ j, j ≠ 73 → j ≠ 74 → τ.1 j = σ.1 j) := by
  have hn8 := iv.n8
  have hf3 := iv.f3
  unfold F_X0_could
  rw [x0_manned_z (b := 0) (s := 0) iv sr, bd_some_z, nI_s_z]
  have bb : ∀ c : Bool, bI_z c &&& 1 = bI_z c := by decide
  by_cases q : cnt_z R (nI (u + 1)) n = 0
  · have e : lst_z R u n = none := (lst_none_z _ _ _).mpr q
    have hc : ¬ canT_z R n u d = true := fun t => by obtain ⟨m, em⟩ := can_cnt_z t; rw [e] at em; cases em
    refine ⟨σ, ?_, rfl, fun _ _ _ => rfl⟩
    rw [if_pos (by rw [if_pos q])]
    unfold cou_z
    rw [gcr_none_z e, ite_self]
    rw [show canT_z R n u d = false by cases h : canT_z R n u d with | true => exact absurd h hc | false => rfl]; rfl
  · rw [if_neg (by rw [if_neg q]; decide)]
    obtain ⟨τ, e1, e2, e3, st⟩ := x0_trial_z iv sr (T' := R) (fun _ _ => rfl)
    rw [e1, bd_some_z]
    simp only [nm_eq_z]
    cases b with
    | false =>
      refine ⟨τ, ?_, e2, e3⟩
      rw [if_pos (by decide), x1_can_z iv st hu hd, bd_some_z, bb, cou_f_z]
    | true =>
      cases el : lst_z R u n with
      | none => exact absurd ((lst_none_z _ _ _).mp el) q
      | some m =>
        refine ⟨tcl_z τ R u n, ?_, by rw [tcl_2_z, e2], fun j h1 h2 => by rw [tcl_ne_z _ _ _ _ _ h1 h2, e3 j h1 h2]⟩
        rw [if_neg (by decide), x1_calls_z iv st hu el, bi_some_z, ← tcl_some_z el, x1_can_z (iv.gcr_z hu) (tcl_sr_z iv st hu) hu hd, bd_some_z, bb, cou_t_z]
def getB_z (B N : Bool) (i j : Bool) : Int32 := F_X6_getsBy (bI_z i) (bI_z j) (bI_z B) (bI_z N)
theorem x0_gets_z {σ : Me_} {R : Nat → Int32} {n f u d : Nat} (iv : Iv_z R n f) (sr : Sr_z σ 1 8 R n f) (hu : u < f) (hd : d < 31) (i j : Bool) : ∃ τ, F_X0_gets σ (nI u) (nI d) (bI_z i) (bI_z j) = some (getB_z (cou_z R n u d true) (cou_z R n u d false) i j, τ) ∧ τ.2 = σ.2 ∧ (∀ j, j ≠ 73 → j ≠ 74 → τ.1 j = σ.1 j) := by
  obtain ⟨τ, e1, e2, e3⟩ := x0_could_z iv sr hu hd i
  refine ⟨τ, ?_, e2, e3⟩
  unfold F_X0_gets
  rw [e1, bi_some_z]
  cases i <;> cases j <;> cases cou_z R n u d true <;> cases cou_z R n u d false <;> rfl
/-- who rests -/
def rst_z (BA NA BB NB i j : Bool) : Bool := !decide (getB_z BA NA i j < getB_z BA NA (!i) j) && !decide (getB_z BB NB j i < getB_z BB NB (!j) i)
def wacc_z (BA NA BB NB : Bool) : Nat → Int32
  | 0 => 0
  | k + 1 => wacc_z BA NA BB NB k ||| (if rst_z BA NA BB NB (decide (k % 2 = 1)) (decide (2 ≤ k)) = true then (1 : Int32) <<< (nI k &&& 31) else 0)
theorem rst_if_z (BA NA BB NB i j : Bool) (s : Int32) : (if (if F_X6_getsBy (bI_z i) (bI_z j) (bI_z BA) (bI_z NA) < F_X6_getsBy (bI_z (!i)) (bI_z j) (bI_z BA) (bI_z NA) then (0 : Int32) else if F_X6_getsBy (bI_z j) (bI_z i) (bI_z BB) (bI_z NB) < F_X6_getsBy (bI_z (!j)) (bI_z i) (bI_z BB) (bI_z NB) then 0 else 1) = 0 then (0 : Int32) else s) = if rst_z BA NA BB NB i j = true then s else 0 := by
  unfold rst_z getB_z
  by_cases c1 : F_X6_getsBy (bI_z i) (bI_z j) (bI_z BA) (bI_z NA) < F_X6_getsBy (bI_z (!i)) (bI_z j) (bI_z BA) (bI_z NA)
  · simp [c1]
  · by_cases c2 : F_X6_getsBy (bI_z j) (bI_z i) (bI_z BB) (bI_z NB) < F_X6_getsBy (bI_z (!j)) (bI_z i) (bI_z BB) (bI_z NB)
    · simp [c1, c2]
    · simp [c1, c2]
theorem sr_keep_z {σ τ : Me_} {R : Nat → Int32} {n f : Nat} (sr : Sr_z σ 1 8 R n f) (h : ∀ j, j ≠ 73 → j ≠ 74 → τ.1 j = σ.1 j) : Sr_z τ 1 8 R n f := sr.congr (h _ (by omega) (by omega)) (h _ (by omega) (by omega)) (h _ (by omega) (by omega)) (h _ (by omega) (by omega)) (h _ (by omega) (by omega)) (h _ (by omega) (by omega))
theorem wt1_z : ∀ k, k < 4 → (if nI k &&& (1 : Int32) = 1 then (1 : Int32) else 0) = bI_z (decide (k % 2 = 1)) ∧ (if nI k < 2 then (0 : Int32) else 1) = bI_z (decide (2 ≤ k)) ∧ nI k &&& (1 : Int32) = bI_z (decide (k % 2 = 1)) ∧ nI k >>> ((1 : Int32) &&& 31) = bI_z (decide (2 ≤ k)) := by decide +kernel
theorem wt2_z : ∀ b : Bool, (if bI_z b = 0 then (1 : Int32) else 0) = bI_z (!b) ∧ (1 : Int32) - bI_z b = bI_z (!b) := by decide
theorem loopI2_z {A B ρ : Type} (L : Nat → A → Int32 → B → Option ρ) (P : Nat → A → B → Prop) (n : Nat) (res : A → B → Option ρ) (hend : ∀ q s t, P n s t → L (q + 1) s (nI n) t = res s t) (hstep : ∀ k q s t, k < n → P k s t → ∃ s' t', P (k + 1) s' t' ∧ L (q + 1) s (nI k) t = L q s' (nI (k + 1)) t') : ∀ q k s t, k ≤ n → n - k < q → P k s t → ∃ s' t', P n s' t' ∧ L q s (nI k) t = res s' t' := by
  intro q
  induction q with
  | zero => intro k s t _ h _; omega
  | succ q ih =>
    intro k s t hk hf hp
    by_cases h : k = n
    · subst h; exact ⟨s, t, hp, hend q s t hp⟩
    · obtain ⟨s', t', hp', e⟩ := hstep k q s t (by omega) hp
      obtain ⟨s2, t2, ht, et⟩ := ih (k + 1) s' t' (by omega) (by omega) hp'
      exact ⟨s2, t2, ht, by rw [e, et]⟩
theorem x0_water_z {σ : Me_} {R : Nat → Int32} {n f u v d' : Nat} {BA NA BB NB : Bool} (iv : Iv_z R n f) (sr : Sr_z σ 1 8 R n f) (hu : u < f) (hv : v < f) (hd : d' ≤ 30) (hBA : cou_z R n u d' true = BA) (hNA : cou_z R n u d' false = NA) (hBB : cou_z R n v d' true = BB) (hNB : cou_z R n v d' false = NB) : ∃ τ, F_X0_water_L39 (nI u) (nI v) (nI d') FU_ 0 0 σ = some (wacc_z BA NA BB NB 4, τ) ∧ τ.2 = σ.2 ∧ (∀ j, j ≠ 73 → j ≠ 74 → τ.1 j = σ.1 j) := by
  have L0 := loopI2_z (F_X0_water_L39 (nI u) (nI v) (nI d')) (fun k s τ => s = wacc_z BA NA BB NB k ∧ τ.2 = σ.2 ∧ (∀ j, j ≠ 73 → j ≠ 74 → τ.1 j = σ.1 j)) 4 (fun s τ => some (s, τ)) ?_ ?_ FU_ 0 0 σ (by omega) (fu_lt_z (by omega)) ⟨rfl, rfl, fun _ _ _ => rfl⟩
  · obtain ⟨s', τ, ⟨p1, p2, p3⟩, ep⟩ := L0
    exact ⟨τ, by rw [← p1]; exact ep, p2, p3⟩
  · intro q s τ _
    rw [F_X0_water_L39, if_pos (show (4 : Int32) ≤ nI 4 by decide)]
  · intro k q s τ hk ⟨p1, p2, p3⟩
    subst p1
    obtain ⟨w1, w2, _, _⟩ := wt1_z k hk
    have e4 : (4 : Int32) = nI 4 := rfl
    obtain ⟨τ1, a1, a2, a3⟩ := x0_gets_z iv (sr_keep_z sr p3) hu (show d' < 31 by omega) (decide (k % 2 = 1)) (decide (2 ≤ k))
    have p31 : ∀ j, j ≠ 73 → j ≠ 74 → τ1.1 j = σ.1 j := fun j h1 h2 => by rw [a3 j h1 h2, p3 j h1 h2]
    obtain ⟨τ2, b1, b2, b3⟩ := x0_gets_z iv (sr_keep_z sr p31) hu (show d' < 31 by omega) (!decide (k % 2 = 1)) (decide (2 ≤ k))
    have p32 : ∀ j, j ≠ 73 → j ≠ 74 → τ2.1 j = σ.1 j := fun j h1 h2 => by rw [b3 j h1 h2, p31 j h1 h2]
    obtain ⟨τ3, c1, c2, c3⟩ := x0_gets_z iv (sr_keep_z sr p32) hv (show d' < 31 by omega) (decide (2 ≤ k)) (decide (k % 2 = 1))
    have p33 : ∀ j, j ≠ 73 → j ≠ 74 → τ3.1 j = σ.1 j := fun j h1 h2 => by rw [c3 j h1 h2, p32 j h1 h2]
    obtain ⟨τ4, d1, d2, d3⟩ := x0_gets_z iv (sr_keep_z sr p33) hv (show d' < 31 by omega) (!decide (2 ≤ k)) (decide (k % 2 = 1))
    have p34 : ∀ j, j ≠ 73 → j ≠ 74 → τ4.1 j = σ.1 j := fun j h1 h2 => by rw [d3 j h1 h2, p33 j h1 h2]
    rw [hBA, hNA] at a1 b1
    rw [hBB, hNB] at c1 d1
    rw [F_X0_water_L39, e4, if_neg (by rw [nI_le_z (by omega) (by omega)]; omega)]
    simp only [nm_eq_z, w1, w2, a1, bi_some_z, (wt2_z _).1, b1, c1, d1, nI_s_z]
    by_cases z1 : getB_z BA NA (decide (k % 2 = 1)) (decide (2 ≤ k)) < getB_z BA NA (!decide (k % 2 = 1)) (decide (2 ≤ k))
    · rw [if_pos z1]
      refine ⟨_, τ2, ⟨?_, by rw [b2, a2, p2], p32⟩, rfl⟩
      rw [wacc_z, rst_z]; simp only [z1, decide_true, Bool.not_true, Bool.false_and, Bool.false_eq_true, if_false, if_true]
    · rw [if_neg z1]
      by_cases z2 : getB_z BB NB (decide (2 ≤ k)) (decide (k % 2 = 1)) < getB_z BB NB (!decide (2 ≤ k)) (decide (k % 2 = 1))
      · rw [if_pos z2]
        refine ⟨_, τ4, ⟨?_, by rw [d2, c2, b2, a2, p2], p34⟩, rfl⟩
        rw [wacc_z, rst_z]; simp only [z1, z2, decide_true, decide_false, Bool.not_true, Bool.not_false, Bool.and_false, Bool.false_eq_true, if_false, if_true]
      · rw [if_neg z2]
        refine ⟨_, τ4, ⟨?_, by rw [d2, c2, b2, a2, p2], p34⟩, rfl⟩
        rw [wacc_z, rst_z]; simp only [z1, z2, decide_false, Bool.not_false, Bool.and_self, i_10_z, if_false, if_true]
theorem x6_water_z (BA NA BB NB : Bool) (τ : Me_) : F_X6_water_L79 (bI_z BA) τ (bI_z BB) (bI_z NA) (bI_z NB) FU_ 0 0 = some (wacc_z BA NA BB NB 4, τ) := by
  refine loop2_z (F_X6_water_L79 (bI_z BA) τ (bI_z BB) (bI_z NA) (bI_z NB)) (fun k => wacc_z BA NA BB NB k) (fun k => nI k) _ 4 ?_ ?_ FU_ 0 (Nat.zero_le _) (fu_lt_z (by omega))
  · intro q
    rw [F_X6_water_L79, if_pos (show (4 : Int32) ≤ nI 4 by decide)]
  · intro k q hk
    obtain ⟨_, _, w3, w4⟩ := wt1_z k hk
    have e4 : (4 : Int32) = nI 4 := rfl
    rw [F_X6_water_L79, e4, if_neg (by rw [nI_le_z (by omega) (by omega)]; omega)]
    simp only [nm_eq_z, w3, w4, (wt2_z _).2, nI_s_z]
    rw [wacc_z, rst_if_z]
theorem op_water_z {σ : Me_} (g : Rel_z σ) (x y d : Int32) : Op_z σ (fun σ => F_X0_water σ x y d) (fun σ => F_X6_water σ x y d) := by
  obtain ⟨n, f, a, c, e, w, z⟩ := g.fu; have hn8 := z.iv.n8; have hf3 := z.iv.f3; have ha5 := z.a5; have hc6 := z.c6; have he6 := z.e6; have hw8 := z.w8; have i4 := z.sr.e4; have i1 := z.sr.e1; have t0 := z.iv.t0; have t1 := z.iv.t1; have r2 := z.r2; have r3 := z.r3; have r4 := z.r4; have r5 := z.r5; have q2 := z.q2; have q3 := z.q3; have q4 := z.q4; have q5 := z.q5
  by_cases h : F_X6_in x.toInt64 (0 : Int64) ((nI f - 1 : Int32).toInt64) = 0
  · refine op_rf_z g 0 (by omega) (r := -2) ?_ ?_
    · show F_X0_water σ x y d = _
      unfold F_X0_water
      simp only [in06_z, in_and_z, i_z1_z, x0_bad_z, x0_no_z, x0_full_z, x0_badAsk_z, x6_bad_z, x6_no_z, x6_full_z, bi_some_z, bd_some_z, nm_eq_z, F_X0_isKind, F_X6_isKind, F_X0_isSkill, F_X6_isSkill, F_X0_isFar, F_X6_isFar, F_X0_isLong, F_X0_isShip, F_X6_isShip, F_X0_isMan, F_X6_isMan, F_X6_many, rf0_ne_z _ _ (show 91 ≠ 76 by omega), rf0_ne_z _ _ (show 90 ≠ 76 by omega), i1, h, if_true]
    · show F_X6_water _ x y d = _
      unfold F_X6_water
      simp only [in06_z, in_and_z, i_z1_z, x0_bad_z, x0_no_z, x0_full_z, x0_badAsk_z, x6_bad_z, x6_no_z, x6_full_z, bi_some_z, bd_some_z, nm_eq_z, F_X0_isKind, F_X6_isKind, F_X0_isSkill, F_X6_isSkill, F_X0_isFar, F_X6_isFar, F_X0_isLong, F_X0_isShip, F_X6_isShip, F_X0_isMan, F_X6_isMan, F_X6_many, rf0_ne_z _ _ (show 91 ≠ 76 by omega), rf0_ne_z _ _ (show 90 ≠ 76 by omega), t1, h, if_true]
  by_cases h' : F_X6_in y.toInt64 (0 : Int64) ((nI f - 1 : Int32).toInt64) = 0
  · refine op_rf_z g 0 (by omega) (r := -2) ?_ ?_
    · show F_X0_water σ x y d = _
      unfold F_X0_water
      simp only [in06_z, in_and_z, i_z1_z, x0_bad_z, x0_no_z, x0_full_z, x0_badAsk_z, x6_bad_z, x6_no_z, x6_full_z, bi_some_z, bd_some_z, nm_eq_z, F_X0_isKind, F_X6_isKind, F_X0_isSkill, F_X6_isSkill, F_X0_isFar, F_X6_isFar, F_X0_isLong, F_X0_isShip, F_X6_isShip, F_X0_isMan, F_X6_isMan, F_X6_many, rf0_ne_z _ _ (show 91 ≠ 76 by omega), rf0_ne_z _ _ (show 90 ≠ 76 by omega), i1, h, h', if_true, if_false]
    · show F_X6_water _ x y d = _
      unfold F_X6_water
      simp only [in06_z, in_and_z, i_z1_z, x0_bad_z, x0_no_z, x0_full_z, x0_badAsk_z, x6_bad_z, x6_no_z, x6_full_z, bi_some_z, bd_some_z, nm_eq_z, F_X0_isKind, F_X6_isKind, F_X0_isSkill, F_X6_isSkill, F_X0_isFar, F_X6_isFar, F_X0_isLong, F_X0_isShip, F_X6_isShip, F_X0_isMan, F_X6_isMan, F_X6_many, rf0_ne_z _ _ (show 91 ≠ 76 by omega), rf0_ne_z _ _ (show 90 ≠ 76 by omega), t1, h, h', if_true, if_false]
  by_cases hxy : x = y
  · refine op_rf_z g 0 (by omega) (r := -2) ?_ ?_
    · show F_X0_water σ x y d = _
      unfold F_X0_water
      simp only [← hxy]
      simp only [in06_z, in_and_z, i_z1_z, x0_bad_z, x0_no_z, x0_full_z, x0_badAsk_z, x6_bad_z, x6_no_z, x6_full_z, bi_some_z, bd_some_z, nm_eq_z, F_X0_isKind, F_X6_isKind, F_X0_isSkill, F_X6_isSkill, F_X0_isFar, F_X6_isFar, F_X0_isLong, F_X0_isShip, F_X6_isShip, F_X0_isMan, F_X6_isMan, F_X6_many, rf0_ne_z _ _ (show 91 ≠ 76 by omega), rf0_ne_z _ _ (show 90 ≠ 76 by omega), i1, h, if_true, if_false]
    · show F_X6_water _ x y d = _
      unfold F_X6_water
      simp only [← hxy]
      simp only [in06_z, in_and_z, i_z1_z, x0_bad_z, x0_no_z, x0_full_z, x0_badAsk_z, x6_bad_z, x6_no_z, x6_full_z, bi_some_z, bd_some_z, nm_eq_z, F_X0_isKind, F_X6_isKind, F_X0_isSkill, F_X6_isSkill, F_X0_isFar, F_X6_isFar, F_X0_isLong, F_X0_isShip, F_X6_isShip, F_X0_isMan, F_X6_isMan, F_X6_many, rf0_ne_z _ _ (show 91 ≠ 76 by omega), rf0_ne_z _ _ (show 90 ≠ 76 by omega), t1, h, if_true, if_false]
  by_cases h3 : F_X6_in d.toInt64 (1 : Int64) (30 : Int64) = 0
  · refine op_rf_z g 0 (by omega) (r := -2) ?_ ?_
    · show F_X0_water σ x y d = _
      unfold F_X0_water
      simp only [in06_z, in_and_z, i_z1_z, x0_bad_z, x0_no_z, x0_full_z, x0_badAsk_z, x6_bad_z, x6_no_z, x6_full_z, bi_some_z, bd_some_z, nm_eq_z, F_X0_isKind, F_X6_isKind, F_X0_isSkill, F_X6_isSkill, F_X0_isFar, F_X6_isFar, F_X0_isLong, F_X0_isShip, F_X6_isShip, F_X0_isMan, F_X6_isMan, F_X6_many, rf0_ne_z _ _ (show 91 ≠ 76 by omega), rf0_ne_z _ _ (show 90 ≠ 76 by omega), i1, h, h', h3, hxy, if_true, if_false]
    · show F_X6_water _ x y d = _
      unfold F_X6_water
      simp only [in06_z, in_and_z, i_z1_z, x0_bad_z, x0_no_z, x0_full_z, x0_badAsk_z, x6_bad_z, x6_no_z, x6_full_z, bi_some_z, bd_some_z, nm_eq_z, F_X0_isKind, F_X6_isKind, F_X0_isSkill, F_X6_isSkill, F_X0_isFar, F_X6_isFar, F_X0_isLong, F_X0_isShip, F_X6_isShip, F_X0_isMan, F_X6_isMan, F_X6_many, rf0_ne_z _ _ (show 91 ≠ 76 by omega), rf0_ne_z _ _ (show 90 ≠ 76 by omega), t1, h, h', h3, hxy, if_true, if_false]
  obtain ⟨u, hu, eu⟩ := in_okn_z (by omega) h
  obtain ⟨v, hv, ev⟩ := in_okn_z (by omega) h'
  obtain ⟨d', hd1, hd, ed⟩ := in_oka_z (a := 1) (b := 30) (by decide) (by decide) h3
  subst eu
  subst ev
  subst ed
  have iv := z.iv
  have sr := z.sr
  generalize hBA : cou_z (σ.1 91) n u d' true = BA
  generalize hNA : cou_z (σ.1 91) n u d' false = NA
  generalize hBB : cou_z (σ.1 91) n v d' true = BB
  generalize hNB : cou_z (σ.1 91) n v d' false = NB
  obtain ⟨τ, ep, p2, p3⟩ := x0_water_z iv sr hu hv hd hBA hNA hBB hNB
  have k91 : τ.1 91 = σ.1 91 := p3 91 (by omega) (by omega)
  generalize hH : hnd_z (σ.1 91) (τ.1 95) = H
  have oH : ∀ i, i < 36 → H i = σ.1 91 i := fun i hi => by rw [← hH]; exact hnd_lt_z _ _ hi
  generalize hH2 : hnd_z (σ.1 91) (gcr_z H u n) = H2
  have oH2 : ∀ i, i < 36 → H2 i = σ.1 91 i := fun i hi => by rw [← hH2]; exact hnd_lt_z _ _ hi
  refine op_ro_z g (r := wacc_z BA NA BB NB 4) (σ1 := τ) (σ2 := me_arr τ 95 (gcr_z H2 v n)) ?_ ?_ (Same_z.of p2 p3) ((Same_z.refl _).arr _ (by omega))
  · show F_X0_water σ (nI u) (nI v) (nI d') = _
    unfold F_X0_water
    simp only [in06_z, in_and_z, F_X0_isShip, F_X0_isFar, i1, h, h', h3, hxy, if_false, nm_eq_z, Bool.false_eq_true]
    exact ep
  · show F_X6_water τ (nI u) (nI v) (nI d') = _
    have cb1 : F_X6_canBehind τ (nI u) (nI d') = some (bI_z BA, me_arr τ 95 (gcr_z H u n)) := by
      unfold F_X6_canBehind
      rw [x6_layHand_z, k91, show cp_ (σ.1 91) (τ.1 95) 36 = H from hH, bd_some_z, x6_goCall_z (ma_same_z _ _ _) (iv.congr oH) (by omega) hu, bi_some_z, ma_ma_z, x6_canSail_z (ma_same_z _ _ _) ((iv.congr oH).gcr_z hu) (by omega) hu, bd_some_z, ← hBA]
      unfold cou_z
      rw [if_pos rfl, canT_congr_z hn8 (by omega) (gcr_congr_z hn8 (by omega) oH)]
      cases canT_z (gcr_z (σ.1 91) u n) n u d' <;> rfl
    have cb2 : F_X6_canBehind (me_arr τ 95 (gcr_z H u n)) (nI v) (nI d') = some (bI_z BB, me_arr τ 95 (gcr_z H2 v n)) := by
      unfold F_X6_canBehind
      rw [x6_layHand_z, ma_ne_z _ _ (show 91 ≠ 95 by omega), ma_same_z, k91, show cp_ (σ.1 91) (gcr_z H u n) 36 = H2 from hH2, bd_some_z, ma_ma_z, x6_goCall_z (ma_same_z _ _ _) (iv.congr oH2) (by omega) hv, bi_some_z, ma_ma_z, x6_canSail_z (ma_same_z _ _ _) ((iv.congr oH2).gcr_z hv) (by omega) hv, bd_some_z, ← hBB]
      unfold cou_z
      rw [if_pos rfl, canT_congr_z hn8 (by omega) (gcr_congr_z hn8 (by omega) oH2)]
      cases canT_z (gcr_z (σ.1 91) v n) n v d' <;> rfl
    have j91 : (me_arr τ 95 (gcr_z H2 v n)).1 91 = σ.1 91 := by rw [ma_ne_z _ _ (by omega), k91]
    have cs1 : F_X6_canSail (me_arr τ 95 (gcr_z H2 v n)) 91 192 (nI u) (nI d') = some (bI_z NA) := by rw [x6_canSail_z j91 iv (by omega) hu, ← hNA, cou_f_z]
    have cs2 : F_X6_canSail (me_arr τ 95 (gcr_z H2 v n)) 91 192 (nI v) (nI d') = some (bI_z NB) := by rw [x6_canSail_z j91 iv (by omega) hv, ← hNB, cou_f_z]
    unfold F_X6_water
    simp only [in_and_z, F_X6_isShip, F_X6_isFar, k91, t1, h, h', h3, hxy, if_false]
    rw [show (∀ (k : Bool → Option (Int32 × Me_)), nm_ false k = k false) from fun k => rfl, if_neg (by decide), cb1, bi_some_z, cb2, bi_some_z, cs1, bd_some_z, cs2, bd_some_z]
    exact x6_water_z BA NA BB NB _
