/-! START: what is known where the law begins; the world after both constructors; the memory there -/
set_option maxRecDepth 100000
theorem va_T.cg {ty : FieldType} {t N : Nat} {f g : Nat → Value} {A : Nat → Prop} {U : State} {H : Heap} (h : va_T ty t N f A U H) (hg : ∀ j, j < N → f j = g j) : va_T ty t N g A U H := by
  obtain ⟨cell, h1, h2, h3, h4, h5, h6, h7⟩ := h
  exact ⟨cell, h1, h2, h3, h4, h5, fun j hj => by rw [← hg j hj]; exact h6 j hj, h7⟩
theorem vk_S.cg {N : Nat} {len : List Nat} {byt : List (List Int32)} {aK aV bK bV : Nat → Nat} {A : Nat → Prop} {U : State} {H : Heap} (h : vk_S N len byt aK aV A U H) (hK : ∀ i, i < N → bK i = aK i) (hV : ∀ i, i < N → bV i = aV i) : vk_S N len byt bK bV A U H := by
  refine ⟨fun i hi => ?_, fun i j hi hj e => ?_⟩
  · rw [hK i hi, hV i hi]
    exact h.1 i hi
  · rw [hK i hi, hK j hj] at e
    exact h.2 i j hi hj e
/-- the constants of a table, by their classes -/
theorem so_ {args : Array Value} {s : State} {tm : Term} {nm : Nat → String} {N : Nat} {A : Nat → Prop} (h : ∀ j, j < N → (Cond.exactly (Term.elem tm (.int (Int32.ofNat j))) (nm j)).before args s = true) (hA : ∀ a : Nat, a < s.heap.size → ¬ A a) : ∃ ad : Nat → Nat, ∀ j, j < N → (Term.elem tm (.int (Int32.ofNat j))).eval args s none [] s = some (.ref (ad j)) ∧ va_O (nm j) (ad j) A s s.heap := by
  have h0 : ∀ j : Nat, ∃ q : Nat, j < N → (Term.elem tm (.int (Int32.ofNat j))).eval args s none [] s = some (.ref q) ∧ va_O (nm j) q A s s.heap := by
    intro j
    by_cases hj : j < N
    · obtain ⟨a, c, cA, kA, q1, -⟩ := Cond.exactly_spec (args := args) (first := s) (o := none) (s := s) (idx := []) (t := Term.elem tm (.int (Int32.ofNat j))) (cls := nm j) (h j hj)
      exact ⟨a, fun _ => ⟨q1, va_Oof (h j hj) q1 hA⟩⟩
    · exact ⟨0, fun z => absurd z hj⟩
  exact Classical.axiomOfChoice h0
theorem ra_p {args : Array Value} {s : State} {ty : FieldType} (h : (Cond.arrayClass ty).before args s = true) : ∃ cA, ArrOfT s cA ty ∧ s.vm.findClass ("[" ++ ty.toString) = some cA := by
  obtain ⟨c, k, comp, h1, h2, h3⟩ := Cond.arrayClass_spec h
  exact ⟨c, fun n z => ⟨fun k h => (by cases h), k, h2, comp, h3⟩, h1⟩
theorem ra_o {args : Array Value} {s : State} {C : String} (h : (Cond.arrayOver (.object C)).before args s = true) : ∃ cA, ArrOfT s cA (.object C) ∧ va_RA s cA (.object C) := by
  obtain ⟨comp, c, k, h1, -, h3, h4, h5⟩ := Cond.arrayOver_spec h
  exact ⟨c, fun n z => ⟨fun k h => (by cases h), k, h3, comp, h4⟩, k, comp, h3, h4, h1, h5⟩
abbrev tS_ : Term := .static "LeftBehind" "SAILS" "[LLeftBehind$Ship;"
abbrev tB_ : Term := .static "LeftBehind" "BEACH" "[LLeftBehind$Man;"
abbrev tR_ (i : Nat) : Term := .string "LeftBehind$Reader" (([84, 90, 102, 111, 123] : List Nat).getD i 0)
abbrev tV_ (i : Nat) : Term := .field (tR_ i) "java/lang/String" "value" "[B"
abbrev fl_ : List Cond := flatC (Jvm.Cond.and given_1 narrow_1)
theorem fl_S : ∀ j, j < 6 → Cond.exactly (Term.elem tS_ (.int (Int32.ofNat j))) (sn_ j) ∈ fl_ := by decide +kernel
theorem fl_B : ∀ j, j < 6 → Cond.exactly (Term.elem tB_ (.int (Int32.ofNat j))) (mn_ j) ∈ fl_ := by decide +kernel
theorem fl_ex : ∀ i, i < 5 → Cond.exactly (tR_ i) "java/lang/String" ∈ fl_ := by decide +kernel
theorem fl_co : ∀ i, i < 5 → Cond.eq (.field (tR_ i) "java/lang/String" "coder" "B") (.int 0) ∈ fl_ := by decide +kernel
theorem fl_ar : ∀ i, i < 5 → Cond.arrayOf (tV_ i) .byte ∈ fl_ := by decide +kernel
theorem fl_le : ∀ i, i < 5 → Cond.eq (.length (tV_ i)) (.int (Int32.ofNat (sl_.getD i 0))) ∈ fl_ := by decide +kernel
theorem fl_el : ∀ i, i < 5 → ∀ j, j < sl_.getD i 0 → Cond.eq (.elem (tV_ i) (.int (Int32.ofNat j))) (.int ((sb_.getD i []).getD j 0)) ∈ fl_ := by decide +kernel
theorem fl_ne : ∀ i, i < 5 → ∀ j, j < 5 → i ≠ j → Cond.not (Cond.eq (tR_ i) (tR_ j)) ∈ fl_ ∨ Cond.not (Cond.eq (tR_ j) (tR_ i)) ∈ fl_ := by decide +kernel
theorem nw_tab {w : Cond} (h : nw_ w = true) : w.onTables = true := by
  cases w <;> first | (simp [nw_] at h; done) | rfl
def ga_ (cs aS aB aK aV : Nat → Nat) (t u : Nat) : Nat → Nat := fun k => if k < 10 then cs k else if k = 10 then t else if k = 11 then u else if k < 30 then aS (k - 20) else if k < 50 then aB (k - 30) else if k < 60 then aK (k - 50) else aV (k - 60)
set_option maxHeartbeats 4000000 in
/-- what is known where the law begins -/
theorem gl_start {s : State} {b : Nat} (hts : ∀ w ∈ lw_tbl, w.before #[Value.ref b] s = true) (hgv : (Jvm.Cond.and given_1 narrow_1).before #[Value.ref b] s = true) : ∃ G : GG_, gg_z G = s.heap.size ∧ Gl_ G s := by
  have hall : ∀ w ∈ lw_all, w.before #[Value.ref b] s = true := fun w h => hts w (lw_all_tbl h)
  have hf : ∀ w ∈ fl_, w.before #[Value.ref b] s = true := flat_of_before _ hgv
  have hA : ∀ a : Nat, a < s.heap.size → ¬ (fun q : Nat => s.heap.size ≤ q) a := fun a h => Nat.not_le.mpr h
  obtain ⟨dC, dI, hKc⟩ : ∃ (dC : Nat → ClassId) (dI : Nat → Nat → Nat), ∀ (k : Nat) (q : vw_C), cl_[k]? = some q → u_Kn s q.1 q.2.1 q.2.2 (dC k) (dI k) := by
    obtain ⟨c0, i0, k0⟩ := u_known (C := RX0) (T := TX0) (N := 12) (n := 12) hall in_X0 (hall _ q79)
    obtain ⟨c1, i1, k1⟩ := u_known (C := RX1) (T := TX1) (N := 14) (n := 14) hall in_X1 (hall _ q87)
    obtain ⟨c2, i2, k2⟩ := u_known (C := RX2) (T := TX2) (N := 2) (n := 2) hall in_X2 (hall _ q97)
    obtain ⟨c3, i3, k3⟩ := u_known (C := RX3) (T := TX3) (N := 6) (n := 6) hall in_X3 (hall _ q187)
    obtain ⟨c4, i4, k4⟩ := u_known (C := RX4) (T := TX4) (N := 7) (n := 7) hall in_X4 (hall _ q213)
    obtain ⟨c5, i5, k5⟩ := u_known (C := RX5) (T := TX5) (N := 4) (n := 4) hall in_X5 (hall _ q243)
    obtain ⟨c6, i6, k6⟩ := u_known (C := RX6) (T := TX6) (N := 19) (n := 19) hall in_X6 (hall _ q945)
    obtain ⟨c7, i7, k7⟩ := u_known (C := RX7) (T := TX7) (N := 7) (n := 7) hall in_X7 (hall _ q398)
    refine ⟨fun k => ([c0, c1, c2, c3, c4, c5, c6, c7] : List ClassId).getD k c0, fun k => ([i0, i1, i2, i3, i4, i5, i6, i7] : List (Nat → Nat)).getD k i0, ?_⟩
    intro k q hq
    match k, hq with
    | 0, hq => cases hq; exact k0
    | 1, hq => cases hq; exact k1
    | 2, hq => cases hq; exact k2
    | 3, hq => cases hq; exact k3
    | 4, hq => cases hq; exact k4
    | 5, hq => cases hq; exact k5
    | 6, hq => cases hq; exact k6
    | 7, hq => cases hq; exact k7
    | k + 8, hq => simp [cl_] at hq
  obtain ⟨cs, hcs⟩ : ∃ cs : Nat → Nat, ∀ (k : Nat) (q : Nat × FieldType), ([(cs 0, .int), (cs 1, .byte), (cs 2, .boolean), (cs 3, .object "LeftBehind$Ship"), (cs 4, .object "LeftBehind$Man"), (cs 5, .object "LeftBehind$State"), (cs 6, .object "LeftBehind$Island")] : List (Nat × FieldType))[k]? = some q → ArrOfT s q.1 q.2 ∧ va_RA s q.1 q.2 := by
    obtain ⟨a0, x0, y0⟩ := ra_p (hall _ q115)
    obtain ⟨a1, x1, y1⟩ := ra_p (hall _ q211)
    obtain ⟨a2, x2, y2⟩ := ra_p (hall _ q1011)
    obtain ⟨a3, x3, y3⟩ := ra_o (hts _ q93)
    obtain ⟨a4, x4, y4⟩ := ra_o (hts _ q95)
    obtain ⟨a5, x5, y5⟩ := ra_o (hts _ q116)
    obtain ⟨a6, x6, y6⟩ := ra_o (hts _ q183)
    refine ⟨fun k => ([a0, a1, a2, a3, a4, a5, a6] : List Nat).getD k 0, ?_⟩
    intro k q hq
    match k, hq with
    | 0, hq => cases hq; exact ⟨x0, y0⟩
    | 1, hq => cases hq; exact ⟨x1, y1⟩
    | 2, hq => cases hq; exact ⟨x2, y2⟩
    | 3, hq => cases hq; exact ⟨x3, y3⟩
    | 4, hq => cases hq; exact ⟨x4, y4⟩
    | 5, hq => cases hq; exact ⟨x5, y5⟩
    | 6, hq => cases hq; exact ⟨x6, y6⟩
    | k + 7, hq => simp at hq
  obtain ⟨aS, hS⟩ := so_ (tm := tS_) (nm := sn_) (N := 6) (fun j hj => hf _ (fl_S j hj)) hA
  obtain ⟨t, ht, hT⟩ := va_Tof (tm := tS_) (ty := .object "LeftBehind$Ship") (N := 6) (f := fun j => .ref (aS j)) (by decide) (hf _ (by decide +kernel)) (va_eqt (hf _ (by decide +kernel))) (fun j hj => (hS j hj).1) hA
  obtain ⟨aB, hB⟩ := so_ (tm := tB_) (nm := mn_) (N := 6) (fun j hj => hf _ (fl_B j hj)) hA
  obtain ⟨u, hu, hU⟩ := va_Tof (tm := tB_) (ty := .object "LeftBehind$Man") (N := 6) (f := fun j => .ref (aB j)) (by decide) (hf _ (by decide +kernel)) (va_eqt (hf _ (by decide +kernel))) (fun j hj => (hB j hj).1) hA
  obtain ⟨aK, aV, hK, hKv⟩ := vk_Sof (N := 5) (tm := tR_) (len := sl_) (byt := sb_) (by decide) (fun i hi => hf _ (fl_ex i hi)) (fun i hi => hf _ (fl_co i hi)) (fun i hi => hf _ (fl_ar i hi)) (fun i hi => hf _ (fl_le i hi)) (fun i hi j hj => hf _ (fl_el i hi j hj)) (fun i j hi hj hne => (fl_ne i hi j hj hne).imp (fun h => hf _ h) (fun h => hf _ h)) hA
  have z0 := va_Zref (hts _ q343) (hall _ q61) ht hA
  have z1 := va_Zref (hts _ q361) (hall _ q61) hu hA
  have z2 := va_Zof (hts _ q478) (hall _ q71) (va_eqt (z := 1) (hf _ (by decide +kernel))) hA
  have z3 := va_Zqof (hts _ q494) (hall _ q73) (hf _ (by decide +kernel)) hA
  have z4 := va_Zqof (hts _ q422) (hall _ q68) (hf _ (by decide +kernel)) hA
  have z5 := va_Zqof (hts _ q424) (hall _ q68) (hf _ (by decide +kernel)) hA
  refine ⟨((dC, dI), s.heap.size, (fun i => s.heap.size + i), (fun i => if i < 110 then stag_ i else 0), ga_ cs aS aB aK aV t u), rfl, ⟨hKc, hcs⟩, fun w hw hn => va_Nw.of (nw_tab hn) (hts w hw), ?_, ?_, ⟨va_AO.of (hts _ q93), va_AO.of (hts _ q95), va_AO.of (hts _ q116), va_AO.of (hts _ q183)⟩, ?_, Nat.le_refl _⟩
  · have e1 : ∀ j, j < 6 → ga_ cs aS aB aK aV t u (20 + j) = aS j := fun j hj => by
      unfold ga_
      rw [if_neg (by omega), if_neg (by omega), if_neg (by omega), if_pos (by omega), Nat.add_sub_cancel_left]
    have e2 : ∀ j, j < 6 → ga_ cs aS aB aK aV t u (30 + j) = aB j := fun j hj => by
      unfold ga_
      rw [if_neg (by omega), if_neg (by omega), if_neg (by omega), if_neg (by omega), if_pos (by omega), Nat.add_sub_cancel_left]
    have e3 : ∀ j, j < 5 → ga_ cs aS aB aK aV t u (50 + j) = aK j := fun j hj => by
      unfold ga_
      rw [if_neg (by omega), if_neg (by omega), if_neg (by omega), if_neg (by omega), if_neg (by omega), if_pos (by omega), Nat.add_sub_cancel_left]
    have e4 : ∀ j, j < 5 → ga_ cs aS aB aK aV t u (60 + j) = aV j := fun j hj => by
      unfold ga_
      rw [if_neg (by omega), if_neg (by omega), if_neg (by omega), if_neg (by omega), if_neg (by omega), if_neg (by omega), Nat.add_sub_cancel_left]
    refine ⟨⟨z0, hT.cg (fun j hj => ?_), fun j hj => ?_⟩, ⟨z1, hU.cg (fun j hj => ?_), fun j hj => ?_⟩, hK.cg e3 e4, z2, z3, z4, z5⟩
    · show Value.ref (aS j) = Value.ref (ga_ cs aS aB aK aV t u (20 + j))
      rw [e1 j hj]
    · show va_O (sn_ j) (ga_ cs aS aB aK aV t u (20 + j)) _ s s.heap
      rw [e1 j hj]
      exact (hS j hj).2
    · show Value.ref (aB j) = Value.ref (ga_ cs aS aB aK aV t u (30 + j))
      rw [e2 j hj]
    · show va_O (mn_ j) (ga_ cs aS aB aK aV t u (30 + j)) _ s s.heap
      rw [e2 j hj]
      exact (hB j hj).2
  · exact ⟨vk_R.of (hts _ q464) (hKv 0 (by decide)), vk_R.of (hts _ q517) (hKv 1 (by decide)), vk_R.of (hts _ q524) (hKv 2 (by decide)), vk_R.of (hts _ q526) (hKv 3 (by decide)), vk_R.of (hts _ q576) (hKv 4 (by decide))⟩
  · refine ⟨fun i j _ _ h => Nat.add_left_cancel h, fun i _ => Nat.le_add_right _ _, fun i hi => ?_, fun i hi => if_pos hi⟩
    by_cases h : i < 110
    · omega
    · exact absurd (if_neg h) hi
/-- another numbering of the same run -/
theorem Gl_.re {G G' : GG_} {s : State} (h : Gl_ G s) (h1 : G'.1 = G.1) (h2 : G'.2.1 = G.2.1) (h3 : G'.2.2.2.2 = G.2.2.2.2) (hN : Nu_ G') : Gl_ G' s := by
  obtain ⟨D, z, r, t, a⟩ := G
  obtain ⟨D', z', r', t', a'⟩ := G'
  cases h1; cases h2; cases h3
  obtain ⟨k1, k2, k3, k4, k5, -, k7⟩ := h
  exact ⟨k1, k2, k3, k4, k5, hN, k7⟩
/-- the memory after both constructors -/
def m0_ : Me_ := (fun i => if i = 2 ∨ i = 3 ∨ i = 37 ∨ i = 38 then (fun _ => -1) else (fun _ => 0), fun i j => if (i = 0 ∧ j = 8) ∨ (i = 90 ∧ j = 5) then 1 else 0)
theorem m0_z {i : Nat} (h : ¬ (i = 2 ∨ i = 3 ∨ i = 37 ∨ i = 38)) : m0_.1 i = fun _ => 0 := if_neg h
theorem m0_n {i : Nat} (h : i = 2 ∨ i = 3 ∨ i = 37 ∨ i = 38) : m0_.1 i = fun _ => -1 := if_pos h
theorem rel_0 : Rel_z m0_ := by
  have n0 : ∀ {P : Nat → Prop} (m : Nat), m < 0 → P m := fun m h => absurd h (Nat.not_lt_zero _)
  have n4 : ∀ {P : Nat → Prop} (m : Nat), m < 4 * 0 → P m := fun m h => absurd h (Nat.not_lt_zero _)
  have e1 : m0_.1 1 = fun _ => 0 := m0_z (by decide)
  have e91 : m0_.1 91 = fun _ => 0 := m0_z (by decide)
  have e0 : m0_.1 0 = fun _ => 0 := m0_z (by decide)
  have e90 : m0_.1 90 = fun _ => 0 := m0_z (by decide)
  have e71 : m0_.1 71 = fun _ => 0 := m0_z (by decide)
  have e93 : m0_.1 93 = fun _ => 0 := m0_z (by decide)
  have e76 : m0_.1 76 = fun _ => 0 := m0_z (by decide)
  have e94 : m0_.1 94 = fun _ => 0 := m0_z (by decide)
  refine ⟨⟨0, 0, 0, 0, 0, 0, ?_⟩, ?_⟩
  · rw [e91]
    refine ⟨⟨by omega, by omega, rfl, rfl, n0, n0, fun h hh _ => rfl, n0, n0, n0⟩, ⟨?_, ?_, n0, n0, n0, n0, n0⟩, by omega, by omega, by omega, by omega, rfl, rfl, rfl, rfl, ?_, ?_, ?_, ?_, n4, n4, n4, n0, n0, n0, n0, n0, n0⟩ <;> (rw [e1]; rfl)
  · refine ⟨⟨0, by omega, by rw [e0]; rfl, by rw [e90]; rfl, fun i hi => absurd hi (Nat.not_lt_zero _)⟩, fun i _ => by rw [e76, e94], rfl, rfl, fun j hj => ⟨?_, fun h => ?_⟩⟩
    · rw [e71, e93]
    · exact absurd (by rw [e71]) h
/-- the numbering after both constructors -/
def r0_ (q : Nat) (ad2 ad4 : Nat → Nat) (T M : List Nat) : Nat → Nat := fun i => if i = 0 then q else if i < 36 then ad2 (i - 1) else if i < 71 then ad4 (i - 36) else if i < 85 then T.getD (i - 71) 0 else M.getD (i - 90) 0
def Gs_ (G : GG_) (r : Nat → Nat) : GG_ := (G.1, G.2.1, r, (fun i => if i < 110 then stag_ i else 0), G.2.2.2.2)
theorem ex_at {α : Type} {a : α} {I J T e2 e3 : List α} (h2 : e2 = a :: (I ++ (J ++ T))) (hI : I.length = 35) (hJ : J.length = 35) (hT : T.length = 14) : (e2 ++ e3)[0]? = some a ∧ (∀ k, k < 35 → (e2 ++ e3)[1 + k]? = I[k]?) ∧ (∀ k, k < 35 → (e2 ++ e3)[36 + k]? = J[k]?) ∧ (∀ k, k < 14 → (e2 ++ e3)[71 + k]? = T[k]?) ∧ ∀ k, (e2 ++ e3)[85 + k]? = e3[k]? := by
  subst h2
  have hl : (a :: (I ++ (J ++ T))).length = 85 := by simp only [List.length_cons, List.length_append, hI, hJ, hT]
  refine ⟨rfl, fun k hk => ?_, fun k hk => ?_, fun k hk => ?_, fun k => ?_⟩
  · rw [List.getElem?_append_left (by omega), show 1 + k = k + 1 by omega, List.getElem?_cons_succ, List.getElem?_append_left (by omega)]
  · rw [List.getElem?_append_left (by omega), show 36 + k = (35 + k) + 1 by omega, List.getElem?_cons_succ, List.getElem?_append_right (by omega), hI, Nat.add_sub_cancel_left, List.getElem?_append_left (by omega)]
  · rw [List.getElem?_append_left (by omega), show 71 + k = (35 + (35 + k)) + 1 by omega, List.getElem?_cons_succ, List.getElem?_append_right (by omega), hI, Nat.add_sub_cancel_left, List.getElem?_append_right (by omega), hJ, Nat.add_sub_cancel_left]
  · rw [List.getElem?_append_right (by omega), hl, Nat.add_sub_cancel_left]
theorem stag_in : ∀ i, i < 110 → stag_ i ≠ 0 → i < 85 ∨ (90 ≤ i ∧ i < 103) := by decide
theorem ws_fin {G : GG_} {r : Nat → Nat} {ex : va_W} {H : Heap} (hix : ∀ i, i < 110 → stag_ i ≠ 0 → ∃ e, ex[if i < 85 then i else i - 5]? = some (r i, e) ∧ ∀ H, va_at (gg_D G) cl_ (r i, e) H → va_at (gg_D G) cl_ (at_ (Gs_ G r) m0_ i) H) (hP : Xp_ G [] ex H) : Nu_ (Gs_ G r) ∧ Img_ (Gs_ G r) (m0_.1 71) ∧ Wo_ (Gs_ G r) m0_ H := by
  have ht : ∀ i, gg_t (Gs_ G r) i ≠ 0 → i < 110 ∧ stag_ i ≠ 0 := by
    intro i hi
    by_cases h : i < 110
    · exact ⟨h, fun z => hi (by show (if i < 110 then stag_ i else 0) = 0; rw [if_pos h]; exact z)⟩
    · exact absurd (if_neg h) hi
  have hP1 : va_P (gg_D G) cl_ ex H := hP.1
  have hD1 : va_D (AA_ G) ex := hP.2
  refine ⟨⟨fun i j hi hj he => ?_, fun i hi => ?_, fun i hi => ?_, fun i hi => if_pos hi⟩, ⟨fun i hi => if_neg (by omega), fun j hj => ⟨fun _ k hk => if_neg (by omega), fun h => ?_⟩⟩, fun i hi => ?_⟩
  · obtain ⟨e, h1, -⟩ := hix i (ht i hi).1 (ht i hi).2
    obtain ⟨e', h1', -⟩ := hix j (ht j hj).1 (ht j hj).2
    have h2 := hD1.1 _ _ _ _ h1 h1' he
    have h3 := stag_in i (ht i hi).1 (ht i hi).2
    have h4 := stag_in j (ht j hj).1 (ht j hj).2
    by_cases c1 : i < 85
    · rw [if_pos c1] at h2
      by_cases c2 : j < 85
      · rw [if_pos c2] at h2; exact h2
      · rw [if_neg c2] at h2; omega
    · rw [if_neg c1] at h2
      by_cases c2 : j < 85
      · rw [if_pos c2] at h2; omega
      · rw [if_neg c2] at h2; omega
  · obtain ⟨e, h1, -⟩ := hix i (ht i hi).1 (ht i hi).2
    exact hD1.2 _ _ h1
  · have := (ht i hi).1
    omega
  · exact absurd (by rw [m0_z (by decide)]) h
  · obtain ⟨e, h1, h2⟩ := hix i (ht i hi).1 (ht i hi).2
    exact h2 H (hP1 _ _ h1)
