set_option maxRecDepth 100000
set_option linter.unusedSimpArgs false
set_option linter.unusedVariables false

/-! PURE Ze: an item, both sides -/
abbrev Pr_z : Type := Nat ⊕ (Nat × (Nat → Int32) × Nat × Nat)
def itm_z (X : Nat → Nat) (t a : Nat) (T : Nat → Int32) (n f : Nat) : Pr_z :=
  if wd_z X t a 1 = true then
    (if 3 ≤ f then .inl a else if tOK_z X t (nx_z X t a) 0 6 = true then .inr (nx_z X t (nx_z X t a), shT_z T f (vT_z X t (nx_z X t a)), n, f + 1) else .inl (nx_z X t a))
  else if wd_z X t a 2 = true then
    (if 8 ≤ n then .inl a else if tOK_z X t (nx_z X t a) 0 6 = true then
      (if tOK_z X t (nx_z X t (nx_z X t a)) 1 10 = true then
        (if tkK_z X t (nx_z X t (nx_z X t (nx_z X t a))) = 2 ∧ (vT_z X t (nx_z X t (nx_z X t (nx_z X t a))) = 9 ∨ vT_z X t (nx_z X t (nx_z X t (nx_z X t a))) < f) then
          .inr (nx_z X t (nx_z X t (nx_z X t (nx_z X t a))), mnT_z T n (vT_z X t (nx_z X t a)) (vT_z X t (nx_z X t (nx_z X t a))) (if vT_z X t (nx_z X t (nx_z X t (nx_z X t a))) = 9 then 0 else vT_z X t (nx_z X t (nx_z X t (nx_z X t a))) + 1), n + 1, f)
         else .inl (nx_z X t (nx_z X t (nx_z X t a))))
       else .inl (nx_z X t (nx_z X t a)))
     else .inl (nx_z X t a))
  else if wd_z X t a 3 = true then
    (if tOK_z X t (nx_z X t a) 0 f = true ∧ cnt_z T (nI (vT_z X t (nx_z X t a) + 1)) n ≠ 0 then .inr (nx_z X t (nx_z X t a), gcr_z T (vT_z X t (nx_z X t a)) n, n, f) else .inl (nx_z X t a))
  else if wd_z X t a 4 = true then
    (if tOK_z X t (nx_z X t a) 0 f = true then
      (if tOK_z X t (nx_z X t (nx_z X t a)) 0 n = true ∧ T (6 + vT_z X t (nx_z X t (nx_z X t a))) = 0 then .inr (nx_z X t (nx_z X t (nx_z X t a)), upd T (6 + vT_z X t (nx_z X t (nx_z X t a))) (nI (vT_z X t (nx_z X t a) + 1)), n, f) else .inl (nx_z X t (nx_z X t a)))
     else .inl (nx_z X t a))
  else .inl a
/-- LeftBehind at an item -/
def Li_z (s : Me_) (X : Nat → Nat) (t a : Nat) (T : Nat → Int32) (n f : Nat) : Prop :=
  (Tx_z s X t) ∧
  (Tk_z s X t a) ∧
  (Fa_z s T n f) ∧
  (a ≤ t)
theorem Li_z.tx {s : Me_} {X : Nat → Nat} {t a : Nat} {T : Nat → Int32} {n f : Nat} (h : Li_z s X t a T n f) : Tx_z s X t := h.1
theorem Li_z.tk {s : Me_} {X : Nat → Nat} {t a : Nat} {T : Nat → Int32} {n f : Nat} (h : Li_z s X t a T n f) : Tk_z s X t a := h.2.1
theorem Li_z.fa {s : Me_} {X : Nat → Nat} {t a : Nat} {T : Nat → Int32} {n f : Nat} (h : Li_z s X t a T n f) : Fa_z s T n f := h.2.2.1
theorem Li_z.le {s : Me_} {X : Nat → Nat} {t a : Nat} {T : Nat → Int32} {n f : Nat} (h : Li_z s X t a T n f) : a ≤ t := h.2.2.2
theorem x3_next_z {s : Me_} {X : Nat → Nat} {t a : Nat} {T : Nat → Int32} {n f : Nat} (z : Li_z s X t a T n f) : ∃ s', F_X3_scans s = some s' ∧ FrL_z s s' ∧ s'.1 77 4 = s.1 77 4 ∧ Li_z s' X t (nx_z X t a) T n f := by
  have hl := tkL_le_z (X := X) z.le
  obtain ⟨s', b1, b2, b3, b4, b5⟩ := x3_scans_z z.tx hl.1 z.tk.aa
  refine ⟨s', b1, ⟨b2, fun j hj => b3 j (by omega)⟩, b4, ⟨z.tx.keep (b3 0 (by omega)) (b3 75 (by omega)), b5, ?_, (nx_le_z z.le).1⟩⟩
  have w := z.fa
  exact ⟨w.iv, w.sr.congr (b3 _ (by omega)) (b3 _ (by omega)) (b3 _ (by omega)) (b3 _ (by omega)) (b3 _ (by omega)) (b3 _ (by omega)), w.z2, w.z3, w.z4, w.z5, by rw [b3 36 (by omega)]; exact w.y6, by rw [b3 36 (by omega)]; exact w.y8, by rw [b3 36 (by omega)]; exact w.ya, by rw [b3 36 (by omega)]; exact w.yd⟩
theorem x3_take_z {s : Me_} {X : Nat → Nat} {t a lo H : Nat} {T : Nat → Int32} {n f : Nat} (z : Li_z s X t a T n f) (hlo : lo < 100) (hH : H < 1000) (hok : tOK_z X t a lo H = true) : ∃ s', F_X3_takes s (nI lo) (nI H - 1) = some (.inl (nI (vT_z X t a)), s') ∧ FrL_z s s' ∧ s'.1 77 4 = s.1 77 4 ∧ Li_z s' X t (nx_z X t a) T n f := by
  obtain ⟨s', b1, b2, b3, b4, b5⟩ := (x3_takes_z z.tx z.tk z.le hlo hH).2 hok
  refine ⟨s', b1, ⟨b2, fun j hj => b3 j (by omega)⟩, b4, ⟨z.tx.keep (b3 0 (by omega)) (b3 75 (by omega)), b5, ?_, (nx_le_z z.le).1⟩⟩
  have w := z.fa
  exact ⟨w.iv, w.sr.congr (b3 _ (by omega)) (b3 _ (by omega)) (b3 _ (by omega)) (b3 _ (by omega)) (b3 _ (by omega)) (b3 _ (by omega)), w.z2, w.z3, w.z4, w.z5, by rw [b3 36 (by omega)]; exact w.y6, by rw [b3 36 (by omega)]; exact w.y8, by rw [b3 36 (by omega)]; exact w.ya, by rw [b3 36 (by omega)]; exact w.yd⟩
theorem Li_z.new {s s' : Me_} {X : Nat → Nat} {t a : Nat} {T T' : Nat → Int32} {n f n' f' : Nat} (z : Li_z s X t a T n f) (h : FrL_z s s') (h7 : s'.1 77 = s.1 77) (w : Fa_z s' T' n' f') : Li_z s' X t a T' n' f' := ⟨z.tx.keep (h.2 0 (by omega)) (h.2 75 (by omega)), ⟨by rw [h7]; exact z.tk.st, by rw [h7]; exact z.tk.aa, by rw [h7]; exact z.tk.tk, by rw [h7]; exact z.tk.vl⟩, w, z.le⟩
/-- the result of LeftBehind's item -/
def LiR_z (s : Me_) (X : Nat → Nat) (t : Nat) (o : Option Ex_) : Pr_z → Prop
  | .inl p => ∃ s', o = some (.inr (nI p), s') ∧ FrL_z s s'
  | .inr r => ∃ s', o = some (.inl 0, s') ∧ FrL_z s s' ∧ s'.1 77 4 = s.1 77 4 ∧ Li_z s' X t r.1 r.2.1 r.2.2.1 r.2.2.2
theorem want0_z (s : Me_) {a : Nat} (h : s.1 77 1 = nI a) (k : Int32 → Me_ → Option Ex_) : bt_ (F_X3_wants s 0) k = some (.inr (nI a), s) := by
  rw [F_X3_wants, if_pos rfl, h, bt_inr_z]
theorem want1_z (s : Me_) (k : Int32 → Me_ → Option Ex_) : bt_ (F_X3_wants s 1) k = k 0 s := by
  rw [F_X3_wants, if_neg i_10_z, bt_inl_z]
theorem wd_10_z {X : Nat → Nat} {t a : Nat} (h : wd_z X t a 0 = true) : wd_z X t a 1 = false ∧ wd_z X t a 2 = false ∧ wd_z X t a 3 = false ∧ wd_z X t a 4 = false := by
  unfold wd_z at h
  simp only [Bool.and_eq_true, decide_eq_true_eq] at h
  have hl : tkL_z X t a = 6 := h.2.1
  have : ∀ o, sn_l o ≠ 6 → wd_z X t a o = false := fun o ho => by
    unfold wd_z; rw [hl, show decide (6 = sn_l o) = false from decide_eq_false (fun u => ho u.symm), Bool.false_and, Bool.and_false]
  exact ⟨this 1 (by decide), this 2 (by decide), this 3 (by decide), this 4 (by decide)⟩
theorem i_c5_z : (5 : Int32) = nI 6 - 1 := by decide
theorem i_c9_z : (9 : Int32) = nI 10 - 1 := by decide
theorem x3_item_z {s : Me_} {X : Nat → Nat} {t a : Nat} {T : Nat → Int32} {n f : Nat} (z : Li_z s X t a T n f) (hb : s.1 77 4 = 1) : LiR_z s X t (F_X3_item s) (itm_z X t a T n f) := by
  have hn8 := z.fa.iv.n8
  have hf3 := z.fa.iv.f3
  have i4 : s.1 36 4 = nI n := z.fa.sr.e4
  have i1 : s.1 36 1 = nI f := z.fa.sr.e1
  have w0 := x3_word_z z.tx z.tk z.le (show 0 < 5 by omega)
  have w1 := x3_word_z z.tx z.tk z.le (show 1 < 5 by omega)
  have w2 := x3_word_z z.tx z.tk z.le (show 2 < 5 by omega)
  have w3 := x3_word_z z.tx z.tk z.le (show 3 < 5 by omega)
  have w4 := x3_word_z z.tx z.tk z.le (show 4 < 5 by omega)
  have st := z.tk.st
  have z00 : (0 : Int32) = nI 0 := rfl
  unfold F_X3_item
  rw [w0, bd_some_z]
  by_cases c0 : wd_z X t a 0 = true
  · obtain ⟨d1, d2, d3, d4⟩ := wd_10_z c0
    unfold itm_z
    rw [d1, d2, d3, d4, c0, bI_t_z, if_neg i_10_z, hb, if_neg i_10_z, nm_eq_z, want0_z s st]
    exact ⟨s, rfl, FrL_z.refl _⟩
  rw [if_pos ((bI_z_z _).mpr c0), hb, want1_z, w1, bd_some_z]
  unfold itm_z
  by_cases c1 : wd_z X t a 1 = true
  · rw [if_pos c1, if_neg (fun u => (bI_z_z _).mp u c1), i1]
    have h3 : (3 : Int32) ≤ nI f ↔ 3 ≤ f := by rw [nI_lit_z, nI_le_z (by omega) (by omega)]
    by_cases q : 3 ≤ f
    · rw [if_pos (h3.mpr q), if_pos q, nm_eq_z, want0_z s st]
      exact ⟨s, rfl, FrL_z.refl _⟩
    · rw [if_neg (fun u => q (h3.mp u)), if_neg q, nm_eq_z, want1_z]
      obtain ⟨sa, a1, a2, a3, a4⟩ := x3_next_z z
      rw [a1, bd_some_z, z00, i_c5_z]
      cases ok : tOK_z X t (nx_z X t a) 0 6 with
      | false =>
        rw [(x3_takes_z a4.tx a4.tk a4.le (by omega) (by omega)).1 ok, bt_inr_z]
        exact ⟨sa, rfl, a2⟩
      | true =>
        obtain ⟨sb, b1, b2, b3, b4⟩ := x3_take_z a4 (by omega) (by omega) ok
        have hv : vT_z X t (nx_z X t a) < 6 := by unfold tOK_z at ok; simp only [Bool.and_eq_true, decide_eq_true_eq] at ok; exact ok.2.2
        obtain ⟨sc, e1, e2, e3, e4⟩ := fa_ship_z b4.fa (by omega) hv
        rw [b1, bt_inl_z, e1, bd_some_z]
        exact ⟨sc, rfl, (a2.trans b2).trans e2, by rw [e3, b3, a3], b4.new e2 e3 e4⟩
  rw [if_neg c1, if_pos ((bI_z_z _).mpr c1), w2, bd_some_z]
  by_cases c2 : wd_z X t a 2 = true
  · rw [if_pos c2, if_neg (fun u => (bI_z_z _).mp u c2), i4]
    have h8 : (8 : Int32) ≤ nI n ↔ 8 ≤ n := by rw [nI_lit_z, nI_le_z (by omega) (by omega)]
    by_cases q : 8 ≤ n
    · rw [if_pos (h8.mpr q), if_pos q, nm_eq_z, want0_z s st]
      exact ⟨s, rfl, FrL_z.refl _⟩
    · rw [if_neg (fun u => q (h8.mp u)), if_neg q, nm_eq_z, want1_z]
      obtain ⟨sa, a1, a2, a3, a4⟩ := x3_next_z z
      have o1 : (1 : Int32) = nI 1 := rfl
      rw [a1, bd_some_z, i_c5_z, show F_X3_takes sa 0 (nI 6 - 1) = F_X3_takes sa (nI 0) (nI 6 - 1) from rfl]
      cases ok : tOK_z X t (nx_z X t a) 0 6 with
      | false =>
        rw [(x3_takes_z a4.tx a4.tk a4.le (by omega) (by omega)).1 ok, bt_inr_z]
        exact ⟨sa, rfl, a2⟩
      | true =>
        obtain ⟨sb, b1, b2, b3, b4⟩ := x3_take_z a4 (by omega) (by omega) ok
        have hv : vT_z X t (nx_z X t a) < 6 := by unfold tOK_z at ok; simp only [Bool.and_eq_true, decide_eq_true_eq] at ok; exact ok.2.2
        rw [b1, bt_inl_z, show F_X3_takes sb 1 9 = F_X3_takes sb (nI 1) (nI 10 - 1) by rw [i_c9_z]; rfl]
        cases ok2 : tOK_z X t (nx_z X t (nx_z X t a)) 1 10 with
        | false =>
          rw [(x3_takes_z b4.tx b4.tk b4.le (by omega) (by omega)).1 ok2, bt_inr_z]
          exact ⟨sb, rfl, a2.trans b2⟩
        | true =>
          obtain ⟨sc, e1, e2, e3, e4⟩ := x3_take_z b4 (by omega) (by omega) ok2
          have hv2 : 1 ≤ vT_z X t (nx_z X t (nx_z X t a)) ∧ vT_z X t (nx_z X t (nx_z X t a)) < 10 := by unfold tOK_z at ok2; simp only [Bool.and_eq_true, decide_eq_true_eq] at ok2; exact ok2.2
          rw [e1, bt_inl_z, show sc.1 36 1 = nI f from e4.fa.sr.e1, e4.tk.tk, in06_z, if_pos (show true = true from rfl), if_pos (show true = true from rfl)]
          generalize hA : nx_z X t (nx_z X t (nx_z X t a)) = A at *
          have hK := tkK_le_z X t A
          obtain ⟨_, k2, _, _⟩ := lbk_eq_z _ hK
          by_cases cK : tkK_z X t A = 2
          · have hvA := vT_lt_z e4.le cK
            have hval : sc.1 77 3 = nI (vT_z X t A) := e4.tk.vl cK
            have h9 : nI (vT_z X t A) = 9 ↔ vT_z X t A = 9 := by rw [nI_lit_z, nI_inj_z (by omega) (by omega)]
            have hin : (F_X6_in (nI (vT_z X t A)).toInt64 (0 : Int64) (nI f - 1 : Int32).toInt64 = 0) ↔ ¬ vT_z X t A < f := by
              rw [in_no_z, nI_pred64_z (by omega), nI_int_z (by omega), show (0 : Int64).toInt = 0 from by decide]; omega
            rw [if_pos (k2.mpr cK), hval]
            have hgo : ∀ p, p = (if vT_z X t A = 9 then 0 else vT_z X t A + 1) → p ≤ f → tOK_z X t A 0 10 = true → ∃ s', (bt_ (F_X3_wants sc 1) fun r_17 σ_16 => bt_ (F_X3_takes σ_16 (0 : Int32) (9 : Int32)) fun r_18 σ_17 => nm_ (α := Int32) (if r_18 = (9 : Int32) then (-1 : Int32) else r_18) fun v_4 => Option.bind (F_X1_adds σ_17 36 (nI (vT_z X t (nx_z X t a))) (nI (vT_z X t (nx_z X t (nx_z X t a)))) v_4) fun σ_18 => some (.inl 0, σ_18)) = some (.inl 0, s') ∧ FrL_z s s' ∧ s'.1 77 4 = s.1 77 4 ∧ Li_z s' X t (nx_z X t A) (mnT_z T n (vT_z X t (nx_z X t a)) (vT_z X t (nx_z X t (nx_z X t a))) p) (n + 1) f := by
              intro p hp hpf ok3
              obtain ⟨sd, g1, g2, g3, g4⟩ := x3_take_z e4 (by omega) (by omega) ok3
              have hx : (if nI (vT_z X t A) = 9 then (-1 : Int32) else nI (vT_z X t A)) = nI p - 1 := by
                by_cases q9 : vT_z X t A = 9
                · rw [if_pos (h9.mpr q9), hp, if_pos q9]; rfl
                · rw [if_neg (fun u => q9 (h9.mp u)), hp, if_neg q9, ← nI_s_z, i_add1s_z]
              obtain ⟨se, k1, k2, k3, k4⟩ := fa_man_z (x3 := nI p - 1) g4.fa (by omega) hv hv2.1 hv2.2 hpf rfl
              refine ⟨se, ?_, (((a2.trans b2).trans e2).trans g2).trans k2, by rw [k3, g3, e3, b3, a3], g4.new k2 k3 k4⟩
              rw [want1_z, show F_X3_takes sc 0 9 = F_X3_takes sc (nI 0) (nI 10 - 1) by rw [i_c9_z]; rfl, g1, bt_inl_z, nm_eq_z, hx, k1, bd_some_z]
            by_cases q9 : vT_z X t A = 9
            · rw [if_pos (h9.mpr q9), nm_eq_z, if_pos ⟨cK, Or.inl q9⟩]
              exact hgo _ rfl (by rw [if_pos q9]; omega) (by unfold tOK_z; rw [cK, q9]; rfl)
            · rw [if_neg (fun u => q9 (h9.mp u))]
              by_cases qf : vT_z X t A < f
              · rw [if_neg (fun u => hin.mp u qf), nm_eq_z, if_pos ⟨cK, Or.inr qf⟩]
                exact hgo _ rfl (by rw [if_neg q9]; omega) (by unfold tOK_z; simp only [cK, show vT_z X t A < 10 by omega, decide_true, Nat.zero_le, Bool.and_self])
              · rw [if_pos (hin.mpr qf), nm_eq_z, want0_z sc e4.tk.st, if_neg (fun u => by rcases u.2 with u | u <;> omega)]
                exact ⟨sc, rfl, (a2.trans b2).trans e2⟩
          · rw [if_neg (fun u => cK (k2.mp u)), nm_eq_z, want0_z sc e4.tk.st, if_neg (fun u => cK u.1)]
            exact ⟨sc, rfl, (a2.trans b2).trans e2⟩
  rw [if_neg c2, if_pos ((bI_z_z _).mpr c2), w3, bd_some_z]
  by_cases c3 : wd_z X t a 3 = true
  · rw [if_pos c3, if_neg (fun u => (bI_z_z _).mp u c3)]
    obtain ⟨sa, a1, a2, a3, a4⟩ := x3_next_z z
    rw [a1, bd_some_z, nm_eq_z, in06_z, show sa.1 36 1 = nI f from a4.fa.sr.e1, a4.tk.tk]
    generalize hA : nx_z X t a = A at *
    have hK := tkK_le_z X t A
    obtain ⟨_, k2, _, _⟩ := lbk_eq_z _ hK
    by_cases cK : tkK_z X t A = 2
    · have hvA := vT_lt_z a4.le cK
      have hval : sa.1 77 3 = nI (vT_z X t A) := a4.tk.vl cK
      have hin : (F_X6_in (nI (vT_z X t A)).toInt64 (0 : Int64) (nI f - 1 : Int32).toInt64 = 0) ↔ ¬ vT_z X t A < f := by
        rw [in_no_z, nI_pred64_z (by omega), nI_int_z (by omega), show (0 : Int64).toInt = 0 from by decide]; omega
      rw [if_pos (k2.mpr cK), hval]
      by_cases qf : vT_z X t A < f
      · have ok : tOK_z X t A 0 f = true := by unfold tOK_z; simp only [cK, qf, decide_true, Nat.zero_le, Bool.and_self]
        rw [if_neg (fun u => hin.mp u qf), nm_eq_z, if_neg (by decide), x1_at_z a4.fa.iv a4.fa.sr, bd_some_z, nI_s_z]
        by_cases qc : cnt_z T (nI (vT_z X t A + 1)) n = 0
        · rw [if_pos ((bst_z_z hn8).mpr qc)]
          simp only []
          rw [want0_z sa a4.tk.st, if_neg (fun u => u.2 qc)]
          exact ⟨sa, rfl, a2⟩
        · obtain ⟨sb, b1, b2, b3, b4⟩ := x3_take_z a4 (lo := 0) (H := f) (by omega) (by omega) ok
          obtain ⟨m, sc, e1, e2, e3, e4⟩ := fa_call_z b4.fa qf qc
          rw [if_neg (fun u => qc ((bst_z_z hn8).mp u))]
          simp only []
          rw [want1_z, show F_X3_takes sa 0 (sa.1 36 1 - 1) = F_X3_takes sa (nI 0) (nI f - 1) by rw [show sa.1 36 1 = nI f from a4.fa.sr.e1]; rfl, b1, bt_inl_z, e1, bi_some_z, if_pos ⟨ok, qc⟩]
          exact ⟨sc, rfl, (a2.trans b2).trans e2, by rw [e3, b3, a3], b4.new e2 e3 e4⟩
      · have ok : ¬ tOK_z X t A 0 f = true := by unfold tOK_z; simp only [cK, qf, decide_true, decide_false, Bool.and_false, Bool.false_eq_true, not_false_eq_true]
        rw [if_pos (hin.mpr qf), nm_eq_z, if_pos rfl]
        simp only []
        rw [want0_z sa a4.tk.st, if_neg (fun u => ok u.1)]
        exact ⟨sa, rfl, a2⟩
    · have ok : ¬ tOK_z X t A 0 f = true := by unfold tOK_z; simp only [cK, decide_false, Bool.false_and, Bool.false_eq_true, not_false_eq_true]
      rw [if_neg (fun u => cK (k2.mp u)), nm_eq_z, if_pos rfl]
      simp only []
      rw [want0_z sa a4.tk.st, if_neg (fun u => ok u.1)]
      exact ⟨sa, rfl, a2⟩
  rw [if_neg c3, if_pos ((bI_z_z _).mpr c3), w4, bd_some_z]
  by_cases c4 : wd_z X t a 4 = true
  · rw [if_pos c4, c4, bI_t_z, want1_z]
    obtain ⟨sa, a1, a2, a3, a4⟩ := x3_next_z z
    rw [a1, bd_some_z, show F_X3_takes sa 0 (sa.1 36 1 - 1) = F_X3_takes sa (nI 0) (nI f - 1) by rw [show sa.1 36 1 = nI f from a4.fa.sr.e1]; rfl]
    generalize hA : nx_z X t a = A at *
    cases ok : tOK_z X t A 0 f with
    | false =>
      rw [(x3_takes_z a4.tx a4.tk a4.le (by omega) (by omega)).1 ok, bt_inr_z]
      exact ⟨sa, rfl, a2⟩
    | true =>
      obtain ⟨sb, b1, b2, b3, b4⟩ := x3_take_z a4 (by omega) (by omega) ok
      have hv : vT_z X t A < f := by unfold tOK_z at ok; simp only [Bool.and_eq_true, decide_eq_true_eq] at ok; exact ok.2.2
      rw [b1, bt_inl_z, nm_eq_z, in06_z, show sb.1 36 4 = nI n from b4.fa.sr.e4, b4.tk.tk, if_pos (show true = true from rfl)]
      generalize hB : nx_z X t A = B at *
      have hK := tkK_le_z X t B
      obtain ⟨_, k2, _, _⟩ := lbk_eq_z _ hK
      by_cases cK : tkK_z X t B = 2
      · have hvB := vT_lt_z b4.le cK
        have hval : sb.1 77 3 = nI (vT_z X t B) := b4.tk.vl cK
        have hin : (F_X6_in (nI (vT_z X t B)).toInt64 (0 : Int64) (nI n - 1 : Int32).toInt64 = 0) ↔ ¬ vT_z X t B < n := by
          rw [in_no_z, nI_pred64_z (by omega), nI_int_z (by omega), show (0 : Int64).toInt = 0 from by decide]; omega
        rw [if_pos (k2.mpr cK), hval]
        by_cases qn : vT_z X t B < n
        · have ok2 : tOK_z X t B 0 n = true := by unfold tOK_z; simp only [cK, qn, decide_true, Nat.zero_le, Bool.and_self]
          have pl : sb.1 44 (vT_z X t B) = T (6 + vT_z X t B) - 1 := b4.fa.sr.pl _ qn
          rw [if_neg (fun u => hin.mp u qn), if_pos (by rw [nI_inb_z (by omega)]; omega), nI_nat_z (by omega), pl]
          by_cases q0 : T (6 + vT_z X t B) = 0
          · obtain ⟨sc, e1, e2, e3, e4⟩ := x3_take_z b4 (lo := 0) (H := n) (by omega) (by omega) ok2
            obtain ⟨g1, g2, g3⟩ := fa_board_z e4.fa hv qn
            rw [if_pos ((i_m1_z _).mpr q0)]
            simp only []
            rw [want1_z, show F_X3_takes sb 0 (sb.1 36 4 - 1) = F_X3_takes sb (nI 0) (nI n - 1) by rw [show sb.1 36 4 = nI n from b4.fa.sr.e4]; rfl, e1, bt_inl_z, if_pos (by rw [nI_inb_z (by omega)]; omega), nI_nat_z (by omega), nm_eq_z, if_pos ⟨ok2, q0⟩]
            exact ⟨_, rfl, ((a2.trans b2).trans e2).trans g1, by rw [g2, e3, b3, a3], e4.new g1 g2 g3⟩
          · rw [if_neg (fun u => q0 ((i_m1_z _).mp u))]
            simp only []
            rw [want0_z sb b4.tk.st, if_neg (fun u => q0 u.2)]
            exact ⟨sb, rfl, a2.trans b2⟩
        · have ok2 : ¬ tOK_z X t B 0 n = true := by unfold tOK_z; simp only [cK, qn, decide_true, decide_false, Bool.and_false, Bool.false_eq_true, not_false_eq_true]
          rw [if_pos (hin.mpr qn)]
          simp only []
          rw [want0_z sb b4.tk.st, if_neg (fun u => ok2 u.1)]
          exact ⟨sb, rfl, a2.trans b2⟩
      · have ok2 : ¬ tOK_z X t B 0 n = true := by unfold tOK_z; simp only [cK, decide_false, Bool.false_and, Bool.false_eq_true, not_false_eq_true]
        rw [if_neg (fun u => cK (k2.mp u))]
        simp only []
        rw [want0_z sb b4.tk.st, if_neg (fun u => ok2 u.1)]
        exact ⟨sb, rfl, a2.trans b2⟩
  · rw [if_neg c4, show wd_z X t a 4 = false from Bool.eq_false_iff.mpr c4, bI_f_z, want0_z s st]
    exact ⟨s, rfl, FrL_z.refl _⟩
