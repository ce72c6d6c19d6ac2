set_option maxRecDepth 100000
set_option linter.unusedSimpArgs false
set_option linter.unusedVariables false

/-! PURE Zf: the model's items -/
def FrM_z (s s' : Me_) : Prop := s'.2 = s.2 ∧ (∀ j, j ≠ 90 → j ≠ 101 → j ≠ 102 → s'.1 j = s.1 j) ∧ (∀ k, (k < 13 ∨ 17 ≤ k) → s'.1 90 k = s.1 90 k)
theorem FrM_z.refl (s : Me_) : FrM_z s s := ⟨rfl, fun _ _ _ _ => rfl, fun _ _ => rfl⟩
theorem FrM_z.trans {s s' s'' : Me_} (h : FrM_z s s') (k : FrM_z s' s'') : FrM_z s s'' := ⟨k.1.trans h.1, fun j a b c => (k.2.1 j a b c).trans (h.2.1 j a b c), fun j q => (k.2.2 j q).trans (h.2.2 j q)⟩
def Mi_z (s : Me_) (X : Nat → Nat) (t a : Nat) (T : Nat → Int32) (n f : Nat) : Prop :=
  (Ty_z s X t) ∧
  (Mk_z s X t a) ∧
  (s.1 101 = T) ∧
  (Iv_z T n f) ∧
  (a ≤ t)
theorem Mi_z.ty {s : Me_} {X : Nat → Nat} {t a : Nat} {T : Nat → Int32} {n f : Nat} (h : Mi_z s X t a T n f) : Ty_z s X t := h.1
theorem Mi_z.mk {s : Me_} {X : Nat → Nat} {t a : Nat} {T : Nat → Int32} {n f : Nat} (h : Mi_z s X t a T n f) : Mk_z s X t a := h.2.1
theorem Mi_z.an {s : Me_} {X : Nat → Nat} {t a : Nat} {T : Nat → Int32} {n f : Nat} (h : Mi_z s X t a T n f) : s.1 101 = T := h.2.2.1
theorem Mi_z.iv {s : Me_} {X : Nat → Nat} {t a : Nat} {T : Nat → Int32} {n f : Nat} (h : Mi_z s X t a T n f) : Iv_z T n f := h.2.2.2.1
theorem Mi_z.le {s : Me_} {X : Nat → Nat} {t a : Nat} {T : Nat → Int32} {n f : Nat} (h : Mi_z s X t a T n f) : a ≤ t := h.2.2.2.2
theorem Mi_z.set {s : Me_} {X : Nat → Nat} {t a : Nat} {T T' : Nat → Int32} {n f n' f' : Nat} (z : Mi_z s X t a T n f) (iv' : Iv_z T' n' f') : Mi_z (me_arr s 101 T') X t a T' n' f' ∧ FrM_z s (me_arr s 101 T') := ⟨⟨z.ty.keep (by rw [ma_ne_z _ _ (by omega)]) (ma_ne_z _ _ (by omega)), ⟨by rw [ma_ne_z _ _ (by omega)]; exact z.mk.st, by rw [ma_ne_z _ _ (by omega)]; exact z.mk.ln, by rw [ma_ne_z _ _ (by omega)]; exact z.mk.tk, by rw [ma_ne_z _ _ (by omega)]; exact z.mk.vl⟩, ma_same_z _ _ _, iv', z.le⟩, ⟨rfl, fun j _ b _ => ma_ne_z _ _ b, fun k _ => by rw [ma_ne_z _ _ (by omega)]⟩⟩
theorem x6_next_z {s : Me_} {X : Nat → Nat} {t a : Nat} {T : Nat → Int32} {n f : Nat} (z : Mi_z s X t a T n f) : ∃ s', F_X6_goBehind s = some s' ∧ FrM_z s s' ∧ s'.1 102 = s.1 102 ∧ Mi_z s' X t (nx_z X t a) T n f := by
  obtain ⟨s', b1, b2, b3, b4, b5⟩ := x6_goBehind_z z.ty z.mk z.le
  exact ⟨s', b1, ⟨b2, fun j a _ _ => b3 j a, b4⟩, b3 102 (by omega), ⟨z.ty.keep (b4 12 (by omega)) (b3 100 (by omega)), b5, by rw [b3 101 (by omega)]; exact z.an, z.iv, (nx_le_z z.le).1⟩⟩
theorem x6_take_z {s : Me_} {X : Nat → Nat} {t a lo H i : Nat} {T : Nat → Int32} {n f : Nat} (z : Mi_z s X t a T n f) (hlo : lo < 100) (hH : H < 1000) (hi : i < 3) (hok : tOK_z X t a lo H = true) : ∃ s', F_X6_takes s (nI i) (nI lo) (nI H - 1) = some (1, s') ∧ FrM_z s s' ∧ s'.1 102 = upd (s.1 102) i (nI (vT_z X t a)) ∧ Mi_z s' X t (nx_z X t a) T n f := by
  obtain ⟨s', b1, b2, b3, b4, b5, b6⟩ := (x6_takes_z z.ty z.mk z.le hlo hH hi).2 hok
  exact ⟨s', b1, ⟨b2, fun j a _ c => b3 j a c, b4⟩, b5, ⟨z.ty.keep (b4 12 (by omega)) (b3 100 (by omega) (by omega)), b6, by rw [b3 101 (by omega) (by omega)]; exact z.an, z.iv, (nx_le_z z.le).1⟩⟩
def MiR_z (s : Me_) (X : Nat → Nat) (t : Nat) (o : Option (Int32 × Me_)) : Pr_z → Prop
  | .inl p => ∃ s', o = some (0, s') ∧ FrM_z s s' ∧ s'.1 90 13 = nI p
  | .inr r => ∃ s', o = some (1, s') ∧ FrM_z s s' ∧ Mi_z s' X t r.1 r.2.1 r.2.2.1 r.2.2.2
theorem MiR_z.and {s : Me_} {X : Nat → Nat} {t : Nat} {o : Option (Int32 × Me_)} {r : Pr_z} (h : MiR_z s X t o r) : MiR_z s X t (bi_ o fun r σ => some (r &&& 1, σ)) r := by
  cases r with
  | inl p => obtain ⟨s', e, h1, h2⟩ := h; exact ⟨s', by rw [e, bi_some_z]; rfl, h1, h2⟩
  | inr p => obtain ⟨s', e, h1, h2⟩ := h; exact ⟨s', by rw [e, bi_some_z]; rfl, h1, h2⟩
theorem MiR_z.zo {s : Me_} {X : Nat → Nat} {t : Nat} {o : Option (Int32 × Me_)} {r : Pr_z} (h : MiR_z s X t o r) : MiR_z s X t (bi_ o fun r σ => if r = 0 then some (0, σ) else some (1, σ)) r := by
  cases r with
  | inl p => obtain ⟨s', e, h1, h2⟩ := h; exact ⟨s', by rw [e, bi_some_z]; rfl, h1, h2⟩
  | inr p => obtain ⟨s', e, h1, h2⟩ := h; exact ⟨s', by rw [e, bi_some_z]; rfl, h1, h2⟩
theorem x6_tship_z {s : Me_} {X : Nat → Nat} {t a : Nat} {T : Nat → Int32} {n f : Nat} (z : Mi_z s X t a T n f) : MiR_z s X t (F_X6_takesShip s) (if 3 ≤ f then .inl a else if tOK_z X t (nx_z X t a) 0 6 = true then .inr (nx_z X t (nx_z X t a), shT_z T f (vT_z X t (nx_z X t a)), n, f + 1) else .inl (nx_z X t a)) := by
  have hf3 := z.iv.f3
  have h3 : nI f = 3 ↔ f = 3 := by rw [nI_lit_z, nI_inj_z (by omega) (by omega)]
  unfold F_X6_takesShip
  rw [z.an, z.iv.t1]
  by_cases q : 3 ≤ f
  · rw [if_pos (h3.mpr (by omega)), if_pos q]; exact ⟨s, rfl, FrM_z.refl _, z.mk.st⟩
  · obtain ⟨sa, a1, a2, a3, a4⟩ := x6_next_z z
    rw [if_neg (fun u => by have := h3.mp u; omega), if_neg q, a1, bd_some_z, show F_X6_takes sa 0 0 5 = F_X6_takes sa (nI 0) (nI 0) (nI 6 - 1) by rw [i_c5_z]; rfl]
    cases ok : tOK_z X t (nx_z X t a) 0 6 with
    | false =>
      rw [(x6_takes_z a4.ty a4.mk a4.le (by omega) (by omega) (by omega)).1 ok, bi_some_z, if_pos rfl]
      exact ⟨sa, rfl, a2, a4.mk.st⟩
    | true =>
      obtain ⟨sb, b1, b2, b3, b4⟩ := x6_take_z a4 (i := 0) (by omega) (by omega) (by omega) ok
      have hv : vT_z X t (nx_z X t a) < 6 := by unfold tOK_z at ok; simp only [Bool.and_eq_true, decide_eq_true_eq] at ok; exact ok.2.2
      have e17 : (17 : Int32) + nI f = nI (17 + f) := nI_add_z 17 f
      obtain ⟨m1, m2⟩ := b4.set (b4.iv.ship (v := vT_z X t (nx_z X t a)) (by omega) hv)
      refine ⟨me_arr sb 101 (shT_z T f (vT_z X t (nx_z X t a))), ?_, (a2.trans b2).trans m2, m1⟩
      rw [b1, bi_some_z, if_neg i_10_z, b4.an, z.iv.t1, e17, if_pos (by rw [nI_inb_z (by omega)]; omega), nI_nat_z (by omega), b3, upd_same_z, nm_eq_z, nm_eq_z]
      rw [ms_arr_z, ms_arr_z, ma_same_z, ma_ma_z, b4.an, upd_ne_z _ _ (show 1 ≠ 17 + f by omega), z.iv.t1, nI_s_z]
      rfl
theorem x6_layM_z {s : Me_} {T : Nat → Int32} {n f k w p : Nat} (iv : Iv_z T n f) (hn : n < 8) (h : s.1 101 = T) : F_X6_layMan s 101 104 (nI k) (nI w) (nI p) = some (me_arr s 101 (mnT_z T n k w p)) := by
  have e20 : (20 : Int32) + nI n = nI (20 + n) := nI_add_z 20 n
  have e28 : (28 : Int32) + nI n = nI (28 + n) := nI_add_z 28 n
  have e6 : (6 : Int32) + nI n = nI (6 + n) := nI_add_z 6 n
  have z0 : (0 : Int32).toNatClampNeg = 0 := by decide
  have b0 : inb_ 0 104 = true := by decide
  unfold F_X6_layMan
  rw [if_pos b0, z0, h, iv.t0, nm_eq_z, e20, e28, e6, if_pos (by rw [nI_inb_z (by omega)]; omega), nm_eq_z, if_pos (by rw [nI_inb_z (by omega)]; omega), nm_eq_z, if_pos (by rw [nI_inb_z (by omega)]; omega), nm_eq_z, if_pos b0, if_pos b0, nm_eq_z, nI_nat_z (by omega), nI_nat_z (by omega), nI_nat_z (by omega)]
  simp only [ms_arr_z, ma_same_z, ma_ma_z, h]
  rw [upd_ne_z _ _ (show 0 ≠ 6 + n by omega), upd_ne_z _ _ (show 0 ≠ 28 + n by omega), upd_ne_z _ _ (show 0 ≠ 20 + n by omega), iv.t0, nI_s_z]
  rfl
theorem x6_tman_z {s : Me_} {X : Nat → Nat} {t a : Nat} {T : Nat → Int32} {n f : Nat} (z : Mi_z s X t a T n f) : MiR_z s X t (F_X6_takesMan s) (if 8 ≤ n then .inl a else if tOK_z X t (nx_z X t a) 0 6 = true then
      (if tOK_z X t (nx_z X t (nx_z X t a)) 1 10 = true then
        (if tkK_z X t (nx_z X t (nx_z X t (nx_z X t a))) = 2 ∧ (vT_z X t (nx_z X t (nx_z X t (nx_z X t a))) = 9 ∨ vT_z X t (nx_z X t (nx_z X t (nx_z X t a))) < f) then
          .inr (nx_z X t (nx_z X t (nx_z X t (nx_z X t a))), mnT_z T n (vT_z X t (nx_z X t a)) (vT_z X t (nx_z X t (nx_z X t a))) (if vT_z X t (nx_z X t (nx_z X t (nx_z X t a))) = 9 then 0 else vT_z X t (nx_z X t (nx_z X t (nx_z X t a))) + 1), n + 1, f)
         else .inl (nx_z X t (nx_z X t (nx_z X t a))))
       else .inl (nx_z X t (nx_z X t a)))
     else .inl (nx_z X t a)) := by
  have hf3 := z.iv.f3
  have hn8 := z.iv.n8
  have h8 : nI n = 8 ↔ n = 8 := by rw [nI_lit_z, nI_inj_z (by omega) (by omega)]
  unfold F_X6_takesMan
  rw [z.an, z.iv.t0]
  by_cases q : 8 ≤ n
  · rw [if_pos (h8.mpr (by omega)), if_pos q]; exact ⟨s, rfl, FrM_z.refl _, z.mk.st⟩
  obtain ⟨sa, a1, a2, a3, a4⟩ := x6_next_z z
  rw [if_neg (fun u => by have := h8.mp u; omega), if_neg q, a1, bd_some_z, show F_X6_takes sa 0 0 5 = F_X6_takes sa (nI 0) (nI 0) (nI 6 - 1) by rw [i_c5_z]; rfl]
  cases ok : tOK_z X t (nx_z X t a) 0 6 with
  | false =>
    rw [(x6_takes_z a4.ty a4.mk a4.le (by omega) (by omega) (by omega)).1 ok, bi_some_z, if_pos rfl]
    exact ⟨sa, rfl, a2, a4.mk.st⟩
  | true =>
    obtain ⟨sb, b1, b2, b3, b4⟩ := x6_take_z a4 (i := 0) (by omega) (by omega) (by omega) ok
    have hv : vT_z X t (nx_z X t a) < 6 := by unfold tOK_z at ok; simp only [Bool.and_eq_true, decide_eq_true_eq] at ok; exact ok.2.2
    rw [b1, bi_some_z, if_neg i_10_z, if_pos (show true = true from rfl), show F_X6_takes sb 1 1 9 = F_X6_takes sb (nI 1) (nI 1) (nI 10 - 1) by rw [i_c9_z]; rfl]
    cases ok2 : tOK_z X t (nx_z X t (nx_z X t a)) 1 10 with
    | false =>
      rw [(x6_takes_z b4.ty b4.mk b4.le (by omega) (by omega) (by omega)).1 ok2, bi_some_z, if_pos rfl, nm_eq_z, if_pos rfl]
      exact ⟨sb, rfl, a2.trans b2, b4.mk.st⟩
    | true =>
      obtain ⟨sc, e1, e2, e3, e4⟩ := x6_take_z b4 (i := 1) (by omega) (by omega) (by omega) ok2
      have hv2 : 1 ≤ vT_z X t (nx_z X t (nx_z X t a)) ∧ vT_z X t (nx_z X t (nx_z X t a)) < 10 := by unfold tOK_z at ok2; simp only [Bool.and_eq_true, decide_eq_true_eq] at ok2; exact ok2.2
      rw [e1, bi_some_z, if_neg i_10_z, if_pos (show true = true from rfl), e4.an, z.iv.t1, e4.mk.tk]
      generalize hA : nx_z X t (nx_z X t (nx_z X t a)) = A at *
      have hK := tkK_le_z X t A
      have k2 : nI (tkK_z X t A) = 2 ↔ tkK_z X t A = 2 := by rw [nI_lit_z, nI_inj_z (by omega) (by omega)]
      by_cases cK : tkK_z X t A = 2
      · have hvA := vT_lt_z e4.le cK
        have hval : sc.1 90 16 = nI (vT_z X t A) := e4.mk.vl cK
        have h9 : nI (vT_z X t A) = 9 ↔ vT_z X t A = 9 := by rw [nI_lit_z, nI_inj_z (by omega) (by omega)]
        have hin : nI f ≤ nI (vT_z X t A) ↔ f ≤ vT_z X t A := nI_le_z (by omega) (by omega)
        rw [if_pos (k2.mpr cK), hval]
        have hgo : ∀ p, p = (if vT_z X t A = 9 then 0 else vT_z X t A + 1) → p ≤ f → tOK_z X t A 0 10 = true → ∃ s', (bi_ (F_X6_takes sc (2 : Int32) (0 : Int32) (9 : Int32)) fun r_2 σ_4 => if r_2 = (0 : Int32) then some ((0 : Int32), σ_4) else nm_ (α := Int32) (if (σ_4.1 102 2) = (9 : Int32) then (0 : Int32) else (σ_4.1 102 2) + (1 : Int32)) fun v => Option.bind (F_X6_layMan σ_4 101 104 (σ_4.1 102 0) (σ_4.1 102 1) v) fun σ_5 => some ((1 : Int32), σ_5)) = some (1, s') ∧ FrM_z s s' ∧ Mi_z s' X t (nx_z X t A) (mnT_z T n (vT_z X t (nx_z X t a)) (vT_z X t (nx_z X t (nx_z X t a))) p) (n + 1) f := by
          intro p hp hpf ok3
          obtain ⟨sd, g1, g2, g3, g4⟩ := x6_take_z e4 (i := 2) (by omega) (by omega) (by omega) ok3
          have hx : (if nI (vT_z X t A) = 9 then (0 : Int32) else nI (vT_z X t A) + 1) = nI p := by
            by_cases q9 : vT_z X t A = 9
            · rw [if_pos (h9.mpr q9), hp, if_pos q9]; rfl
            · rw [if_neg (fun u => q9 (h9.mp u)), hp, if_neg q9, nI_s_z]
          obtain ⟨m1, m2⟩ := g4.set (g4.iv.man (k := vT_z X t (nx_z X t a)) (s := vT_z X t (nx_z X t (nx_z X t a))) (p := p) (by omega) hv hv2.1 hv2.2 hpf)
          refine ⟨_, ?_, (((a2.trans b2).trans e2).trans g2).trans m2, m1⟩
          rw [show F_X6_takes sc 2 0 9 = F_X6_takes sc (nI 2) (nI 0) (nI 10 - 1) by rw [i_c9_z]; rfl, g1, bi_some_z, if_neg i_10_z, g3, upd_same_z, nm_eq_z, hx, upd_ne_z _ _ (show 0 ≠ 2 by omega), upd_ne_z _ _ (show 1 ≠ 2 by omega), e3, upd_same_z, upd_ne_z _ _ (show 0 ≠ 1 by omega), b3, upd_same_z, x6_layM_z g4.iv (by omega) g4.an, bd_some_z]
        by_cases q9 : vT_z X t A = 9
        · rw [if_pos (h9.mpr q9), nm_eq_z, if_neg (by decide), if_pos ⟨cK, Or.inl q9⟩]
          exact hgo _ rfl (by rw [if_pos q9]; omega) (by unfold tOK_z; rw [cK, q9]; rfl)
        · rw [if_neg (fun u => q9 (h9.mp u))]
          by_cases qf : vT_z X t A < f
          · rw [if_neg (fun u => by have := hin.mp u; omega), nm_eq_z, if_neg (by decide), if_pos ⟨cK, Or.inr qf⟩]
            exact hgo _ rfl (by rw [if_neg q9]; omega) (by unfold tOK_z; simp only [cK, show vT_z X t A < 10 by omega, decide_true, Nat.zero_le, Bool.and_self])
          · rw [if_pos (hin.mpr (by omega)), nm_eq_z, if_pos rfl, if_neg (fun u => by rcases u.2 with u | u <;> omega)]
            exact ⟨sc, rfl, (a2.trans b2).trans e2, e4.mk.st⟩
      · rw [if_neg (fun u => cK (k2.mp u)), nm_eq_z, if_pos rfl, if_neg (fun u => cK u.1)]
        exact ⟨sc, rfl, (a2.trans b2).trans e2, e4.mk.st⟩
theorem x6_tcall_z {s : Me_} {X : Nat → Nat} {t a : Nat} {T : Nat → Int32} {n f : Nat} (z : Mi_z s X t a T n f) : MiR_z s X t (F_X6_takesCall s) (if tOK_z X t (nx_z X t a) 0 f = true ∧ cnt_z T (nI (vT_z X t (nx_z X t a) + 1)) n ≠ 0 then .inr (nx_z X t (nx_z X t a), gcr_z T (vT_z X t (nx_z X t a)) n, n, f) else .inl (nx_z X t a)) := by
  have hf3 := z.iv.f3
  have hn8 := z.iv.n8
  unfold F_X6_takesCall
  obtain ⟨sa, a1, a2, a3, a4⟩ := x6_next_z z
  rw [a1, bd_some_z, a4.an, z.iv.t1, a4.mk.tk]
  generalize hA : nx_z X t a = A at *
  have hK := tkK_le_z X t A
  have k2 : nI (tkK_z X t A) = 2 ↔ tkK_z X t A = 2 := by rw [nI_lit_z, nI_inj_z (by omega) (by omega)]
  by_cases cK : tkK_z X t A = 2
  · have hvA := vT_lt_z a4.le cK
    have hval : sa.1 90 16 = nI (vT_z X t A) := a4.mk.vl cK
    have hin : (F_X6_in (nI (vT_z X t A)).toInt64 (0 : Int64) (nI f - 1 : Int32).toInt64 = 0) ↔ ¬ vT_z X t A < f := by
      rw [in_no_z, nI_pred64_z (by omega), nI_int_z (by omega), show (0 : Int64).toInt = 0 from by decide]; omega
    rw [if_pos (k2.mpr cK), hval]
    by_cases qf : vT_z X t A < f
    · have ok : tOK_z X t A 0 f = true := by unfold tOK_z; simp only [cK, qf, decide_true, Nat.zero_le, Bool.and_self]
      rw [if_neg (fun u => hin.mp u qf), nm_eq_z, if_neg (by decide), x6_aboard_z a4.an a4.iv (by omega), bd_some_z, nI_s_z]
      by_cases qc : cnt_z T (nI (vT_z X t A + 1)) n = 0
      · rw [if_pos ((cnt_z_z hn8).mpr qc), if_neg (fun u => u.2 qc)]
        exact ⟨sa, rfl, a2, a4.mk.st⟩
      · obtain ⟨m1, m2⟩ := a4.set (a4.iv.gcr_z qf)
        obtain ⟨sb, b1, b2, b3, b4⟩ := x6_next_z m1
        rw [if_neg (fun u => qc ((cnt_z_z hn8).mp u)), x6_goCall_z a4.an a4.iv (by omega) qf, bi_some_z, b1, bd_some_z, if_pos ⟨ok, qc⟩]
        exact ⟨sb, rfl, (a2.trans m2).trans b2, b4⟩
    · have ok : ¬ tOK_z X t A 0 f = true := by unfold tOK_z; simp only [cK, qf, decide_true, decide_false, Bool.and_false, Bool.false_eq_true, not_false_eq_true]
      rw [if_pos (hin.mpr qf), nm_eq_z, if_pos rfl, if_neg (fun u => ok u.1)]
      exact ⟨sa, rfl, a2, a4.mk.st⟩
  · have ok : ¬ tOK_z X t A 0 f = true := by unfold tOK_z; simp only [cK, decide_false, Bool.false_and, Bool.false_eq_true, not_false_eq_true]
    rw [if_neg (fun u => cK (k2.mp u)), nm_eq_z, if_pos rfl, if_neg (fun u => ok u.1)]
    exact ⟨sa, rfl, a2, a4.mk.st⟩
theorem x6_tboard_z {s : Me_} {X : Nat → Nat} {t a : Nat} {T : Nat → Int32} {n f : Nat} (z : Mi_z s X t a T n f) : MiR_z s X t (F_X6_takesBoard s) (if tOK_z X t (nx_z X t a) 0 f = true then
      (if tOK_z X t (nx_z X t (nx_z X t a)) 0 n = true ∧ T (6 + vT_z X t (nx_z X t (nx_z X t a))) = 0 then .inr (nx_z X t (nx_z X t (nx_z X t a)), upd T (6 + vT_z X t (nx_z X t (nx_z X t a))) (nI (vT_z X t (nx_z X t a) + 1)), n, f) else .inl (nx_z X t (nx_z X t a)))
     else .inl (nx_z X t a)) := by
  have hf3 := z.iv.f3
  have hn8 := z.iv.n8
  unfold F_X6_takesBoard
  obtain ⟨sa, a1, a2, a3, a4⟩ := x6_next_z z
  rw [a1, bd_some_z, a4.an, z.iv.t1, show F_X6_takes sa 0 0 (nI f - 1) = F_X6_takes sa (nI 0) (nI 0) (nI f - 1) from rfl]
  generalize hA : nx_z X t a = A at *
  cases ok : tOK_z X t A 0 f with
  | false =>
    rw [(x6_takes_z a4.ty a4.mk a4.le (by omega) (by omega) (by omega)).1 ok, bi_some_z, if_pos rfl]
    exact ⟨sa, rfl, a2, a4.mk.st⟩
  | true =>
    obtain ⟨sb, b1, b2, b3, b4⟩ := x6_take_z a4 (i := 0) (by omega) (by omega) (by omega) ok
    have hv : vT_z X t A < f := by unfold tOK_z at ok; simp only [Bool.and_eq_true, decide_eq_true_eq] at ok; exact ok.2.2
    rw [b1, bi_some_z, if_neg i_10_z, if_pos (show true = true from rfl), b4.an, z.iv.t0, b4.mk.tk]
    generalize hB : nx_z X t A = B at *
    have hK := tkK_le_z X t B
    have k2 : nI (tkK_z X t B) = 2 ↔ tkK_z X t B = 2 := by rw [nI_lit_z, nI_inj_z (by omega) (by omega)]
    by_cases cK : tkK_z X t B = 2
    · have hvB := vT_lt_z b4.le cK
      have hval : sb.1 90 16 = nI (vT_z X t B) := b4.mk.vl cK
      have hin : (F_X6_in (nI (vT_z X t B)).toInt64 (0 : Int64) (nI n - 1 : Int32).toInt64 = 0) ↔ ¬ vT_z X t B < n := by
        rw [in_no_z, nI_pred64_z (by omega), nI_int_z (by omega), show (0 : Int64).toInt = 0 from by decide]; omega
      have e6 : (6 : Int32) + nI (vT_z X t B) = nI (6 + vT_z X t B) := nI_add_z 6 _
      rw [if_pos (k2.mpr cK), hval]
      by_cases qn : vT_z X t B < n
      · have ok2 : tOK_z X t B 0 n = true := by unfold tOK_z; simp only [cK, qn, decide_true, Nat.zero_le, Bool.and_self]
        have hb : inb_ (nI (6 + vT_z X t B)) 104 = true := by rw [nI_inb_z (by omega)]; omega
        rw [if_neg (fun u => hin.mp u qn), e6, if_pos hb, nI_nat_z (by omega)]
        by_cases q0 : T (6 + vT_z X t B) = 0
        · obtain ⟨m1, m2⟩ := b4.set (b4.iv.put (p := vT_z X t A + 1) qn (by omega))
          obtain ⟨sc, e1, e2, e3, e4⟩ := x6_next_z m1
          rw [if_pos q0, if_pos hb, b3, upd_same_z, nI_s_z, nm_eq_z, ms_arr_z, b4.an, e1, bd_some_z, if_pos ⟨ok2, q0⟩]
          exact ⟨sc, rfl, ((a2.trans b2).trans m2).trans e2, e4⟩
        · rw [if_neg q0, if_neg (fun u => q0 u.2)]
          exact ⟨sb, rfl, a2.trans b2, b4.mk.st⟩
      · have ok2 : ¬ tOK_z X t B 0 n = true := by unfold tOK_z; simp only [cK, qn, decide_true, decide_false, Bool.and_false, Bool.false_eq_true, not_false_eq_true]
        rw [if_pos (hin.mpr qn), if_neg (fun u => ok2 u.1)]
        exact ⟨sb, rfl, a2.trans b2, b4.mk.st⟩
    · have ok2 : ¬ tOK_z X t B 0 n = true := by unfold tOK_z; simp only [cK, decide_false, Bool.false_and, Bool.false_eq_true, not_false_eq_true]
      rw [if_neg (fun u => cK (k2.mp u)), if_neg (fun u => ok2 u.1)]
      exact ⟨sb, rfl, a2.trans b2, b4.mk.st⟩
theorem x6_item_z {s : Me_} {X : Nat → Nat} {t a : Nat} {T : Nat → Int32} {n f : Nat} (z : Mi_z s X t a T n f) : MiR_z s X t (F_X6_takesItem s) (itm_z X t a T n f) := by
  have w1 : F_X6_spells s 4 115 104 105 112 0 0 = some (bI_z (wd_z X t a 1)) := x6_word_z z.ty z.mk z.le (by omega) rfl (by decide)
  have w2 : F_X6_spells s 3 109 97 110 0 0 0 = some (bI_z (wd_z X t a 2)) := x6_word_z z.ty z.mk z.le (by omega) rfl (by decide)
  have w3 : F_X6_spells s 4 99 97 108 108 0 0 = some (bI_z (wd_z X t a 3)) := x6_word_z z.ty z.mk z.le (by omega) rfl (by decide)
  have w4 : F_X6_spells s 5 98 111 97 114 100 0 = some (bI_z (wd_z X t a 4)) := x6_word_z z.ty z.mk z.le (by omega) rfl (by decide)
  unfold F_X6_takesItem itm_z
  rw [w1, bd_some_z]
  by_cases c1 : wd_z X t a 1 = true
  · rw [if_neg (fun u => (bI_z_z _).mp u c1), if_pos c1]; exact (x6_tship_z z).and
  rw [if_pos ((bI_z_z _).mpr c1), if_neg c1, w2, bd_some_z]
  by_cases c2 : wd_z X t a 2 = true
  · rw [if_neg (fun u => (bI_z_z _).mp u c2), if_pos c2]; exact (x6_tman_z z).and
  rw [if_pos ((bI_z_z _).mpr c2), if_neg c2, w3, bd_some_z]
  by_cases c3 : wd_z X t a 3 = true
  · rw [if_neg (fun u => (bI_z_z _).mp u c3), if_pos c3]; exact (x6_tcall_z z).and
  rw [if_pos ((bI_z_z _).mpr c3), if_neg c3, w4, bd_some_z]
  by_cases c4 : wd_z X t a 4 = true
  · rw [if_neg (fun u => (bI_z_z _).mp u c4), if_pos c4]; exact (x6_tboard_z z).zo
  · rw [if_pos ((bI_z_z _).mpr c4), if_neg c4]; exact ⟨s, rfl, FrM_z.refl _, z.mk.st⟩
