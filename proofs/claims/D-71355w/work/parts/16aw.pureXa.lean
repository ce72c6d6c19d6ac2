set_option maxRecDepth 100000
set_option linter.unusedSimpArgs false
set_option linter.unusedVariables false

/-! PURE Xa: calls of one ship do not heed the others' -/
def Ag_z (u n : Nat) (T T' : Nat → Int32) : Prop :=
  (∀ m, m < n → (T (6 + m) = nI (u + 1) ↔ T' (6 + m) = nI (u + 1))) ∧
  (T (14 + u) = T' (14 + u)) ∧
  (∀ m, m < n → T (20 + m) = T' (20 + m)) ∧
  (∀ m, m < n → T (28 + m) = T' (28 + m))
theorem Ag_z.me {u n : Nat} {T T' : Nat → Int32} (h : Ag_z u n T T') : ∀ m, m < n → (T (6 + m) = nI (u + 1) ↔ T' (6 + m) = nI (u + 1)) := h.1
theorem Ag_z.ca {u n : Nat} {T T' : Nat → Int32} (h : Ag_z u n T T') : T (14 + u) = T' (14 + u) := h.2.1
theorem Ag_z.kd {u n : Nat} {T T' : Nat → Int32} (h : Ag_z u n T T') : ∀ m, m < n → T (20 + m) = T' (20 + m) := h.2.2.1
theorem Ag_z.sk {u n : Nat} {T T' : Nat → Int32} (h : Ag_z u n T T') : ∀ m, m < n → T (28 + m) = T' (28 + m) := h.2.2.2
theorem Ag_z.refl (u n : Nat) (T : Nat → Int32) : Ag_z u n T T := ⟨fun _ _ => Iff.rfl, rfl, fun _ _ => rfl, fun _ _ => rfl⟩
theorem Ag_z.trans {u n : Nat} {T T' U : Nat → Int32} (h : Ag_z u n T T') (k : Ag_z u n T' U) : Ag_z u n T U := ⟨fun m hm => (h.me m hm).trans (k.me m hm), h.ca.trans k.ca, fun m hm => (h.kd m hm).trans (k.kd m hm), fun m hm => (h.sk m hm).trans (k.sk m hm)⟩
theorem lkT_ag_z {u n : Nat} {T T' : Nat → Int32} (h : Ag_z u n T T') {m : Nat} (hm : m < n) : lkT_z T m u = lkT_z T' m u := by
  unfold lkT_z; rw [h.kd m hm, h.sk m hm, h.ca]
theorem lst_ag_z {u n : Nat} {T T' : Nat → Int32} (h : Ag_z u n T T') : ∀ k, k ≤ n → lst_z T u k = lst_z T' u k := by
  intro k
  induction k with
  | zero => intro _; rfl
  | succ k ih =>
    intro hk
    rw [lst_z, lst_z, ih (by omega)]
    cases e : lst_z T' u k with
    | none =>
      simp only []
      by_cases c : T (6 + k) = nI (u + 1)
      · rw [if_pos c, if_pos ((h.me k (by omega)).mp c)]
      · rw [if_neg c, if_neg (fun t => c ((h.me k (by omega)).mpr t))]
    | some b =>
      have hb := (lst_lt_z T' u k b e).1
      simp only []
      rw [lkT_ag_z h (show b < n by omega), lkT_ag_z h (show k < n by omega)]
      by_cases c : T (6 + k) = nI (u + 1)
      · rw [if_pos c, if_pos ((h.me k (by omega)).mp c)]
      · rw [if_neg c, if_neg (fun t => c ((h.me k (by omega)).mpr t))]
theorem z_ne_z {u : Nat} (h : u < 3) : ¬ (0 : Int32) = nI (u + 1) := by
  rw [nI_lit_z, nI_inj_z (by omega) (by omega)]; omega
theorem gcr_ag_z {u n : Nat} {T T' : Nat → Int32} (h : Ag_z u n T T') (hu : u < 3) (hn : n ≤ 8) : Ag_z u n (gcr_z T u n) (gcr_z T' u n) := by
  have e := lst_ag_z h n (Nat.le_refl _)
  cases e' : lst_z T' u n with
  | none => rw [gcr_none_z e', gcr_none_z (by rw [e, e'])]; exact h
  | some m =>
    have hm := (lst_lt_z T' u n m e').1
    rw [gcr_some_z e', gcr_some_z (m := m) (by rw [e, e'])]
    refine ⟨?_, ?_, ?_, ?_⟩
    · intro k hk
      by_cases q : k = m
      · subst q; simp (disch := omega) only [ms_ne_z, ms_same_z, upd_ne_z, upd_same_z]
      · simp (disch := omega) only [ms_ne_z, ms_same_z, upd_ne_z, upd_same_z]; exact h.me k hk
    · simp (disch := omega) only [ms_ne_z, ms_same_z, upd_ne_z, upd_same_z]; rw [h.ca]
    · intro k hk; simp (disch := omega) only [ms_ne_z, ms_same_z, upd_ne_z, upd_same_z]; exact h.kd k hk
    · intro k hk; simp (disch := omega) only [ms_ne_z, ms_same_z, upd_ne_z, upd_same_z]; exact h.sk k hk
theorem gcr_oth_z {u v n : Nat} {T : Nat → Int32} (hu : u < 3) (hv : v < 3) (hq : u ≠ v) (hn : n ≤ 8) : Ag_z u n T (gcr_z T v n) := by
  cases e : lst_z T v n with
  | none => rw [gcr_none_z e]; exact Ag_z.refl _ _ _
  | some m =>
    obtain ⟨hm, hp⟩ := lst_lt_z T v n m e
    rw [gcr_some_z e]
    refine ⟨?_, ?_, ?_, ?_⟩
    · intro k hk
      rw [upd_ne_z _ _ (by omega)]
      by_cases q : k = m
      · subst q; rw [upd_same_z, hp]
        refine ⟨fun t => ?_, fun t => absurd t (z_ne_z hu)⟩
        rw [nI_inj_z (by omega) (by omega)] at t; omega
      · rw [upd_ne_z _ _ (by omega)]
    · rw [upd_ne_z _ _ (by omega), upd_ne_z _ _ (by omega)]
    · intro k hk; rw [upd_ne_z _ _ (by omega), upd_ne_z _ _ (by omega)]
    · intro k hk; rw [upd_ne_z _ _ (by omega), upd_ne_z _ _ (by omega)]
theorem itr_ag_z {u n : Nat} {T T' : Nat → Int32} (h : Ag_z u n T T') (hu : u < 3) (hn : n ≤ 8) (k : Nat) : Ag_z u n (itr_z T u n k) (itr_z T' u n k) := by
  induction k with
  | zero => exact h
  | succ k ih => exact gcr_ag_z ih hu hn
theorem itr_oth_z {u v n : Nat} {T : Nat → Int32} (hu : u < 3) (hv : v < 3) (hq : u ≠ v) (hn : n ≤ 8) (k : Nat) : Ag_z u n T (itr_z T v n k) := by
  induction k with
  | zero => exact Ag_z.refl _ _ _
  | succ k ih => exact ih.trans (gcr_oth_z hu hv hq hn)
/-- skills in Nat -/
def skN_z (T : Nat → Int32) (p : Int32) : Nat → Nat
  | 0 => 0
  | k + 1 => skN_z T p k + if T (6 + k) = p then (T (28 + k)).toNatClampNeg else 0
theorem sks_N_z {T : Nat → Int32} {n f : Nat} (iv : Iv_z T n f) (p : Int32) : ∀ k, k ≤ n → sks_z T p k = nI (skN_z T p k) ∧ skN_z T p k ≤ 9 * k := by
  have := iv.n8
  intro k
  induction k with
  | zero => intro _; exact ⟨rfl, Nat.le_refl _⟩
  | succ k ih =>
    intro hk
    obtain ⟨e, hl⟩ := ih (by omega)
    obtain ⟨s, _, hs, es⟩ := iv.sk k (by omega)
    rw [sks_z, skN_z, e]
    by_cases c : T (6 + k) = p
    · rw [if_pos c, if_pos c, es, nI_nat_z (by omega), nI_add_z]; exact ⟨rfl, by omega⟩
    · rw [if_neg c, if_neg c, i_zadd_z]; exact ⟨rfl, by omega⟩
theorem skN_upd_z {T : Nat → Int32} {m : Nat} (h0 : ¬ T (6 + m) = 0) (hm : m < 8) : ∀ k, k ≤ 8 → skN_z (upd T (6 + m) 0) 0 k = skN_z T 0 k + if m < k then (T (28 + m)).toNatClampNeg else 0 := by
  intro k
  induction k with
  | zero => intro _; rfl
  | succ k ih =>
    intro hk
    rw [skN_z, skN_z, ih (by omega)]
    by_cases q : k = m
    · subst q
      rw [upd_same_z, if_pos rfl, upd_ne_z _ _ (by omega), if_neg h0, if_neg (by omega), if_pos (by omega)]
    · rw [upd_ne_z _ _ (show 6 + k ≠ 6 + m by omega), upd_ne_z _ _ (show 28 + k ≠ 6 + m by omega)]
      generalize (if T (6 + k) = 0 then (T (28 + k)).toNatClampNeg else 0) = t
      by_cases r : m < k
      · rw [if_pos r, if_pos (by omega)]; omega
      · rw [if_neg r, if_neg (by omega)]; omega
theorem skN_congr_z {T T' : Nat → Int32} {p : Int32} : ∀ k, (∀ m, m < k → T' (6 + m) = T (6 + m) ∧ T' (28 + m) = T (28 + m)) → skN_z T' p k = skN_z T p k := by
  intro k
  induction k with
  | zero => intro _; rfl
  | succ k ih => intro h; rw [skN_z, skN_z, ih (fun m hm => h m (by omega)), (h k (by omega)).1, (h k (by omega)).2]
/-- what a call gains -/
def gn1_z (T : Nat → Int32) (u n : Nat) : Nat := match lst_z T u n with
  | none => 0
  | some m => (T (28 + m)).toNatClampNeg
theorem skN_gcr_z {T : Nat → Int32} {n f u : Nat} (iv : Iv_z T n f) (hu : u < f) : skN_z (gcr_z T u n) 0 n = skN_z T 0 n + gn1_z T u n := by
  have := iv.n8; have := iv.f3
  unfold gn1_z
  cases e : lst_z T u n with
  | none => rw [gcr_none_z e]; rfl
  | some m =>
    obtain ⟨hm, hp⟩ := lst_lt_z T u n m e
    rw [gcr_some_z e, skN_congr_z (T := upd T (6 + m) 0) n (fun k hk => ⟨upd_ne_z _ _ (by omega), upd_ne_z _ _ (by omega)⟩), skN_upd_z (by rw [hp]; exact fun t => z_ne_z (show u < 3 by omega) t.symm) (by omega) n (by omega), if_pos hm]
theorem gn1_ag_z {u n : Nat} {T T' : Nat → Int32} (h : Ag_z u n T T') : gn1_z T u n = gn1_z T' u n := by
  unfold gn1_z
  rw [lst_ag_z h n (Nat.le_refl _)]
  cases e : lst_z T' u n with
  | none => rfl
  | some m => simp only []; rw [h.sk m (lst_lt_z T' u n m e).1]
def gns_z (T : Nat → Int32) (u n : Nat) : Nat → Nat
  | 0 => 0
  | k + 1 => gns_z T u n k + gn1_z (itr_z T u n k) u n
theorem gns_ag_z {u n : Nat} {T T' : Nat → Int32} (h : Ag_z u n T T') (hu : u < 3) (hn : n ≤ 8) (k : Nat) : gns_z T u n k = gns_z T' u n k := by
  induction k with
  | zero => rfl
  | succ k ih => rw [gns_z, gns_z, ih, gn1_ag_z (itr_ag_z h hu hn k)]
theorem skN_itr_z {T : Nat → Int32} {n f u : Nat} (iv : Iv_z T n f) (hu : u < f) (k : Nat) : skN_z (itr_z T u n k) 0 n = skN_z T 0 n + gns_z T u n k := by
  induction k with
  | zero => rfl
  | succ k ih => rw [itr_z, skN_gcr_z (itr_iv_z iv hu k) hu, ih, gns_z]; omega
theorem cnt_itr_z {T : Nat → Int32} {n f u : Nat} (iv : Iv_z T n f) (hu : u < f) : ∀ k, k ≤ cnt_z T (nI (u + 1)) n → cnt_z (itr_z T u n k) (nI (u + 1)) n + k = cnt_z T (nI (u + 1)) n := by
  intro k
  induction k with
  | zero => intro _; rfl
  | succ k ih =>
    intro hk
    have ih := ih (by omega)
    cases e : lst_z (itr_z T u n k) u n with
    | none => have := (lst_none_z _ _ _).mp e; omega
    | some m => have := cnt_gcr_z (itr_iv_z iv hu k) hu e; rw [itr_z]; omega
theorem cnt_ag_z {u n : Nat} {T T' : Nat → Int32} (h : Ag_z u n T T') : ∀ k, k ≤ n → cnt_z T (nI (u + 1)) k = cnt_z T' (nI (u + 1)) k := by
  intro k
  induction k with
  | zero => intro _; rfl
  | succ k ih =>
    intro hk
    rw [cnt_z, cnt_z, ih (by omega)]
    by_cases c : T (6 + k) = nI (u + 1)
    · rw [if_pos c, if_pos ((h.me k (by omega)).mp c)]
    · rw [if_neg c, if_neg (fun t => c ((h.me k (by omega)).mpr t))]
/-- folds -/
def fo_z {S : Type} (F : Nat → S → S) : Nat → S → S
  | 0, s => s
  | k + 1, s => F k (fo_z F k s)
theorem fo_congr_z {S : Type} {F G : Nat → S → S} : ∀ k, (∀ j, j < k → ∀ s, F j s = G j s) → ∀ s, fo_z F k s = fo_z G k s := by
  intro k
  induction k with
  | zero => intro _ _; rfl
  | succ k ih => intro h s; rw [fo_z, fo_z, ih (fun j hj => h j (by omega)), h k (by omega)]
theorem fo_add_z {S : Type} (F : Nat → S → S) (a : Nat) : ∀ b s, fo_z F (a + b) s = fo_z (fun j => F (a + j)) b (fo_z F a s) := by
  intro b
  induction b with
  | zero => intro s; rfl
  | succ b ih => intro s; rw [← Nat.add_assoc, fo_z, ih, fo_z]
theorem fo_mul_z {S : Type} (F : Nat → S → S) (B : Nat) : ∀ m s, fo_z F (B * m) s = fo_z (fun a s => fo_z (fun b => F (B * a + b)) B s) m s := by
  intro m
  induction m with
  | zero => intro s; rfl
  | succ m ih => intro s; rw [Nat.mul_succ, fo_add_z, ih, fo_z]
theorem fo_id_z {S : Type} {F : Nat → S → S} : ∀ k, (∀ j, j < k → ∀ s, F j s = s) → ∀ s, fo_z F k s = s := by
  intro k
  induction k with
  | zero => intro _ _; rfl
  | succ k ih => intro h s; rw [fo_z, ih (fun j hj => h j (by omega)), h k (by omega)]
theorem fo_cut_z {S : Type} (F : Nat → S → S) {M B : Nat} (h : M < B) (s : S) : fo_z (fun k s => if k ≤ M then F k s else s) B s = fo_z F (M + 1) s := by
  obtain ⟨d, rfl⟩ : ∃ d, B = M + 1 + d := ⟨B - (M + 1), by omega⟩
  rw [fo_add_z, fo_id_z d (fun j hj s => if_neg (by omega))]
  exact fo_congr_z _ (fun j hj s => if_pos (by omega)) s
