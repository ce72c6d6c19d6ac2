/-! IMAGE: LeftBehind.image and from: an island that is made while the law runs -/
set_option maxRecDepth 100000
/-- which images are there -/
def Img_ (G : GG_) (f : Nat → Int32) : Prop := (∀ i, (145 ≤ i ∧ i < 150) ∨ 185 ≤ i → gg_t G i = 0) ∧ ∀ j, j < 2 → (f j = 0 → ∀ k, k < 35 → gg_t G (110 + 40 * j + k) = 0) ∧ (f j ≠ 0 → IsB_ G (110 + 40 * j))
/-- the numbers b.. b + 34 get the addresses ad -/
def Gx_ (G : GG_) (b : Nat) (ad : Nat → Nat) : GG_ := (G.1, G.2.1, (fun j => if b ≤ j ∧ j < b + 35 then ad (j - b) else gg_r G j), (fun j => if b ≤ j ∧ j < b + 35 then itag_ (j - b) else gg_t G j), G.2.2.2.2)
/-- the memory of a new island -/
def nb_ (σ : Me_) (b : Nat) : Me_ := (fun j => if b ≤ j ∧ j < b + 35 then (if j = b + 1 ∨ j = b + 2 then (fun _ => -1) else (fun _ => 0)) else σ.1 j, σ.2)
def Ext_ (G G' : GG_) : Prop := Nu_ G' ∧ G'.1 = G.1 ∧ G'.2.1 = G.2.1 ∧ G'.2.2.2.2 = G.2.2.2.2 ∧ ∀ i, i < 110 → gg_r G' i = gg_r G i
theorem Gl_.ext {G G' : GG_} {s : State} (h : Gl_ G s) (hx : Ext_ G G') : Gl_ G' s := by
  obtain ⟨D, z, r, t, a⟩ := G
  obtain ⟨D', z', r', t', a'⟩ := G'
  obtain ⟨hN, h1, h2, h3, -⟩ := hx
  cases h1; cases h2; cases h3
  obtain ⟨k1, k2, k3, k4, k5, -, k7⟩ := h
  exact ⟨k1, k2, k3, k4, k5, hN, k7⟩
theorem arrV_below {cA : ClassId} {n : Nat} {f g : Nat → Value} (h : ∀ j, j < n → f j = g j) : arrV cA n f = arrV cA n g := by
  have h1 : (fun j : Fin n => f j.val) = fun j : Fin n => g j.val := funext fun j => h j.val j.isLt
  unfold arrV
  rw [h1]
theorem rk_null (G : GG_) (b : Nat) : rk_ G b (-1) = none := if_pos (by decide)
/-- a new island's cells are those of the numbering -/
theorem isl_at {G G' : GG_} {ad : Nat → Nat} {σ' : Me_} {b : Nat} (hr : ∀ k, k < 35 → gg_r G' (b + k) = ad k) (ha : gg_a G' = gg_a G) (hσ : ∀ k, k < 35 → σ'.1 (b + k) = if k = 1 ∨ k = 2 then (fun _ => -1) else (fun _ => 0)) : ∀ k, k < 35 → ∃ e, (isl_ G ad)[k]? = some (ad k, e) ∧ ∀ D H, va_at D cl_ (ad k, e) H → va_at D cl_ (ad k, cell_ G' (itag_ k) (b + k) (σ'.1 (b + k)) (σ'.2 (b + k))) H := by
  intro k hk
  rw [hσ k hk]
  match k, hk with
  | 0, _ =>
    refine ⟨_, rfl, fun D H h => ?_⟩
    show va_at D cl_ (ad 0, .inr (1, [.ref (gg_r G' (b + 0 + 1)), .int 0, .ref (gg_r G' (b + 0 + 2)), .ref (gg_r G' (b + 0 + 3)), .int 0, .ref (gg_r G' (b + 0 + 4)), .int 0, .ref (gg_r G' (b + 0 + 5)), .int 0, .ref (gg_r G' (b + 0 + 6)), .int 0, .ref (gg_r G' (b + 0 + 7)), .ref (gg_r G' (b + 0 + 10)), .int 0])) H
    rw [show gg_r G' (b + 0 + 1) = ad 1 from hr 1 (by decide), show gg_r G' (b + 0 + 2) = ad 2 from hr 2 (by decide), show gg_r G' (b + 0 + 3) = ad 3 from hr 3 (by decide), show gg_r G' (b + 0 + 4) = ad 4 from hr 4 (by decide), show gg_r G' (b + 0 + 5) = ad 5 from hr 5 (by decide), show gg_r G' (b + 0 + 6) = ad 6 from hr 6 (by decide), show gg_r G' (b + 0 + 7) = ad 7 from hr 7 (by decide), show gg_r G' (b + 0 + 10) = ad 10 from hr 10 (by decide)]
    exact h
  | 1, _ =>
    refine ⟨_, rfl, fun D H h => ?_⟩
    show va_at D cl_ (ad 1, .inl (gg_a G' 3, rq_ 3 (fun _ => rk_ G' 20 (-1)))) H
    rw [rk_null, ha]
    exact h
  | 2, _ =>
    refine ⟨_, rfl, fun D H h => ?_⟩
    show va_at D cl_ (ad 2, .inl (gg_a G' 4, rq_ 8 (fun _ => rk_ G' 30 (-1)))) H
    rw [rk_null, ha]
    exact h
  | 3, _ =>
    refine ⟨_, rfl, fun D H h => ?_⟩
    show va_at D cl_ (ad 3, .inl (gg_a G' 0, 8, .inl (fun _ => 0))) H
    rw [ha]
    exact h
  | 4, _ =>
    refine ⟨_, rfl, fun D H h => ?_⟩
    show va_at D cl_ (ad 4, .inl (gg_a G' 0, 20, .inl (fun _ => 0))) H
    rw [ha]
    exact h
  | 5, _ =>
    refine ⟨_, rfl, fun D H h => ?_⟩
    show va_at D cl_ (ad 5, .inl (gg_a G' 0, 24, .inl (fun _ => 0))) H
    rw [ha]
    exact h
  | 6, _ =>
    refine ⟨_, rfl, fun D H h => ?_⟩
    show va_at D cl_ (ad 6, .inl (gg_a G' 0, 24, .inl (fun _ => 0))) H
    rw [ha]
    exact h
  | 7, _ =>
    refine ⟨_, rfl, fun D H h => ?_⟩
    show va_at D cl_ (ad 7, .inr (2, [.ref (gg_r G' (b + 7 + 1)), .ref (gg_r G' (b + 7 + 2))])) H
    rw [show gg_r G' (b + 7 + 1) = ad 8 from hr 8 (by decide), show gg_r G' (b + 7 + 2) = ad 9 from hr 9 (by decide)]
    exact h
  | 8, _ =>
    refine ⟨_, rfl, fun D H h => ?_⟩
    show va_at D cl_ (ad 8, .inl (gg_a G' 0, 8, .inl (fun _ => 0))) H
    rw [ha]
    exact h
  | 9, _ =>
    refine ⟨_, rfl, fun D H h => ?_⟩
    show va_at D cl_ (ad 9, .inl (gg_a G' 0, 3, .inl (fun _ => 0))) H
    rw [ha]
    exact h
  | 10, _ =>
    refine ⟨_, rfl, fun D H h => ?_⟩
    show H[ad 10]? = some (arrV (gg_a G' 5) 8 (fun j => va_rf (some (gg_r G' (b + 10 + 1 + 3 * j)))))
    rw [ha]
    refine Eq.trans (show H[ad 10]? = some (arrV (gg_a G 5) 8 (fun j => va_rf ((va_up (va_up (va_up (va_up (va_up (va_up (va_up (va_up (fun _ => none) 0 (some (ad 11))) 1 (some (ad 14))) 2 (some (ad 17))) 3 (some (ad 20))) 4 (some (ad 23))) 5 (some (ad 26))) 6 (some (ad 29))) 7 (some (ad 32))) j))) from h) (congrArg some (arrV_below fun j hj => ?_))
    match j, hj with
    | 0, _ => rw [show gg_r G' (b + 10 + 1 + 3 * 0) = ad 11 from hr 11 (by decide)]; rfl
    | 1, _ => rw [show gg_r G' (b + 10 + 1 + 3 * 1) = ad 14 from hr 14 (by decide)]; rfl
    | 2, _ => rw [show gg_r G' (b + 10 + 1 + 3 * 2) = ad 17 from hr 17 (by decide)]; rfl
    | 3, _ => rw [show gg_r G' (b + 10 + 1 + 3 * 3) = ad 20 from hr 20 (by decide)]; rfl
    | 4, _ => rw [show gg_r G' (b + 10 + 1 + 3 * 4) = ad 23 from hr 23 (by decide)]; rfl
    | 5, _ => rw [show gg_r G' (b + 10 + 1 + 3 * 5) = ad 26 from hr 26 (by decide)]; rfl
    | 6, _ => rw [show gg_r G' (b + 10 + 1 + 3 * 6) = ad 29 from hr 29 (by decide)]; rfl
    | 7, _ => rw [show gg_r G' (b + 10 + 1 + 3 * 7) = ad 32 from hr 32 (by decide)]; rfl
  | 11, _ =>
    refine ⟨_, rfl, fun D H h => ?_⟩
    show va_at D cl_ (ad 11, .inr (2, [.ref (gg_r G' (b + 11 + 1)), .ref (gg_r G' (b + 11 + 2))])) H
    rw [show gg_r G' (b + 11 + 1) = ad 12 from hr 12 (by decide), show gg_r G' (b + 11 + 2) = ad 13 from hr 13 (by decide)]
    exact h
  | 12, _ =>
    refine ⟨_, rfl, fun D H h => ?_⟩
    show va_at D cl_ (ad 12, .inl (gg_a G' 0, 8, .inl (fun _ => 0))) H
    rw [ha]
    exact h
  | 13, _ =>
    refine ⟨_, rfl, fun D H h => ?_⟩
    show va_at D cl_ (ad 13, .inl (gg_a G' 0, 3, .inl (fun _ => 0))) H
    rw [ha]
    exact h
  | 14, _ =>
    refine ⟨_, rfl, fun D H h => ?_⟩
    show va_at D cl_ (ad 14, .inr (2, [.ref (gg_r G' (b + 14 + 1)), .ref (gg_r G' (b + 14 + 2))])) H
    rw [show gg_r G' (b + 14 + 1) = ad 15 from hr 15 (by decide), show gg_r G' (b + 14 + 2) = ad 16 from hr 16 (by decide)]
    exact h
  | 15, _ =>
    refine ⟨_, rfl, fun D H h => ?_⟩
    show va_at D cl_ (ad 15, .inl (gg_a G' 0, 8, .inl (fun _ => 0))) H
    rw [ha]
    exact h
  | 16, _ =>
    refine ⟨_, rfl, fun D H h => ?_⟩
    show va_at D cl_ (ad 16, .inl (gg_a G' 0, 3, .inl (fun _ => 0))) H
    rw [ha]
    exact h
  | 17, _ =>
    refine ⟨_, rfl, fun D H h => ?_⟩
    show va_at D cl_ (ad 17, .inr (2, [.ref (gg_r G' (b + 17 + 1)), .ref (gg_r G' (b + 17 + 2))])) H
    rw [show gg_r G' (b + 17 + 1) = ad 18 from hr 18 (by decide), show gg_r G' (b + 17 + 2) = ad 19 from hr 19 (by decide)]
    exact h
  | 18, _ =>
    refine ⟨_, rfl, fun D H h => ?_⟩
    show va_at D cl_ (ad 18, .inl (gg_a G' 0, 8, .inl (fun _ => 0))) H
    rw [ha]
    exact h
  | 19, _ =>
    refine ⟨_, rfl, fun D H h => ?_⟩
    show va_at D cl_ (ad 19, .inl (gg_a G' 0, 3, .inl (fun _ => 0))) H
    rw [ha]
    exact h
  | 20, _ =>
    refine ⟨_, rfl, fun D H h => ?_⟩
    show va_at D cl_ (ad 20, .inr (2, [.ref (gg_r G' (b + 20 + 1)), .ref (gg_r G' (b + 20 + 2))])) H
    rw [show gg_r G' (b + 20 + 1) = ad 21 from hr 21 (by decide), show gg_r G' (b + 20 + 2) = ad 22 from hr 22 (by decide)]
    exact h
  | 21, _ =>
    refine ⟨_, rfl, fun D H h => ?_⟩
    show va_at D cl_ (ad 21, .inl (gg_a G' 0, 8, .inl (fun _ => 0))) H
    rw [ha]
    exact h
  | 22, _ =>
    refine ⟨_, rfl, fun D H h => ?_⟩
    show va_at D cl_ (ad 22, .inl (gg_a G' 0, 3, .inl (fun _ => 0))) H
    rw [ha]
    exact h
  | 23, _ =>
    refine ⟨_, rfl, fun D H h => ?_⟩
    show va_at D cl_ (ad 23, .inr (2, [.ref (gg_r G' (b + 23 + 1)), .ref (gg_r G' (b + 23 + 2))])) H
    rw [show gg_r G' (b + 23 + 1) = ad 24 from hr 24 (by decide), show gg_r G' (b + 23 + 2) = ad 25 from hr 25 (by decide)]
    exact h
  | 24, _ =>
    refine ⟨_, rfl, fun D H h => ?_⟩
    show va_at D cl_ (ad 24, .inl (gg_a G' 0, 8, .inl (fun _ => 0))) H
    rw [ha]
    exact h
  | 25, _ =>
    refine ⟨_, rfl, fun D H h => ?_⟩
    show va_at D cl_ (ad 25, .inl (gg_a G' 0, 3, .inl (fun _ => 0))) H
    rw [ha]
    exact h
  | 26, _ =>
    refine ⟨_, rfl, fun D H h => ?_⟩
    show va_at D cl_ (ad 26, .inr (2, [.ref (gg_r G' (b + 26 + 1)), .ref (gg_r G' (b + 26 + 2))])) H
    rw [show gg_r G' (b + 26 + 1) = ad 27 from hr 27 (by decide), show gg_r G' (b + 26 + 2) = ad 28 from hr 28 (by decide)]
    exact h
  | 27, _ =>
    refine ⟨_, rfl, fun D H h => ?_⟩
    show va_at D cl_ (ad 27, .inl (gg_a G' 0, 8, .inl (fun _ => 0))) H
    rw [ha]
    exact h
  | 28, _ =>
    refine ⟨_, rfl, fun D H h => ?_⟩
    show va_at D cl_ (ad 28, .inl (gg_a G' 0, 3, .inl (fun _ => 0))) H
    rw [ha]
    exact h
  | 29, _ =>
    refine ⟨_, rfl, fun D H h => ?_⟩
    show va_at D cl_ (ad 29, .inr (2, [.ref (gg_r G' (b + 29 + 1)), .ref (gg_r G' (b + 29 + 2))])) H
    rw [show gg_r G' (b + 29 + 1) = ad 30 from hr 30 (by decide), show gg_r G' (b + 29 + 2) = ad 31 from hr 31 (by decide)]
    exact h
  | 30, _ =>
    refine ⟨_, rfl, fun D H h => ?_⟩
    show va_at D cl_ (ad 30, .inl (gg_a G' 0, 8, .inl (fun _ => 0))) H
    rw [ha]
    exact h
  | 31, _ =>
    refine ⟨_, rfl, fun D H h => ?_⟩
    show va_at D cl_ (ad 31, .inl (gg_a G' 0, 3, .inl (fun _ => 0))) H
    rw [ha]
    exact h
  | 32, _ =>
    refine ⟨_, rfl, fun D H h => ?_⟩
    show va_at D cl_ (ad 32, .inr (2, [.ref (gg_r G' (b + 32 + 1)), .ref (gg_r G' (b + 32 + 2))])) H
    rw [show gg_r G' (b + 32 + 1) = ad 33 from hr 33 (by decide), show gg_r G' (b + 32 + 2) = ad 34 from hr 34 (by decide)]
    exact h
  | 33, _ =>
    refine ⟨_, rfl, fun D H h => ?_⟩
    show va_at D cl_ (ad 33, .inl (gg_a G' 0, 8, .inl (fun _ => 0))) H
    rw [ha]
    exact h
  | 34, _ =>
    refine ⟨_, rfl, fun D H h => ?_⟩
    show va_at D cl_ (ad 34, .inl (gg_a G' 0, 3, .inl (fun _ => 0))) H
    rw [ha]
    exact h
  | n + 35, h => exact absurd h (by omega)
theorem cell_d {G G' : GG_} (ha : gg_a G' = gg_a G) (t id : Nat) (f : Nat → Int32) (L : Nat → Int64) (h : t ≠ 1 ∧ t ≠ 2 ∧ t ≠ 3 ∧ t ≠ 4 ∧ t ≠ 5 ∧ t ≠ 6 ∧ t ≠ 7 ∧ t ≠ 20 ∧ t ≠ 21 ∧ t ≠ 22 ∧ t ≠ 23 ∧ t ≠ 24 ∧ t ≠ 25) : cell_ G' t id f L = cell_ G t id f L := by
  have key : ∀ G : GG_, cell_ G t id f L = .inl (gg_a G 0, t - 1000, .inl f) := by
    intro G
    unfold cell_
    split <;> first | rfl | omega
  rw [key, key, ha]
/-- a cell says the same in both numberings, if its references do -/
theorem cell_same {G G' : GG_} (ha : gg_a G' = gg_a G) (h1 : ∀ n, n < 110 → gg_r G' n = gg_r G n) (t id : Nat) (f : Nat → Int32) (L : Nat → Int64) (h2 : t = 2 → ∀ n, n ≤ 10 → gg_r G' (id + n) = gg_r G (id + n)) (h3 : t = 3 → ∀ n, n ≤ 2 → gg_r G' (id + n) = gg_r G (id + n)) (h24 : t = 24 → ∀ j, j < 8 → gg_r G' (id + 1 + 3 * j) = gg_r G (id + 1 + 3 * j)) (h25 : t = 25 → ∀ j, j < 2 → f j ≠ 0 → gg_r G' (110 + 40 * j) = gg_r G (110 + 40 * j)) (D : va_G) (H : Heap) (q : Nat) (h : va_at D cl_ (q, cell_ G t id f L) H) : va_at D cl_ (q, cell_ G' t id f L) H := by
  have rk : ∀ b z, rk_ G' b z = rk_ G b z := fun b z => by unfold rk_; rw [ha]
  by_cases e1 : t = 1
  · subst e1
    show va_at D cl_ (q, .inr (0, [.ref (gg_r G' 1), .ref (gg_r G' 36), .ref (gg_r G' 71), .ref (gg_r G' 72), .ref (gg_r G' 75), .int (f 5), .ref (gg_r G' 76), .long (L 7), .long (L 8), .ref (gg_r G' 77), .ref (gg_r G' 78), .ref (gg_r G' 83)])) H
    rw [h1 1 (by decide), h1 36 (by decide), h1 71 (by decide), h1 72 (by decide), h1 75 (by decide), h1 76 (by decide), h1 77 (by decide), h1 78 (by decide), h1 83 (by decide)]
    exact h
  by_cases e2 : t = 2
  · subst e2
    have h2 := h2 rfl
    show va_at D cl_ (q, .inr (1, [.ref (gg_r G' (id + 1)), .int (f 1), .ref (gg_r G' (id + 2)), .ref (gg_r G' (id + 3)), .int (f 4), .ref (gg_r G' (id + 4)), .int (f 6), .ref (gg_r G' (id + 5)), .int (f 8), .ref (gg_r G' (id + 6)), .int (f 10), .ref (gg_r G' (id + 7)), .ref (gg_r G' (id + 10)), .int (f 13)])) H
    rw [h2 1 (by decide), h2 2 (by decide), h2 3 (by decide), h2 4 (by decide), h2 5 (by decide), h2 6 (by decide), h2 7 (by decide), h2 10 (by decide)]
    exact h
  by_cases e3 : t = 3
  · subst e3
    show va_at D cl_ (q, .inr (2, [.ref (gg_r G' (id + 1)), .ref (gg_r G' (id + 2))])) H
    rw [h3 rfl 1 (by decide), h3 rfl 2 (by decide)]
    exact h
  by_cases e4 : t = 4
  · subst e4
    show va_at D cl_ (q, .inr (3, [.int (f 0), .int (f 1), .int (f 2), .int (f 3), .int (f 4), .ref (gg_r G' 0)])) H
    rw [h1 0 (by decide)]
    exact h
  by_cases e5 : t = 5
  · subst e5
    show va_at D cl_ (q, .inr (4, [.ref (gg_r G' 79), .ref (gg_r G' 80), .ref (gg_r G' 81), .ref (gg_r G' 82), .int (f 4), .int (f 5), .ref (gg_r G' 0)])) H
    rw [h1 0 (by decide), h1 79 (by decide), h1 80 (by decide), h1 81 (by decide), h1 82 (by decide)]
    exact h
  by_cases e6 : t = 6
  · subst e6
    show va_at D cl_ (q, .inr (5, [.ref (gg_r G' 84), .int (f 1), .int (f 2), .ref (gg_r G' 0)])) H
    rw [h1 0 (by decide), h1 84 (by decide)]
    exact h
  by_cases e7 : t = 7
  · subst e7
    show va_at D cl_ (q, .inr (6, [.ref (gg_r G' 91), .ref (gg_r G' 92), .ref (gg_r G' 93), .ref (gg_r G' 94), .long (L 4), .long (L 5), .ref (gg_r G' 95), .ref (gg_r G' 96), .ref (gg_r G' 97), .ref (gg_r G' 98), .ref (gg_r G' 99), .ref (gg_r G' 100), .int (f 12), .int (f 13), .int (f 14), .int (f 15), .int (f 16), .ref (gg_r G' 101), .ref (gg_r G' 102)])) H
    rw [h1 91 (by decide), h1 92 (by decide), h1 93 (by decide), h1 94 (by decide), h1 95 (by decide), h1 96 (by decide), h1 97 (by decide), h1 98 (by decide), h1 99 (by decide), h1 100 (by decide), h1 101 (by decide), h1 102 (by decide)]
    exact h
  by_cases e20 : t = 20
  · subst e20
    show va_at D cl_ (q, .inl (gg_a G' 1, 150, .inl f)) H
    rw [ha]; exact h
  by_cases e21 : t = 21
  · subst e21
    show va_at D cl_ (q, .inl (gg_a G' 2, 2, .inl f)) H
    rw [ha]; exact h
  by_cases e22 : t = 22
  · subst e22
    show va_at D cl_ (q, .inl (gg_a G' 3, rq_ 3 (fun j => rk_ G' 20 (f j)))) H
    simp only [rk]
    rw [ha]; exact h
  by_cases e23 : t = 23
  · subst e23
    show va_at D cl_ (q, .inl (gg_a G' 4, rq_ 8 (fun j => rk_ G' 30 (f j)))) H
    simp only [rk]
    rw [ha]; exact h
  by_cases e24 : t = 24
  · subst e24
    show H[q]? = some (arrV (gg_a G' 5) 8 (fun j => va_rf (some (gg_r G' (id + 1 + 3 * j)))))
    rw [ha]
    exact Eq.trans (show H[q]? = some (arrV (gg_a G 5) 8 (fun j => va_rf (some (gg_r G (id + 1 + 3 * j))))) from h) (congrArg some (arrV_below fun j hj => by rw [h24 rfl j hj]))
  by_cases e25 : t = 25
  · subst e25
    show H[q]? = some (arrV (gg_a G' 6) 2 (fun j => va_rf (if f j = 0 then none else some (gg_r G' (110 + 40 * j)))))
    rw [ha]
    refine Eq.trans (show H[q]? = some (arrV (gg_a G 6) 2 (fun j => va_rf (if f j = 0 then none else some (gg_r G (110 + 40 * j))))) from h) (congrArg some (arrV_below fun j hj => ?_))
    by_cases hz : f j = 0
    · rw [if_pos hz, if_pos hz]
    · rw [if_neg hz, if_neg hz, h25 rfl j hj hz]
  · rw [cell_d ha t id f L ⟨e1, e2, e3, e4, e5, e6, e7, e20, e21, e22, e23, e24, e25⟩]
    exact h
theorem stag_far : ∀ i, i < 110 → (stag_ i = 2 ∨ stag_ i = 3 → i + 10 < 110) ∧ (stag_ i = 24 → i + 24 < 110) ∧ (stag_ i = 25 → i = 71) := by decide
theorem itag_far : ∀ k, k < 35 → (itag_ k = 2 → k + 10 < 35) ∧ (itag_ k = 3 → k + 2 < 35) ∧ (itag_ k = 24 → k + 22 < 35) ∧ itag_ k ≠ 25 := by decide
/-- where an object lies that is there -/
theorem img_cls {G : GG_} {f : Nat → Int32} (hN : Nu_ G) (hI : Img_ G f) {i : Nat} (hi : gg_t G i ≠ 0) : (i < 110 ∧ gg_t G i = stag_ i) ∨ ∃ j k, j < 2 ∧ k < 35 ∧ f j ≠ 0 ∧ i = 110 + 40 * j + k ∧ gg_t G i = itag_ k := by
  by_cases h : i < 110
  · exact Or.inl ⟨h, hN.2.2.2 i h⟩
  · have h2 := hN.2.2.1 i hi
    have h3 : ¬ ((145 ≤ i ∧ i < 150) ∨ 185 ≤ i) := fun z => hi (hI.1 i z)
    obtain ⟨j, k, hj, hk, rfl⟩ : ∃ j k, j < 2 ∧ k < 35 ∧ i = 110 + 40 * j + k := ⟨(i - 110) / 40, (i - 110) % 40, by omega, by omega, by omega⟩
    by_cases hf : f j = 0
    · exact absurd ((hI.2 j hj).1 hf k hk) hi
    · exact Or.inr ⟨j, k, hj, hk, hf, rfl, (hI.2 j hj).2 hf k hk⟩
theorem gx_ix {G : GG_} {σ : Me_} {ad : Nat → Nat} {b j0 : Nat} (hN : Nu_ G) (hI : Img_ G (σ.1 71)) (hj0 : j0 < 2) (hb : b = 110 + 40 * j0) (hf0 : σ.1 71 j0 = 0) (i : Nat) (hi : gg_t (Gx_ G b ad) i ≠ 0) : ∃ n e, (wl_ G σ ++ isl_ G ad)[n]? = some (gg_r (Gx_ G b ad) i, e) ∧ (∀ H, va_at (gg_D G) cl_ (gg_r (Gx_ G b ad) i, e) H → va_at (gg_D G) cl_ (at_ (Gx_ G b ad) (nb_ σ b) i) H) ∧ ((b ≤ i ∧ i < b + 35 ∧ n = (wl_ G σ).length + (i - b)) ∨ (¬ (b ≤ i ∧ i < b + 35) ∧ n < (wl_ G σ).length ∧ ((List.range 200).filter (fun i => gg_t G i != 0))[n]? = some i)) := by
  by_cases hc : b ≤ i ∧ i < b + 35
  · obtain ⟨k, rfl⟩ : ∃ k, i = b + k := ⟨i - b, by omega⟩
    have hk : k < 35 := by omega
    have hr : ∀ k, k < 35 → gg_r (Gx_ G b ad) (b + k) = ad k := fun k hk => by
      show (if b ≤ b + k ∧ b + k < b + 35 then ad (b + k - b) else _) = _
      rw [if_pos ⟨by omega, by omega⟩, Nat.add_sub_cancel_left]
    have ht : gg_t (Gx_ G b ad) (b + k) = itag_ k := by
      show (if b ≤ b + k ∧ b + k < b + 35 then itag_ (b + k - b) else _) = _
      rw [if_pos ⟨by omega, by omega⟩, Nat.add_sub_cancel_left]
    have hσ : ∀ k, k < 35 → (nb_ σ b).1 (b + k) = if k = 1 ∨ k = 2 then (fun _ => -1) else (fun _ => 0) := fun k hk => by
      show (if b ≤ b + k ∧ b + k < b + 35 then (if b + k = b + 1 ∨ b + k = b + 2 then (fun _ => -1) else (fun _ => 0)) else _) = _
      rw [if_pos ⟨by omega, by omega⟩]
      by_cases h : k = 1 ∨ k = 2
      · rw [if_pos h, if_pos (by omega)]
      · rw [if_neg h, if_neg (by omega)]
    obtain ⟨e, h1, h2⟩ := isl_at (G := G) (G' := Gx_ G b ad) (ad := ad) (σ' := nb_ σ b) (b := b) hr rfl hσ k hk
    refine ⟨(wl_ G σ).length + k, e, by rw [hr k hk]; exact wx_at h1, fun H h => ?_, Or.inl ⟨by omega, by omega, by omega⟩⟩
    unfold at_
    rw [ht, hr k hk]
    rw [hr k hk] at h
    exact h2 _ H h
  · have ht : gg_t (Gx_ G b ad) i = gg_t G i := if_neg hc
    have hr : gg_r (Gx_ G b ad) i = gg_r G i := if_neg hc
    rw [ht] at hi
    obtain ⟨n, hn⟩ := wl_ix hN hi
    have hl : n < (wl_ G σ).length := (List.getElem?_eq_some_iff.mp (hn σ).2).1
    refine ⟨n, (at_ G σ i).2, by rw [List.getElem?_append_left hl, (hn σ).2, hr]; rfl, fun H h => ?_, Or.inr ⟨hc, hl, (hn σ).1⟩⟩
    rw [hr] at h
    unfold at_ at h ⊢
    rw [hr, ht]
    have h1 : (nb_ σ b).1 i = σ.1 i := if_neg hc
    rw [h1]
    have far : ∀ n, ¬ (b ≤ n ∧ n < b + 35) → gg_r (Gx_ G b ad) n = gg_r G n := fun n hn => if_neg hn
    rcases img_cls hN hI hi with ⟨h2, h3⟩ | ⟨j, k, hj, hk, hf, rfl, h3⟩
    · have h4 := stag_far i h2
      rw [← h3] at h4
      exact cell_same (G := G) (G' := Gx_ G b ad) rfl (fun n hn => far n (by omega)) _ _ _ _ (fun z n hn => far _ (by have := h4.1 (Or.inl z); omega)) (fun z n hn => far _ (by have := h4.1 (Or.inr z); omega)) (fun z j hj => far _ (by have := h4.2.1 z; omega)) (fun z j hj hz => far _ (by have := h4.2.2 z; subst this; by_cases e : j = j0; exact absurd (e ▸ hf0) hz; omega)) _ H _ h
    · have h4 := itag_far k hk
      rw [← h3] at h4
      have hne : j ≠ j0 := fun z => hf (z ▸ hf0)
      exact cell_same (G := G) (G' := Gx_ G b ad) rfl (fun n hn => far n (by omega)) _ _ _ _ (fun z n hn => far _ (by have := h4.1 z; omega)) (fun z n hn => far _ (by have := h4.2.1 z; omega)) (fun z j hj => far _ (by have := h4.2.2.1 z; omega)) (fun z => absurd z h4.2.2.2) _ H _ h
theorem gx_world {G : GG_} {σ : Me_} {ad : Nat → Nat} {b j0 : Nat} {H : Heap} (hN : Nu_ G) (hI : Img_ G (σ.1 71)) (hj0 : j0 < 2) (hb : b = 110 + 40 * j0) (hf0 : σ.1 71 j0 = 0) (h : Xp_ G (wl_ G σ) (isl_ G ad) H) : Wo_ (Gx_ G b ad) (nb_ σ b) H ∧ Ext_ G (Gx_ G b ad) ∧ Img_ (Gx_ G b ad) (upd (σ.1 71) j0 1) := by
  refine ⟨fun i hi => ?_, ⟨⟨fun i j hi hj he => ?_, fun i hi => ?_, fun i hi => ?_, fun i hi => ?_⟩, rfl, rfl, rfl, fun i hi => if_neg (by omega)⟩, fun i hi => ?_, fun j hj => ⟨fun hz k hk => ?_, fun hz k hk => ?_⟩⟩
  · obtain ⟨n, e, h1, h2, -⟩ := gx_ix (ad := ad) hN hI hj0 hb hf0 i hi
    exact h2 H (h.1 n _ h1)
  · obtain ⟨n, e, h1, -, h2⟩ := gx_ix (ad := ad) hN hI hj0 hb hf0 i hi
    obtain ⟨n', e', h1', -, h2'⟩ := gx_ix (ad := ad) hN hI hj0 hb hf0 j hj
    have hn := h.2.1 n n' _ _ h1 h1' he
    subst hn
    rcases h2 with ⟨a1, a2, a3⟩ | ⟨a1, a2, a3⟩ <;> rcases h2' with ⟨b1, b2, b3⟩ | ⟨b1, b2, b3⟩
    · omega
    · omega
    · omega
    · exact Option.some.inj (a3.symm.trans b3)
  · obtain ⟨n, e, h1, -, -⟩ := gx_ix (ad := ad) hN hI hj0 hb hf0 i hi
    exact h.2.2 n _ h1
  · by_cases hc : b ≤ i ∧ i < b + 35
    · omega
    · have ht : gg_t (Gx_ G b ad) i = gg_t G i := if_neg hc
      rw [ht] at hi
      exact hN.2.2.1 i hi
  · have ht : gg_t (Gx_ G b ad) i = gg_t G i := if_neg (by omega)
    rw [ht]
    exact hN.2.2.2 i hi
  · have ht : gg_t (Gx_ G b ad) i = gg_t G i := if_neg (by omega)
    rw [ht]
    exact hI.1 i hi
  · have hne : j ≠ j0 := fun z => by subst z; simp [upd] at hz
    have ht : gg_t (Gx_ G b ad) (110 + 40 * j + k) = gg_t G (110 + 40 * j + k) := if_neg (by omega)
    rw [ht]
    exact (hI.2 j hj).1 (by simpa [upd, hne] using hz) k hk
  · by_cases e : j = j0
    · subst e; subst hb
      show (if 110 + 40 * j ≤ 110 + 40 * j + k ∧ 110 + 40 * j + k < 110 + 40 * j + 35 then itag_ (110 + 40 * j + k - (110 + 40 * j)) else _) = _
      rw [if_pos ⟨by omega, by omega⟩, Nat.add_sub_cancel_left]
    · have ht : gg_t (Gx_ G b ad) (110 + 40 * j + k) = gg_t G (110 + 40 * j + k) := if_neg (by omega)
      rw [ht]
      exact (hI.2 j hj).2 (by simpa [upd, e] using hz) k hk
