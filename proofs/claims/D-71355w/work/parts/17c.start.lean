set_option maxRecDepth 100000
set_option maxHeartbeats 4000000 in
theorem ws_ix {G : GG_} {q n : Nat} {ad2 ad4 : Nat → Nat} {a5 a6 a7 a8 a9 a10 a11 a12 a13 a14 a15 a16 a17 a18 b1 b2 b3 b4 b5 b6 b7 b8 b9 b10 b11 b12 : Nat} {e2 e3 : va_W} (hE2 : e2 = ((q, .inr (0, [.ref (ad2 0), .ref (ad4 0), .ref a5, .ref a6, .ref a9, .int 0, .ref a10, .long 0, .long 1, .ref a11, .ref a12, .ref a17])) :: (isl_ G ad2 ++ (isl_ G ad4 ++ [(a5, .inl (gg_a G 6, rq_ 2 (fun _ => none))), (a6, .inr (2, [.ref a7, .ref a8])), (a7, .inl (gg_a G 0, 8, .inl (fun _ => 0))), (a8, .inl (gg_a G 0, 3, .inl (fun _ => 0))), (a9, .inl (gg_a G 1, 150, .inl (fun _ => 0))), (a10, .inl (gg_a G 0, 3, .inl (fun _ => 0))), (a11, .inr (3, [.int 0, .int 0, .int 0, .int 0, .int 0, .ref q])), (a12, .inr (4, [.ref a13, .ref a14, .ref a15, .ref a16, .int 0, .int 0, .ref q])), (a13, .inl (gg_a G 0, 27, .inl (fun _ => 0))), (a14, .inl (gg_a G 0, 3, .inl (fun _ => 0))), (a15, .inl (gg_a G 0, 3, .inl (fun _ => 0))), (a16, .inl (gg_a G 0, 3, .inl (fun _ => 0))), (a17, .inr (5, [.ref a18, .int 0, .int 0, .ref q])), (a18, .inl (gg_a G 0, 8, .inl (fun _ => 0)))])))) (hE3 : e3 = [(n, .inr (6, [.ref b1, .ref b2, .ref b3, .ref b4, .long 0, .long 1, .ref b5, .ref b6, .ref b7, .ref b8, .ref b9, .ref b10, .int 0, .int 0, .int 0, .int 0, .int 0, .ref b11, .ref b12])), (b1, .inl (gg_a G 0, 192, .inl (fun _ => 0))), (b2, .inl (gg_a G 0, 384, .inl (fun _ => 0))), (b3, .inl (gg_a G 2, 2, .inl (fun _ => 0))), (b4, .inl (gg_a G 0, 3, .inl (fun _ => 0))), (b5, .inl (gg_a G 0, 36, .inl (fun _ => 0))), (b6, .inl (gg_a G 0, 3, .inl (fun _ => 0))), (b7, .inl (gg_a G 0, 3, .inl (fun _ => 0))), (b8, .inl (gg_a G 0, 8, .inl (fun _ => 0))), (b9, .inl (gg_a G 0, 6, .inl (fun _ => 0))), (b10, .inl (gg_a G 0, 150, .inl (fun _ => 0))), (b11, .inl (gg_a G 0, 104, .inl (fun _ => 0))), (b12, .inl (gg_a G 0, 3, .inl (fun _ => 0)))]) : ∀ i, i < 110 → stag_ i ≠ 0 → ∃ e, (e2 ++ e3)[if i < 85 then i else i - 5]? = some ((r0_ q ad2 ad4 [a5, a6, a7, a8, a9, a10, a11, a12, a13, a14, a15, a16, a17, a18] [n, b1, b2, b3, b4, b5, b6, b7, b8, b9, b10, b11, b12]) i, e) ∧ ∀ H, va_at (gg_D G) cl_ ((r0_ q ad2 ad4 [a5, a6, a7, a8, a9, a10, a11, a12, a13, a14, a15, a16, a17, a18] [n, b1, b2, b3, b4, b5, b6, b7, b8, b9, b10, b11, b12]) i, e) H → va_at (gg_D G) cl_ (at_ (Gs_ G (r0_ q ad2 ad4 [a5, a6, a7, a8, a9, a10, a11, a12, a13, a14, a15, a16, a17, a18] [n, b1, b2, b3, b4, b5, b6, b7, b8, b9, b10, b11, b12])) m0_ i) H := by
  intro i hi ht
  have hin := stag_in i hi ht
  obtain ⟨x0, xI, xJ, xT, xM⟩ := ex_at (e3 := e3) hE2 rfl rfl rfl
  by_cases c0 : i = 0
  · subst c0
    refine ⟨_, x0, fun H h => ?_⟩
    show va_at (gg_D G) cl_ (q, cell_ (Gs_ G (r0_ q ad2 ad4 [a5, a6, a7, a8, a9, a10, a11, a12, a13, a14, a15, a16, a17, a18] [n, b1, b2, b3, b4, b5, b6, b7, b8, b9, b10, b11, b12])) 1 0 (m0_.1 0) (m0_.2 0)) H
    rw [m0_z (i := 0) (by decide)]
    exact h
  by_cases c36 : i < 36
  · obtain ⟨k, rfl⟩ : ∃ k, i = 1 + k := ⟨i - 1, by omega⟩
    have hr : ∀ k, k < 35 → gg_r (Gs_ G (r0_ q ad2 ad4 [a5, a6, a7, a8, a9, a10, a11, a12, a13, a14, a15, a16, a17, a18] [n, b1, b2, b3, b4, b5, b6, b7, b8, b9, b10, b11, b12])) (1 + k) = ad2 k := fun k hk => by
      show (r0_ q ad2 ad4 [a5, a6, a7, a8, a9, a10, a11, a12, a13, a14, a15, a16, a17, a18] [n, b1, b2, b3, b4, b5, b6, b7, b8, b9, b10, b11, b12]) (1 + k) = ad2 k
      unfold r0_
      rw [if_neg (by omega), if_pos (by omega), Nat.add_sub_cancel_left]
    have hσ : ∀ k, k < 35 → m0_.1 (1 + k) = if k = 1 ∨ k = 2 then (fun _ => -1) else (fun _ => 0) := fun k hk => by
      by_cases h : k = 1 ∨ k = 2
      · rw [if_pos h]; exact m0_n (by omega)
      · rw [if_neg h]; exact m0_z (by omega)
    have hk : k < 35 := by omega
    obtain ⟨e, g1, g2⟩ := isl_at (G := G) (G' := (Gs_ G (r0_ q ad2 ad4 [a5, a6, a7, a8, a9, a10, a11, a12, a13, a14, a15, a16, a17, a18] [n, b1, b2, b3, b4, b5, b6, b7, b8, b9, b10, b11, b12]))) (ad := ad2) (σ' := m0_) (b := 1) hr rfl hσ k hk
    have hr1 : (r0_ q ad2 ad4 [a5, a6, a7, a8, a9, a10, a11, a12, a13, a14, a15, a16, a17, a18] [n, b1, b2, b3, b4, b5, b6, b7, b8, b9, b10, b11, b12]) (1 + k) = ad2 k := hr k hk
    have ht1 : gg_t (Gs_ G (r0_ q ad2 ad4 [a5, a6, a7, a8, a9, a10, a11, a12, a13, a14, a15, a16, a17, a18] [n, b1, b2, b3, b4, b5, b6, b7, b8, b9, b10, b11, b12])) (1 + k) = itag_ k := by
      show (if 1 + k < 110 then stag_ (1 + k) else 0) = itag_ k
      rw [if_pos (by omega)]
      unfold stag_
      rw [if_neg (by omega), if_pos (by omega), Nat.add_sub_cancel_left]
    refine ⟨e, by rw [if_pos (by omega), xI k hk, g1, hr1], fun H h => ?_⟩
    rw [hr1] at h
    unfold at_
    rw [ht1, hr k hk]
    exact g2 _ H h
  by_cases c71 : i < 71
  · obtain ⟨k, rfl⟩ : ∃ k, i = 36 + k := ⟨i - 36, by omega⟩
    have hr : ∀ k, k < 35 → gg_r (Gs_ G (r0_ q ad2 ad4 [a5, a6, a7, a8, a9, a10, a11, a12, a13, a14, a15, a16, a17, a18] [n, b1, b2, b3, b4, b5, b6, b7, b8, b9, b10, b11, b12])) (36 + k) = ad4 k := fun k hk => by
      show (r0_ q ad2 ad4 [a5, a6, a7, a8, a9, a10, a11, a12, a13, a14, a15, a16, a17, a18] [n, b1, b2, b3, b4, b5, b6, b7, b8, b9, b10, b11, b12]) (36 + k) = ad4 k
      unfold r0_
      rw [if_neg (by omega), if_neg (by omega), if_pos (by omega), Nat.add_sub_cancel_left]
    have hσ : ∀ k, k < 35 → m0_.1 (36 + k) = if k = 1 ∨ k = 2 then (fun _ => -1) else (fun _ => 0) := fun k hk => by
      by_cases h : k = 1 ∨ k = 2
      · rw [if_pos h]; exact m0_n (by omega)
      · rw [if_neg h]; exact m0_z (by omega)
    have hk : k < 35 := by omega
    obtain ⟨e, g1, g2⟩ := isl_at (G := G) (G' := (Gs_ G (r0_ q ad2 ad4 [a5, a6, a7, a8, a9, a10, a11, a12, a13, a14, a15, a16, a17, a18] [n, b1, b2, b3, b4, b5, b6, b7, b8, b9, b10, b11, b12]))) (ad := ad4) (σ' := m0_) (b := 36) hr rfl hσ k hk
    have hr1 : (r0_ q ad2 ad4 [a5, a6, a7, a8, a9, a10, a11, a12, a13, a14, a15, a16, a17, a18] [n, b1, b2, b3, b4, b5, b6, b7, b8, b9, b10, b11, b12]) (36 + k) = ad4 k := hr k hk
    have ht1 : gg_t (Gs_ G (r0_ q ad2 ad4 [a5, a6, a7, a8, a9, a10, a11, a12, a13, a14, a15, a16, a17, a18] [n, b1, b2, b3, b4, b5, b6, b7, b8, b9, b10, b11, b12])) (36 + k) = itag_ k := by
      show (if 36 + k < 110 then stag_ (36 + k) else 0) = itag_ k
      rw [if_pos (by omega)]
      unfold stag_
      rw [if_neg (by omega), if_neg (by omega), if_pos (by omega), Nat.add_sub_cancel_left]
    refine ⟨e, by rw [if_pos (by omega), xJ k hk, g1, hr1], fun H h => ?_⟩
    rw [hr1] at h
    unfold at_
    rw [ht1, hr k hk]
    exact g2 _ H h
  by_cases c85 : i < 85
  · obtain ⟨k, rfl⟩ : ∃ k, i = 71 + k := ⟨i - 71, by omega⟩
    have hk : k < 14 := by omega
    rw [if_pos (by omega), xT k hk]
    match k, hk with
    | 0, _ =>
      refine ⟨_, rfl, fun H h => ?_⟩
      show va_at (gg_D G) cl_ (a5, cell_ (Gs_ G (r0_ q ad2 ad4 [a5, a6, a7, a8, a9, a10, a11, a12, a13, a14, a15, a16, a17, a18] [n, b1, b2, b3, b4, b5, b6, b7, b8, b9, b10, b11, b12])) 25 71 (m0_.1 71) (m0_.2 71)) H
      rw [m0_z (i := 71) (by decide)]
      show va_at (gg_D G) cl_ (a5, .inl (gg_a G 6, rq_ 2 (fun j => if (0 : Int32) = 0 then none else some (gg_r (Gs_ G (r0_ q ad2 ad4 [a5, a6, a7, a8, a9, a10, a11, a12, a13, a14, a15, a16, a17, a18] [n, b1, b2, b3, b4, b5, b6, b7, b8, b9, b10, b11, b12])) (110 + 40 * j))))) H
      rw [show (fun j : Nat => if (0 : Int32) = 0 then (none : Option Nat) else some (gg_r (Gs_ G (r0_ q ad2 ad4 [a5, a6, a7, a8, a9, a10, a11, a12, a13, a14, a15, a16, a17, a18] [n, b1, b2, b3, b4, b5, b6, b7, b8, b9, b10, b11, b12])) (110 + 40 * j))) = fun _ => none from funext fun j => if_pos rfl]
      exact h
    | 1, _ =>
      refine ⟨_, rfl, fun H h => ?_⟩
      show va_at (gg_D G) cl_ (a6, cell_ (Gs_ G (r0_ q ad2 ad4 [a5, a6, a7, a8, a9, a10, a11, a12, a13, a14, a15, a16, a17, a18] [n, b1, b2, b3, b4, b5, b6, b7, b8, b9, b10, b11, b12])) 3 72 (m0_.1 72) (m0_.2 72)) H
      rw [m0_z (i := 72) (by decide)]
      exact h
    | 2, _ =>
      refine ⟨_, rfl, fun H h => ?_⟩
      show va_at (gg_D G) cl_ (a7, cell_ (Gs_ G (r0_ q ad2 ad4 [a5, a6, a7, a8, a9, a10, a11, a12, a13, a14, a15, a16, a17, a18] [n, b1, b2, b3, b4, b5, b6, b7, b8, b9, b10, b11, b12])) 1008 73 (m0_.1 73) (m0_.2 73)) H
      rw [m0_z (i := 73) (by decide)]
      exact h
    | 3, _ =>
      refine ⟨_, rfl, fun H h => ?_⟩
      show va_at (gg_D G) cl_ (a8, cell_ (Gs_ G (r0_ q ad2 ad4 [a5, a6, a7, a8, a9, a10, a11, a12, a13, a14, a15, a16, a17, a18] [n, b1, b2, b3, b4, b5, b6, b7, b8, b9, b10, b11, b12])) 1003 74 (m0_.1 74) (m0_.2 74)) H
      rw [m0_z (i := 74) (by decide)]
      exact h
    | 4, _ =>
      refine ⟨_, rfl, fun H h => ?_⟩
      show va_at (gg_D G) cl_ (a9, cell_ (Gs_ G (r0_ q ad2 ad4 [a5, a6, a7, a8, a9, a10, a11, a12, a13, a14, a15, a16, a17, a18] [n, b1, b2, b3, b4, b5, b6, b7, b8, b9, b10, b11, b12])) 20 75 (m0_.1 75) (m0_.2 75)) H
      rw [m0_z (i := 75) (by decide)]
      exact h
    | 5, _ =>
      refine ⟨_, rfl, fun H h => ?_⟩
      show va_at (gg_D G) cl_ (a10, cell_ (Gs_ G (r0_ q ad2 ad4 [a5, a6, a7, a8, a9, a10, a11, a12, a13, a14, a15, a16, a17, a18] [n, b1, b2, b3, b4, b5, b6, b7, b8, b9, b10, b11, b12])) 1003 76 (m0_.1 76) (m0_.2 76)) H
      rw [m0_z (i := 76) (by decide)]
      exact h
    | 6, _ =>
      refine ⟨_, rfl, fun H h => ?_⟩
      show va_at (gg_D G) cl_ (a11, cell_ (Gs_ G (r0_ q ad2 ad4 [a5, a6, a7, a8, a9, a10, a11, a12, a13, a14, a15, a16, a17, a18] [n, b1, b2, b3, b4, b5, b6, b7, b8, b9, b10, b11, b12])) 4 77 (m0_.1 77) (m0_.2 77)) H
      rw [m0_z (i := 77) (by decide)]
      exact h
    | 7, _ =>
      refine ⟨_, rfl, fun H h => ?_⟩
      show va_at (gg_D G) cl_ (a12, cell_ (Gs_ G (r0_ q ad2 ad4 [a5, a6, a7, a8, a9, a10, a11, a12, a13, a14, a15, a16, a17, a18] [n, b1, b2, b3, b4, b5, b6, b7, b8, b9, b10, b11, b12])) 5 78 (m0_.1 78) (m0_.2 78)) H
      rw [m0_z (i := 78) (by decide)]
      exact h
    | 8, _ =>
      refine ⟨_, rfl, fun H h => ?_⟩
      show va_at (gg_D G) cl_ (a13, cell_ (Gs_ G (r0_ q ad2 ad4 [a5, a6, a7, a8, a9, a10, a11, a12, a13, a14, a15, a16, a17, a18] [n, b1, b2, b3, b4, b5, b6, b7, b8, b9, b10, b11, b12])) 1027 79 (m0_.1 79) (m0_.2 79)) H
      rw [m0_z (i := 79) (by decide)]
      exact h
    | 9, _ =>
      refine ⟨_, rfl, fun H h => ?_⟩
      show va_at (gg_D G) cl_ (a14, cell_ (Gs_ G (r0_ q ad2 ad4 [a5, a6, a7, a8, a9, a10, a11, a12, a13, a14, a15, a16, a17, a18] [n, b1, b2, b3, b4, b5, b6, b7, b8, b9, b10, b11, b12])) 1003 80 (m0_.1 80) (m0_.2 80)) H
      rw [m0_z (i := 80) (by decide)]
      exact h
    | 10, _ =>
      refine ⟨_, rfl, fun H h => ?_⟩
      show va_at (gg_D G) cl_ (a15, cell_ (Gs_ G (r0_ q ad2 ad4 [a5, a6, a7, a8, a9, a10, a11, a12, a13, a14, a15, a16, a17, a18] [n, b1, b2, b3, b4, b5, b6, b7, b8, b9, b10, b11, b12])) 1003 81 (m0_.1 81) (m0_.2 81)) H
      rw [m0_z (i := 81) (by decide)]
      exact h
    | 11, _ =>
      refine ⟨_, rfl, fun H h => ?_⟩
      show va_at (gg_D G) cl_ (a16, cell_ (Gs_ G (r0_ q ad2 ad4 [a5, a6, a7, a8, a9, a10, a11, a12, a13, a14, a15, a16, a17, a18] [n, b1, b2, b3, b4, b5, b6, b7, b8, b9, b10, b11, b12])) 1003 82 (m0_.1 82) (m0_.2 82)) H
      rw [m0_z (i := 82) (by decide)]
      exact h
    | 12, _ =>
      refine ⟨_, rfl, fun H h => ?_⟩
      show va_at (gg_D G) cl_ (a17, cell_ (Gs_ G (r0_ q ad2 ad4 [a5, a6, a7, a8, a9, a10, a11, a12, a13, a14, a15, a16, a17, a18] [n, b1, b2, b3, b4, b5, b6, b7, b8, b9, b10, b11, b12])) 6 83 (m0_.1 83) (m0_.2 83)) H
      rw [m0_z (i := 83) (by decide)]
      exact h
    | 13, _ =>
      refine ⟨_, rfl, fun H h => ?_⟩
      show va_at (gg_D G) cl_ (a18, cell_ (Gs_ G (r0_ q ad2 ad4 [a5, a6, a7, a8, a9, a10, a11, a12, a13, a14, a15, a16, a17, a18] [n, b1, b2, b3, b4, b5, b6, b7, b8, b9, b10, b11, b12])) 1008 84 (m0_.1 84) (m0_.2 84)) H
      rw [m0_z (i := 84) (by decide)]
      exact h
    | k + 14, h => exact absurd h (by omega)
  · obtain ⟨k, rfl⟩ : ∃ k, i = 90 + k := ⟨i - 90, by omega⟩
    have hk : k < 13 := by omega
    rw [if_neg (by omega), show 90 + k - 5 = 85 + k by omega, xM k, hE3]
    match k, hk with
    | 0, _ =>
      refine ⟨_, rfl, fun H h => ?_⟩
      show va_at (gg_D G) cl_ (n, cell_ (Gs_ G (r0_ q ad2 ad4 [a5, a6, a7, a8, a9, a10, a11, a12, a13, a14, a15, a16, a17, a18] [n, b1, b2, b3, b4, b5, b6, b7, b8, b9, b10, b11, b12])) 7 90 (m0_.1 90) (m0_.2 90)) H
      rw [m0_z (i := 90) (by decide)]
      exact h
    | 1, _ =>
      refine ⟨_, rfl, fun H h => ?_⟩
      show va_at (gg_D G) cl_ (b1, cell_ (Gs_ G (r0_ q ad2 ad4 [a5, a6, a7, a8, a9, a10, a11, a12, a13, a14, a15, a16, a17, a18] [n, b1, b2, b3, b4, b5, b6, b7, b8, b9, b10, b11, b12])) 1192 91 (m0_.1 91) (m0_.2 91)) H
      rw [m0_z (i := 91) (by decide)]
      exact h
    | 2, _ =>
      refine ⟨_, rfl, fun H h => ?_⟩
      show va_at (gg_D G) cl_ (b2, cell_ (Gs_ G (r0_ q ad2 ad4 [a5, a6, a7, a8, a9, a10, a11, a12, a13, a14, a15, a16, a17, a18] [n, b1, b2, b3, b4, b5, b6, b7, b8, b9, b10, b11, b12])) 1384 92 (m0_.1 92) (m0_.2 92)) H
      rw [m0_z (i := 92) (by decide)]
      exact h
    | 3, _ =>
      refine ⟨_, rfl, fun H h => ?_⟩
      show va_at (gg_D G) cl_ (b3, cell_ (Gs_ G (r0_ q ad2 ad4 [a5, a6, a7, a8, a9, a10, a11, a12, a13, a14, a15, a16, a17, a18] [n, b1, b2, b3, b4, b5, b6, b7, b8, b9, b10, b11, b12])) 21 93 (m0_.1 93) (m0_.2 93)) H
      rw [m0_z (i := 93) (by decide)]
      exact h
    | 4, _ =>
      refine ⟨_, rfl, fun H h => ?_⟩
      show va_at (gg_D G) cl_ (b4, cell_ (Gs_ G (r0_ q ad2 ad4 [a5, a6, a7, a8, a9, a10, a11, a12, a13, a14, a15, a16, a17, a18] [n, b1, b2, b3, b4, b5, b6, b7, b8, b9, b10, b11, b12])) 1003 94 (m0_.1 94) (m0_.2 94)) H
      rw [m0_z (i := 94) (by decide)]
      exact h
    | 5, _ =>
      refine ⟨_, rfl, fun H h => ?_⟩
      show va_at (gg_D G) cl_ (b5, cell_ (Gs_ G (r0_ q ad2 ad4 [a5, a6, a7, a8, a9, a10, a11, a12, a13, a14, a15, a16, a17, a18] [n, b1, b2, b3, b4, b5, b6, b7, b8, b9, b10, b11, b12])) 1036 95 (m0_.1 95) (m0_.2 95)) H
      rw [m0_z (i := 95) (by decide)]
      exact h
    | 6, _ =>
      refine ⟨_, rfl, fun H h => ?_⟩
      show va_at (gg_D G) cl_ (b6, cell_ (Gs_ G (r0_ q ad2 ad4 [a5, a6, a7, a8, a9, a10, a11, a12, a13, a14, a15, a16, a17, a18] [n, b1, b2, b3, b4, b5, b6, b7, b8, b9, b10, b11, b12])) 1003 96 (m0_.1 96) (m0_.2 96)) H
      rw [m0_z (i := 96) (by decide)]
      exact h
    | 7, _ =>
      refine ⟨_, rfl, fun H h => ?_⟩
      show va_at (gg_D G) cl_ (b7, cell_ (Gs_ G (r0_ q ad2 ad4 [a5, a6, a7, a8, a9, a10, a11, a12, a13, a14, a15, a16, a17, a18] [n, b1, b2, b3, b4, b5, b6, b7, b8, b9, b10, b11, b12])) 1003 97 (m0_.1 97) (m0_.2 97)) H
      rw [m0_z (i := 97) (by decide)]
      exact h
    | 8, _ =>
      refine ⟨_, rfl, fun H h => ?_⟩
      show va_at (gg_D G) cl_ (b8, cell_ (Gs_ G (r0_ q ad2 ad4 [a5, a6, a7, a8, a9, a10, a11, a12, a13, a14, a15, a16, a17, a18] [n, b1, b2, b3, b4, b5, b6, b7, b8, b9, b10, b11, b12])) 1008 98 (m0_.1 98) (m0_.2 98)) H
      rw [m0_z (i := 98) (by decide)]
      exact h
    | 9, _ =>
      refine ⟨_, rfl, fun H h => ?_⟩
      show va_at (gg_D G) cl_ (b9, cell_ (Gs_ G (r0_ q ad2 ad4 [a5, a6, a7, a8, a9, a10, a11, a12, a13, a14, a15, a16, a17, a18] [n, b1, b2, b3, b4, b5, b6, b7, b8, b9, b10, b11, b12])) 1006 99 (m0_.1 99) (m0_.2 99)) H
      rw [m0_z (i := 99) (by decide)]
      exact h
    | 10, _ =>
      refine ⟨_, rfl, fun H h => ?_⟩
      show va_at (gg_D G) cl_ (b10, cell_ (Gs_ G (r0_ q ad2 ad4 [a5, a6, a7, a8, a9, a10, a11, a12, a13, a14, a15, a16, a17, a18] [n, b1, b2, b3, b4, b5, b6, b7, b8, b9, b10, b11, b12])) 1150 100 (m0_.1 100) (m0_.2 100)) H
      rw [m0_z (i := 100) (by decide)]
      exact h
    | 11, _ =>
      refine ⟨_, rfl, fun H h => ?_⟩
      show va_at (gg_D G) cl_ (b11, cell_ (Gs_ G (r0_ q ad2 ad4 [a5, a6, a7, a8, a9, a10, a11, a12, a13, a14, a15, a16, a17, a18] [n, b1, b2, b3, b4, b5, b6, b7, b8, b9, b10, b11, b12])) 1104 101 (m0_.1 101) (m0_.2 101)) H
      rw [m0_z (i := 101) (by decide)]
      exact h
    | 12, _ =>
      refine ⟨_, rfl, fun H h => ?_⟩
      show va_at (gg_D G) cl_ (b12, cell_ (Gs_ G (r0_ q ad2 ad4 [a5, a6, a7, a8, a9, a10, a11, a12, a13, a14, a15, a16, a17, a18] [n, b1, b2, b3, b4, b5, b6, b7, b8, b9, b10, b11, b12])) 1003 102 (m0_.1 102) (m0_.2 102)) H
      rw [m0_z (i := 102) (by decide)]
      exact h
    | k + 13, h => exact absurd h (by omega)
