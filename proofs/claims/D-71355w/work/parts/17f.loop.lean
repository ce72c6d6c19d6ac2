set_option maxRecDepth 100000
section LC
variable {p : Program} {l : Launch} {e : Env} {s : State} {m : MethodId} {below : List Frame} {meth : Method} {c : Code} {b L : Nat} {xs : Nat → Int32} {i : Int32} {cells slots : Nat}
abbrev tgt_ : List Nat := [196, 209, 232, 275, 298, 311, 324, 347, 380, 393, 426, 459, 482, 515, 538, 571, 604, 637, 670, 723, 756, 779, 832, 885, 908, 931, 954, 977, 1000, 1043, 1076, 1109, 1133, 1156, 1179, 1202, 1225]
theorem offs_ : ∀ k, k < 37 → (#[164, 177, 200, 243, 266, 279, 292, 315, 348, 361, 394, 427, 450, 483, 506, 539, 572, 605, 638, 691, 724, 747, 800, 853, 876, 899, 922, 945, 968, 1011, 1044, 1077, 1101, 1124, 1147, 1170, 1193] : Array Int)[k]? = some (((tgt_.getD k 0 : Nat) : Int) - 32) := by decide
theorem jl_ts {G : GG_} {lv : List (Nat × Value)} {σ : Me_} {ρ : Type} {Qf : ρ → State → Prop} {t : Option ρ} {x : Int32} (X : CallFix p m c cL_law 4 s #[Value.ref b] lw_all "LeftBehindLaw") (hc : ∀ k, k < 37 → jj_J p l e room_1 s m #[Value.ref b] below meth c 4 G cells slots Qf (tgt_.getD k 0) lv [] σ t) (hd : jj_J p l e room_1 s m #[Value.ref b] below meth c 4 G cells slots Qf 1239 lv [] σ t) : jj_J p l e room_1 s m #[Value.ref b] below meth c 4 G cells slots Qf 32 lv [.int x] σ t := by
  by_cases h : x.toInt < 0 ∨ 36 < x.toInt
  · exact jj_tsD X dL_law_32 h (by decide) hd
  · have h1 : ¬ x.toInt < 0 := fun z => h (Or.inl z)
    have h2 : ¬ 36 < x.toInt := fun z => h (Or.inr z)
    have hk : (x.toInt - 0).toNat < 37 := by omega
    exact fun r hr H locs ls hW hS hl => lv_tableIn X.1 X.2.1 dL_law_32 h1 h2 (offs_ _ hk) (by omega) (hc _ hk r hr H locs ls hW hS hl)
set_option maxHeartbeats 4000000 in
/-- the law's loop -/
theorem law_loop (hL : L ≤ 320) (X : CallFix p m c cL_law 4 s #[Value.ref b] lw_all "LeftBehindLaw") (hr : meth.sig.returnType = ret) (hlk : meth.locks = false) (hX : va_X b L xs s s.heap) (hbl : b < s.heap.size) : ∀ d k, k + d = 65 → Jl_ p l e s m below meth c b (nI (5 * k)) (1000 + 36 * k) (10000 + 240 * k) 18 := by
  intro d
  induction d with
  | zero =>
    intro k hk
    exact law_end hL X hr hlk hX hbl (by omega) (by omega)
  | succ d ih =>
    intro k hk
    by_cases hlt : 5 * k + 5 ≤ L
    · have hk64 : k < 64 := by omega
      have hin : ∀ v : Int32, v = 1 ∨ v = 2 ∨ v = 3 ∨ v = 4 → vp_in (nI (5 * k) + v) L := by
        intro v hv
        rcases hv with rfl | rfl | rfl | rfl
        · exact vin_ (j := 1) (by omega) (by omega)
        · exact vin_ (j := 2) (by omega) (by omega)
        · exact vin_ (j := 3) (by omega) (by omega)
        · exact vin_ (j := 4) (by omega) (by omega)
      have hin0 : vp_in (nI (5 * k)) L := vp_in_nI (by omega) (by omega)
      have hc : 1000 + 36 * k + 36 ≤ room_1.cells := by show 1000 + 36 * k + 36 ≤ 601024; omega
      have hs : 10000 + 240 * k + 240 ≤ room_1.slots := by show 10000 + 240 * k + 240 ≤ 7293034; omega
      have K : Jl_ p l e s m below meth c b (nI (5 * k)) (1000 + 36 * k + 36) (10000 + 240 * k + 240) 1239 := by
        intro G σ hz hG hI hR
        refine jj_iinc (v := nI (5 * (k + 1))) (lv' := [(3, .int (nI (5 * (k + 1)))), (0, .ref b), (1, .ref (gg_r G 0)), (2, .ref (gg_r G 90))]) X dL_law_1239 3 rfl ?_ (by decide) rfl ?_
        · show nI (5 * k) + nI 5 = nI (5 * (k + 1))
          rw [nI_add_z, Nat.mul_add]
        refine jj_goto (tgt := 18) X dL_law_1242 (by decide) ?_
        refine jj_sub [1, 2, 3, 0] rfl ?_
        have := ih (k + 1) (by omega) G σ hz hG hI hR
        rw [show 1000 + 36 * (k + 1) = 1000 + 36 * k + 36 by omega, show 10000 + 240 * (k + 1) = 10000 + 240 * k + 240 by omega] at this
        exact this
      have Kc : ∀ q, q < 37 → Jl_ p l e s m below meth c b (nI (5 * k)) (1000 + 36 * k) (10000 + 240 * k) (tgt_.getD q 0) := by
        intro q hq
        match q, hq with
        | 0, _ => exact lc_0 X hX hbl hin hc hs K
        | 1, _ => exact lc_1 X hX hbl hin hc hs K
        | 2, _ => exact lc_2 X hX hbl hin hc hs K
        | 3, _ => exact lc_3 X hX hbl hin hc hs K
        | 4, _ => exact lc_4 X hX hbl hin hc hs K
        | 5, _ => exact lc_5 X hX hbl hin hc hs K
        | 6, _ => exact lc_6 X hX hbl hin hc hs K
        | 7, _ => exact lc_7 X hX hbl hin hc hs K
        | 8, _ => exact lc_8 X hX hbl hin hc hs K
        | 9, _ => exact lc_9 X hX hbl hin hc hs K
        | 10, _ => exact lc_10 X hX hbl hin hc hs K
        | 11, _ => exact lc_11 X hX hbl hin hc hs K
        | 12, _ => exact lc_12 X hX hbl hin hc hs K
        | 13, _ => exact lc_13 X hX hbl hin hc hs K
        | 14, _ => exact lc_14 X hX hbl hin hc hs K
        | 15, _ => exact lc_15 X hX hbl hin hc hs K
        | 16, _ => exact lc_16 X hX hbl hin hc hs K
        | 17, _ => exact lc_17 X hX hbl hin hc hs K
        | 18, _ => exact lc_18 X hX hbl hin hc hs K
        | 19, _ => exact lc_19 X hX hbl hin hc hs K
        | 20, _ => exact lc_20 X hX hbl hin hc hs K
        | 21, _ => exact lc_21 X hX hbl hin hc hs K
        | 22, _ => exact lc_22 X hX hbl hin hc hs K
        | 23, _ => exact lc_23 X hX hbl hin hc hs K
        | 24, _ => exact lc_24 X hX hbl hin hc hs K
        | 25, _ => exact lc_25 X hX hbl hin hc hs K
        | 26, _ => exact lc_26 X hX hbl hin hc hs K
        | 27, _ => exact lc_27 X hX hbl hin hc hs K
        | 28, _ => exact lc_28 X hX hbl hin hc hs K
        | 29, _ => exact lc_29 X hX hbl hin hc hs K
        | 30, _ => exact lc_30 X hX hbl hin hc hs K
        | 31, _ => exact lc_31 X hX hbl hin hc hs K
        | 32, _ => exact lc_32 X hX hbl hin hc hs K
        | 33, _ => exact lc_33 X hX hbl hin hc hs K
        | 34, _ => exact lc_34 X hX hbl hin hc hs K
        | 35, _ => exact lc_35 X hX hbl hin hc hs K
        | 36, _ => exact lc_36 X hX hbl hin hc hs K
        | n + 37, h => exact absurd h (by omega)
      intro G σ hz hG hI hR
      have hbA : ¬ AA_ G b := ba_ hz hbl
      refine jj_iload_n X dL_law_18 3 rfl ?_
      refine jj_aload_n X dL_law_19 0 rfl ?_
      refine jl_slen X hX hbl hbA dL_law_20 ?_
      refine jj_iconst (v := 5) X dL_law_21 (by decide) ?_
      refine jj_isub X dL_law_22 ?_
      intro r hr0 H locs ls hW hS hl
      refine lv_icmp_gt (tgt := 1245) X.1 X.2.1 dL_law_23 (by decide) (fun h => absurd h ?_) (fun _ => ?_)
      · rw [Int32.lt_iff_toInt_lt, sub5_ L (by omega), nI_int_z (by omega)]
        omega
      revert r hr0 H locs ls hW hS hl
      show jj_J p l e room_1 s m #[Value.ref b] below meth c 4 G (1000 + 36 * k) (10000 + 240 * k) (fun _ : Unit => lw_Z below #[Value.ref b] s) 26 [(0, .ref b), (1, .ref (gg_r G 0)), (2, .ref (gg_r G 90)), (3, .int (nI (5 * k)))] [] σ (some ())
      refine jj_aload_n X dL_law_26 0 rfl ?_
      refine jj_iload_n X dL_law_27 3 rfl ?_
      refine jl_sld X hX hbl hbA hin0 dL_law_28 ?_
      refine jj_bipush (v := 63) X dL_law_29 (by decide) ?_
      refine jj_iand X dL_law_31 ?_
      exact jl_ts X (fun q hq => Kc q hq G σ hz hG hI hR) (jj_widen (by omega) (by omega) (K G σ hz hG hI hR))
    · exact law_end hL X hr hlk hX hbl (by omega) (by omega)
end LC
