set_option maxRecDepth 100000
set_option maxHeartbeats 8000000 in
/-- THE LAW, from its entry -/
theorem whole_start {p : Program} {e : Env} {s : State} {m : MethodId} {below : List Frame} {meth : Method} {c : Code} (l : Launch) {b L : Nat} {xs : Nat → Int32} (hL : L ≤ 320) (C0 : lw_At p s m meth c b L xs) : W p l e room_1 s m #[Value.ref b] below meth c s.heap [] 0 0 (lw_Z below #[Value.ref b] s) (entryFrame m ([Value.ref b] : List Value).toArray 4) := by
  obtain ⟨hx, hb, hr, hml, hown, hts, hX, hbl, hlk, hgv⟩ := C0
  obtain ⟨G, hz, hG⟩ := gl_start hts hgv
  have hzz : gg_z G ≤ s.heap.size := Nat.le_of_eq hz
  have X : CallFix p m c cL_law 4 s #[Value.ref b] lw_all "LeftBehindLaw" := ⟨hx, hb, hml, hown, fun w h => hts w (lw_all_tbl h)⟩
  have key : jx_J p l e room_1 s m #[Value.ref b] below meth c 4 G 0 0 (lw_Z below #[Value.ref b] s) 0 [(0, .ref b)] [] [] [] := by
    refine jx_new (ci := 0) (fs := [.null, .null, .null, .null, .null, .int 0, .null, .long 0, .long 0, .null, .null, .null]) X hG hzz in_X0 tyX0 tyX0_ok q78 q79 q61 rfl (by decide) (by decide) (by decide) dL_law_0 (fun q => ?_)
    refine jx_dup X dL_law_3 rfl ?_
    refine jx_init (rest := [.ref q]) [] [(q, .inr (0, [.null, .null, .null, .null, .null, .int 0, .null, .long 0, .long 0, .null, .null, .null]))] X hG rfl (mt_X0_init l G _ q) (cwI 0 X.2.2.2.2 (lw_meth q82) rfl rfl rfl (X.2.2.2.2 _ q61) (X.2.2.2.2 _ q80) (X.2.2.2.2 _ q81) rfl ki_X0_init ⟨by decide, by decide⟩) rfl rfl (Nat.le_of_ble_eq_true rfl) dL_law_4 ⟨by decide, by decide⟩ (fun e2 hS2 => ?_)
    refine jx_ex (ex' := e2) rfl ?_
    refine jx_astore_n (lv' := [(1, .ref q), (0, .ref b)]) X dL_law_7 rfl (by decide) rfl ?_
    refine jx_new (ci := 6) (fs := [.null, .null, .null, .null, .long 0, .long 0, .null, .null, .null, .null, .null, .null, .int 0, .int 0, .int 0, .int 0, .int 0, .null, .null]) X hG hzz in_X6 tyX6 tyX6_ok q944 q945 q67 rfl (by decide) (by decide) (by decide) dL_law_8 (fun n => ?_)
    refine jx_dup X dL_law_11 rfl ?_
    refine jx_init (rest := [.ref n]) e2 [(n, .inr (6, [.null, .null, .null, .null, .long 0, .long 0, .null, .null, .null, .null, .null, .null, .int 0, .int 0, .int 0, .int 0, .int 0, .null, .null]))] X hG rfl (mt_X6_init l G _ n) (cwI 0 X.2.2.2.2 (lw_meth q948) rfl rfl rfl (X.2.2.2.2 _ q67) (X.2.2.2.2 _ q946) (X.2.2.2.2 _ q947) rfl ki_X6_init ⟨by decide, by decide⟩) rfl rfl (Nat.le_of_ble_eq_true rfl) dL_law_12 ⟨by decide, by decide⟩ (fun e3 hS3 => ?_)
    refine jx_astore_n (lv' := [(2, .ref n), (1, .ref q), (0, .ref b)]) X dL_law_15 rfl (by decide) rfl ?_
    refine jx_iconst (v := 0) X dL_law_16 (by decide) ?_
    refine jx_istore_n (lv' := [(3, .int 0), (2, .ref n), (1, .ref q), (0, .ref b)]) X dL_law_17 rfl (by decide) rfl ?_
    intro H locs ls hP hS hl
    obtain ⟨ad2, ad4, a5, a6, a7, a8, a9, a10, a11, a12, a13, a14, a15, a16, a17, a18, hE2⟩ := hS2
    obtain ⟨b1, b2, b3, b4, b5, b6, b7, b8, b9, b10, b11, b12, hE3⟩ := hS3
    obtain ⟨w1, w2, w3⟩ := ws_fin (ws_ix hE2 hE3) hP
    have hG1 : Gl_ (Gs_ G (r0_ q ad2 ad4 [a5, a6, a7, a8, a9, a10, a11, a12, a13, a14, a15, a16, a17, a18] [n, b1, b2, b3, b4, b5, b6, b7, b8, b9, b10, b11, b12])) s := hG.re rfl rfl rfl w1
    have J := law_loop (l := l) (e := e) (below := below) (meth := meth) hL X hr hlk hX hbl 65 0 rfl (Gs_ G (r0_ q ad2 ad4 [a5, a6, a7, a8, a9, a10, a11, a12, a13, a14, a15, a16, a17, a18] [n, b1, b2, b3, b4, b5, b6, b7, b8, b9, b10, b11, b12])) m0_ hz hG1 w2 rel_0 () rfl H locs ls w3 hS (lv_sub hl [3, 2, 1, 0] rfl)
    exact W.widen (by decide) (by decide) J
  rw [lg_entry_eq]
  exact key s.heap [] _ ⟨fun k q h => by simp at h, fun i j p q h => by simp at h, fun k q h => by simp at h⟩ va_S.rf (lv_entry [.ref b] (Nat.le_of_ble_eq_true rfl))
