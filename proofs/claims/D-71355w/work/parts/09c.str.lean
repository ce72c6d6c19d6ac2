/-! STR: String.length, charAt on the five constants -/
set_option maxRecDepth 100000
/-- the letter k of the constant n -/
def sc_ (n k : Nat) : Int32 := (sb_.getD n []).getD k 0
def sn_l (n : Nat) : Nat := sl_.getD n 0
section JS
variable {p : Program} {l : Launch} {e : Env} {R : Room} {s : State} {m : MethodId} {args : Array Value} {below : List Frame} {meth : Method} {c : Code} {cc : ByteArray} {nL : Nat} {own : String} {G : GG_} {cells slots : Nat} {ρ : Type} {Qf : ρ → State → Prop} {pc : Nat} {lv : List (Nat × Value)} {st : List Value} {σ : Me_} {t t' : Option ρ} {n : Nat}
theorem jj_eqt (h : t = t') (k : jj_J p l e R s m args below meth c nL G cells slots Qf pc lv st σ t') : jj_J p l e R s m args below meth c nL G cells slots Qf pc lv st σ t := h ▸ k
theorem jj_i2c (X : CallFix p m c cc nL s args lw_all own) {x : Int32} (hd : decode cc pc = .ok (.i2c, 1)) (k : jj_J p l e R s m args below meth c nL G cells slots Qf (pc + 1) lv (.int (x.toUInt32 % 65536).toInt32 :: st) σ t) : jj_J p l e R s m args below meth c nL G cells slots Qf pc lv (.int x :: st) σ t := fun r hr H locs ls hW hS hl => lv_i2c X.1 X.2.1 hd rfl (k r hr H locs ls hW hS hl)
theorem jj_tret {ty : FieldType} (X : CallFix p m c cc nL s args lw_all own) (hrt : meth.sig.returnType = some ty) (hlk : meth.locks = false) {x : Int32} (hn : narrow ty (.int x) = .int x) (hd : decode cc pc = .ok (.ireturn, 1)) : jj_J p l e R s m args below meth c nL G cells slots (fun r => MQ below (Qi_ G (r, σ)) args s cells slots (AA_ G)) pc lv [.int x] σ (some x) := fun r hr H locs ls hW hS hl => by
  cases hr
  exact W.zret X.1 X.2.1 hrt hn (fun t ht hWm => ⟨⟨x, (), rfl, rfl, by show Wo_ G σ t.heap; rw [ht]; exact hW⟩, hS.F ht⟩) hS.2.2 hd
theorem js_COMPACT (X : CallFix p m c cc nL s args lw_all own) (hG : Gl_ G s) {index : Nat} (hw : Cond.fieldLink own index "java/lang/String" "COMPACT_STRINGS" "Z" ∈ lw_all) (hd : decode cc pc = .ok (.getstatic index, 3)) (kk : jj_J p l e R s m args below meth c nL G cells slots Qf (pc + 3) lv (.int 1 :: st) σ t) : jj_J p l e R s m args below meth c nL G cells slots Qf pc lv st σ t := fun r hr H locs ls hW hS hl =>
  va_gets X.1 X.2.1 hG.2.2.1.2.2.2.1 hS X.2.2.2.1 (X.2.2.2.2 _ hw) (fun _ h => h) hd (kk r hr H locs ls hW hS hl)
theorem js_coder (X : CallFix p m c cc nL s args lw_all own) (hG : Gl_ G s) (hn : n < 5) {index : Nat} (hw : Cond.fieldLink own index "java/lang/String" "coder" "B" ∈ lw_all) (hd : decode cc pc = .ok (.getfield index, 3)) (kk : jj_J p l e R s m args below meth c nL G cells slots Qf (pc + 3) lv (.int 0 :: st) σ t) : jj_J p l e R s m args below meth c nL G cells slots Qf pc lv (.ref (gg_a G (50 + n)) :: st) σ t := fun r hr H locs ls hW hS hl =>
  vk_getf X.1 X.2.1 (hG.2.2.1.2.2.1.1 n hn).2.1 hS X.2.2.2.1 (X.2.2.2.2 _ hw) (fun _ h => h) hd (kk r hr H locs ls hW hS hl)
theorem js_value (X : CallFix p m c cc nL s args lw_all own) (hG : Gl_ G s) (hn : n < 5) {index : Nat} (hw : Cond.fieldLink own index "java/lang/String" "value" "[B" ∈ lw_all) (hd : decode cc pc = .ok (.getfield index, 3)) (kk : jj_J p l e R s m args below meth c nL G cells slots Qf (pc + 3) lv (.ref (gg_a G (60 + n)) :: st) σ t) : jj_J p l e R s m args below meth c nL G cells slots Qf pc lv (.ref (gg_a G (50 + n)) :: st) σ t := fun r hr H locs ls hW hS hl =>
  vk_getf X.1 X.2.1 (hG.2.2.1.2.2.1.1 n hn).2.2.1 hS X.2.2.2.1 (X.2.2.2.2 _ hw) (fun _ h => h) hd (kk r hr H locs ls hW hS hl)
theorem js_blen (X : CallFix p m c cc nL s args lw_all own) (hG : Gl_ G s) (hn : n < 5) (hd : decode cc pc = .ok (.arraylength, 1)) (kk : jj_J p l e R s m args below meth c nL G cells slots Qf (pc + 1) lv (.int (nI (sn_l n)) :: st) σ t) : jj_J p l e R s m args below meth c nL G cells slots Qf pc lv (.ref (gg_a G (60 + n)) :: st) σ t := fun r hr H locs ls hW hS hl =>
  va_tlen X.1 X.2.1 (hG.2.2.1.2.2.1.1 n hn).2.2.2 hS rfl hd (kk r hr H locs ls hW hS hl)
theorem js_bald (X : CallFix p m c cc nL s args lw_all own) (hG : Gl_ G s) (hn : n < 5) {i : Int32} (hi : inb_ i (sn_l n) = true) (hd : decode cc pc = .ok (.baload, 1)) (kk : jj_J p l e R s m args below meth c nL G cells slots Qf (pc + 1) lv (.int (sc_ n i.toNatClampNeg) :: st) σ t) : jj_J p l e R s m args below meth c nL G cells slots Qf pc lv (.int i :: .ref (gg_a G (60 + n)) :: st) σ t := fun r hr H locs ls hW hS hl =>
  va_tb X.1 X.2.1 (hG.2.2.1.2.2.1.1 n hn).2.2.2 hS (inb_in hi) rfl hd (kk r hr H locs ls hW hS hl)
theorem js_FORM (X : CallFix p m c cc nL s args lw_all own) (hG : Gl_ G s) {index : Nat} (hw : Cond.fieldLink own index "jdk/internal/util/Preconditions" "SIOOBE_FORMATTER" "Ljava/util/function/BiFunction;" ∈ lw_all) (hd : decode cc pc = .ok (.getstatic index, 3)) (kk : ∀ v : Value, v.category = 1 → jj_J p l e R s m args below meth c nL G cells slots Qf (pc + 3) lv (v :: st) σ t) : jj_J p l e R s m args below meth c nL G cells slots Qf pc lv st σ t := by
  rcases hG.2.2.1.2.2.2.2.1 with hz | ⟨a, hz⟩
  · exact fun r hr H locs ls hW hS hl => va_gets X.1 X.2.1 hz hS X.2.2.2.1 (X.2.2.2.2 _ hw) (fun _ h => h) hd (kk .null rfl r hr H locs ls hW hS hl)
  · exact fun r hr H locs ls hW hS hl => va_gets X.1 X.2.1 hz hS X.2.2.2.1 (X.2.2.2.2 _ hw) (fun _ h => h) hd (kk (.ref a) rfl r hr H locs ls hW hS hl)
/-- a call on an object below the law's beginning -/
theorem jr_VO {y : MethodName} {bytes : ByteArray} {maxL mc ms k index a : Nat} {ret : Option FieldType} {ws : List Cond} {rm : Room} {Qc : Array Value → State → Outcome → State → Prop} {C : String} {As rest st0 : List Value} (X : CallFix p m c cc nL s args lw_all own) (hG : Gl_ G s) (hO : va_O C a (AA_ G) s s.heap) (M : Met l y ws rm (Pr_ G σ (.ref a :: As)) Qc mc ms (AA_ G)) (cw : CallW R s args own C index y bytes maxL ret ws rm mc ms k) (hn : As.length = k) (hst : st0 = As.reverse ++ .ref a :: rest) (hrm : (rest.map fun v => v.category).sum ≤ 8) (hd : decode cc pc = .ok (.invokevirtual index, 3)) (hf : cells + mc ≤ R.cells ∧ slots + ms ≤ R.slots) : Rn_ p l e R s m args below meth c nL G cells slots mc ms pc lv st0 rest σ (.ref a :: As).toArray Qc := fun H locs ls hW hS hl =>
  va_runV (As := As) (rest := rest) X M cw ⟨Pr_.blind, va_Orecv hO hS, Pr_.go hG hW hS⟩ rfl hn hl.1 hst (lv_room hrm) hd hf
theorem lo_str (hG : Gl_ G s) (hn : n < 5) : va_O "java/lang/String" (gg_a G (50 + n)) (AA_ G) s s.heap := (hG.2.2.1.2.2.1.1 n hn).1
end JS
theorem kd_J2_coder : yJ2_coder.cls = "java/lang/String" ∧ yJ2_coder.cls ≠ "java/lang/invoke/MethodHandle" ∧ yJ2_coder.cls ≠ "java/lang/invoke/VarHandle" ∧ (parseMethodDescriptor yJ2_coder.desc).map (fun d => d.parameters.length) = some 0 := by decide +kernel
theorem kd_J2_length : yJ2_length.cls = "java/lang/String" ∧ yJ2_length.cls ≠ "java/lang/invoke/MethodHandle" ∧ yJ2_length.cls ≠ "java/lang/invoke/VarHandle" ∧ (parseMethodDescriptor yJ2_length.desc).map (fun d => d.parameters.length) = some 0 := by decide +kernel
theorem kd_J2_isLatin1 : yJ2_isLatin1.cls = "java/lang/String" ∧ yJ2_isLatin1.cls ≠ "java/lang/invoke/MethodHandle" ∧ yJ2_isLatin1.cls ≠ "java/lang/invoke/VarHandle" ∧ (parseMethodDescriptor yJ2_isLatin1.desc).map (fun d => d.parameters.length) = some 0 := by decide +kernel
theorem kd_J2_charAt : yJ2_charAt.cls = "java/lang/String" ∧ yJ2_charAt.cls ≠ "java/lang/invoke/MethodHandle" ∧ yJ2_charAt.cls ≠ "java/lang/invoke/VarHandle" ∧ (parseMethodDescriptor yJ2_charAt.desc).map (fun d => d.parameters.length) = some 1 := by decide +kernel
theorem kd_J2_checkIndex : yJ2_checkIndex.cls ≠ "java/lang/invoke/MethodHandle" ∧ yJ2_checkIndex.cls ≠ "java/lang/invoke/VarHandle" ∧ (parseMethodDescriptor yJ2_checkIndex.desc).map (fun d => d.parameters.length) = some 2 := by decide +kernel
theorem kd_J3_charAt : yJ3_charAt.cls ≠ "java/lang/invoke/MethodHandle" ∧ yJ3_charAt.cls ≠ "java/lang/invoke/VarHandle" ∧ (parseMethodDescriptor yJ3_charAt.desc).map (fun d => d.parameters.length) = some 2 := by decide +kernel
theorem kd_J4_checkIndex : yJ4_checkIndex.cls ≠ "java/lang/invoke/MethodHandle" ∧ yJ4_checkIndex.cls ≠ "java/lang/invoke/VarHandle" ∧ (parseMethodDescriptor yJ4_checkIndex.desc).map (fun d => d.parameters.length) = some 3 := by decide +kernel
theorem mt_J2_coder (l : Launch) (G : GG_) (σ : Me_) (n : Nat) (hn : n < 5) : Cr_ l yJ2_coder (ws_ yJ2_coder cJ2_coder 1 (some .byte)) (rm_ 1) 0 0 G [.ref (gg_a G (50 + n))] σ (some 0) := by
  refine jj_met (by decide) (Nat.le_of_ble_eq_true rfl) ?_
  intro p e s m below meth c X hG hrt hlk hnm
  refine js_COMPACT X hG q477 dJ2_coder_0 ?_
  refine jj_eqt (t' := if (1 : Int32) = 0 then none else some 0) (if_neg (by decide)).symm ?_
  refine jj_if_eq (tgt := 13) X dJ2_coder_3 (by decide) (fun _ => jj_none) (fun _ => ?_)
  refine jj_aload_n X dJ2_coder_6 0 rfl ?_
  refine js_coder X hG hn q1375 dJ2_coder_7 ?_
  refine jj_goto (tgt := 14) X dJ2_coder_10 (by decide) ?_
  exact jj_tret X hrt hlk rfl dJ2_coder_14
theorem mt_J2_isLatin1 (l : Launch) (G : GG_) (σ : Me_) (n : Nat) (hn : n < 5) : Cr_ l yJ2_isLatin1 (ws_ yJ2_isLatin1 cJ2_isLatin1 1 (some .boolean)) (rm_ 1) 0 0 G [.ref (gg_a G (50 + n))] σ (some 1) := by
  refine jj_met (by decide) (Nat.le_of_ble_eq_true rfl) ?_
  intro p e s m below meth c X hG hrt hlk hnm
  refine js_COMPACT X hG q477 dJ2_isLatin1_0 ?_
  refine jj_eqt (t' := if (1 : Int32) = 0 then none else some 1) (if_neg (by decide)).symm ?_
  refine jj_if_eq (tgt := 17) X dJ2_isLatin1_3 (by decide) (fun _ => jj_none) (fun _ => ?_)
  refine jj_aload_n X dJ2_isLatin1_6 0 rfl ?_
  refine js_coder X hG hn q1375 dJ2_isLatin1_7 ?_
  refine jj_eqt (t' := if (0 : Int32) = 0 then some 1 else none) (if_pos rfl).symm ?_
  refine jj_if_ne (tgt := 17) X dJ2_isLatin1_10 (by decide) (fun _ => jj_none) (fun _ => ?_)
  refine jj_iconst (v := 1) X dJ2_isLatin1_13 (by decide) ?_
  refine jj_goto (tgt := 18) X dJ2_isLatin1_14 (by decide) ?_
  exact jj_zretR X hrt hlk (by decide) dJ2_isLatin1_18
theorem sh_0 (x : Int32) : x >>> ((0 : Int32) &&& 31) = x := sb_shr0 x
theorem mt_J2_length (l : Launch) (G : GG_) (σ : Me_) (n : Nat) (hn : n < 5) : Cr_ l yJ2_length (ws_ yJ2_length cJ2_length 1 (some .int)) (rm_ 2) 0 0 G [.ref (gg_a G (50 + n))] σ (some (nI (sn_l n))) := by
  refine jj_met (by decide) (Nat.le_of_ble_eq_true rfl) ?_
  intro p e s m below meth c X hG hrt hlk hnm
  refine jj_aload_n X dJ2_length_0 0 rfl ?_
  refine js_value X hG hn q1374 dJ2_length_1 ?_
  refine js_blen X hG hn dJ2_length_4 ?_
  refine jj_aload_n X dJ2_length_5 0 rfl ?_
  refine jj_ct (mc := 0) (ms := 0) (fun rr hrr => jr_VO (rest := [.int (nI (sn_l n))]) X hG (lo_str hG hn) (mt_J2_coder l G σ n hn rr hrr) (cwV 0 X.2.2.2.2 (lw_V q473 q474 q475 q71 q476) rfl rfl rfl kd_J2_coder ⟨by decide, by decide⟩) rfl rfl (Nat.le_of_ble_eq_true rfl) dJ2_length_6 ⟨by decide, by decide⟩) ?_
  refine jj_ishr X dJ2_length_9 ?_
  rw [sh_0]
  exact jj_iretR X hrt hlk dJ2_length_10
theorem mt_J4_checkIndex (l : Launch) (G : GG_) (σ : Me_) (i k : Int32) (v : Value) (hv : v.category = 1) (h1 : ¬ i < 0) (h2 : i < k) : Cr_ l yJ4_checkIndex (ws_ yJ4_checkIndex cJ4_checkIndex 3 (some .int)) (rm_ 1) 0 0 G [.int i, .int k, v] σ (some i) := by
  refine jj_met (by decide) (by have e1 : (Value.int i).category = 1 := rfl; have e2 : (Value.int k).category = 1 := rfl; simp [lg_sl, hv, e1, e2]) ?_
  intro p e s m below meth c X hG hrt hlk hnm
  refine jj_sub [0, 1] (lv' := [(0, .int i), (1, .int k)]) rfl ?_
  refine jj_iload_n X dJ4_checkIndex_0 0 rfl ?_
  refine jj_eqt (t' := if i < 0 then none else some i) (if_neg h1).symm ?_
  refine jj_if_lt (tgt := 9) X dJ4_checkIndex_1 (by decide) (fun _ => jj_none) (fun _ => ?_)
  refine jj_iload_n X dJ4_checkIndex_4 0 rfl ?_
  refine jj_iload_n X dJ4_checkIndex_5 1 rfl ?_
  refine jj_eqt (t' := if i < k then some i else none) (if_pos h2).symm ?_
  refine jj_icmp_lt (tgt := 16) X dJ4_checkIndex_6 (by decide) (fun _ => ?_) (fun _ => jj_none)
  refine jj_iload_n X dJ4_checkIndex_16 0 rfl ?_
  exact jj_iretR X hrt hlk dJ4_checkIndex_17
theorem mt_J2_checkIndex (l : Launch) (G : GG_) (σ : Me_) (i k : Int32) (h1 : ¬ i < 0) (h2 : i < k) : Cv_ l yJ2_checkIndex (ws_ yJ2_checkIndex cJ2_checkIndex 2 none) (rm_ 2) 0 0 G [.int i, .int k] σ (some σ) := by
  refine jj_met (by decide) (Nat.le_of_ble_eq_true rfl) ?_
  intro p e s m below meth c X hG hrt hlk hnm
  refine jj_iload_n X dJ2_checkIndex_0 0 rfl ?_
  refine jj_iload_n X dJ2_checkIndex_1 1 rfl ?_
  refine js_FORM X hG q493 dJ2_checkIndex_2 (fun v hv => ?_)
  refine jj_ct (mc := 0) (ms := 0) (fun rr hrr => jr_S (rest := []) X hG (mt_J4_checkIndex l G σ i k v hv h1 h2 rr hrr) (va_cwS 3 X.2.2.2.2 (lw_S q495 q496 q73 q497) rfl rfl rfl kd_J4_checkIndex ⟨by decide, by decide⟩) rfl rfl (Nat.le_of_ble_eq_true rfl) dJ2_checkIndex_5 ⟨by decide, by decide⟩) ?_
  refine jj_pop X dJ2_checkIndex_8 rfl ?_
  exact jj_vret X hrt hlk dJ2_checkIndex_9
theorem sc_char : ∀ n, n < 5 → ∀ k, k < sn_l n → ((sc_ n k &&& 255).toUInt32 % 65536).toInt32 = sc_ n k := by decide
theorem inb_nI {i : Int32} {n : Nat} (hn : n < 2 ^ 31) (h : inb_ i n = true) : ¬ i < 0 ∧ i < nI n := by
  simp only [inb_, Bool.and_eq_true, decide_eq_true_eq] at h
  obtain ⟨j, hj, rfl⟩ := nI_of h.1
  rw [nI_clamp hj] at h
  exact ⟨h.1, nI_lt h.2 hn⟩
theorem sn_small : ∀ n, n < 5 → sn_l n < 2 ^ 31 := by decide
theorem mt_J3_charAt (l : Launch) (G : GG_) (σ : Me_) (n : Nat) (i : Int32) (hn : n < 5) : Cr_ l yJ3_charAt (ws_ yJ3_charAt cJ3_charAt 2 (some .char)) (rm_ 3) 0 0 G [.ref (gg_a G (60 + n)), .int i] σ (if inb_ i (sn_l n) = true then some (sc_ n i.toNatClampNeg) else none) := by
  refine jj_met (by decide) (Nat.le_of_ble_eq_true rfl) ?_
  intro p e s m below meth c X hG hrt hlk hnm
  refine jj_ck (fun hb => ?_)
  obtain ⟨h1, h2⟩ := inb_nI (sn_small n hn) hb
  refine jj_iload_n X dJ3_charAt_0 1 rfl ?_
  refine jj_aload_n X dJ3_charAt_1 0 rfl ?_
  refine js_blen X hG hn dJ3_charAt_2 ?_
  refine jj_cv0 (mc := 0) (ms := 0) (r := σ) (jr_S (rest := []) X hG (mt_J2_checkIndex l G σ i (nI (sn_l n)) h1 h2 σ rfl) (va_cwS 2 X.2.2.2.2 (lw_S q490 q491 q71 q492) rfl rfl rfl kd_J2_checkIndex ⟨by decide, by decide⟩) rfl rfl (Nat.le_of_ble_eq_true rfl) dJ3_charAt_3 ⟨by decide, by decide⟩) ?_
  refine jj_aload_n X dJ3_charAt_6 0 rfl ?_
  refine jj_iload_n X dJ3_charAt_7 1 rfl ?_
  refine js_bald X hG hn hb dJ3_charAt_8 ?_
  refine jj_sipush (v := 255) X dJ3_charAt_9 (by decide) ?_
  refine jj_iand X dJ3_charAt_12 ?_
  refine jj_i2c X dJ3_charAt_13 ?_
  rw [sc_char n hn _ (inb_lt hb)]
  exact jj_tret X hrt hlk (by rw [← sc_char n hn _ (inb_lt hb)]; exact pk_nc _) dJ3_charAt_14
theorem mt_J2_charAt (l : Launch) (G : GG_) (σ : Me_) (n : Nat) (i : Int32) (hn : n < 5) : Cr_ l yJ2_charAt (ws_ yJ2_charAt cJ2_charAt 2 (some .char)) (rm_ 4) 0 0 G [.ref (gg_a G (50 + n)), .int i] σ (if inb_ i (sn_l n) = true then some (sc_ n i.toNatClampNeg) else none) := by
  refine jj_met (by decide) (Nat.le_of_ble_eq_true rfl) ?_
  intro p e s m below meth c X hG hrt hlk hnm
  refine jj_ck (fun hb => ?_)
  refine jj_aload_n X dJ2_charAt_0 0 rfl ?_
  refine jj_ct (mc := 0) (ms := 0) (fun rr hrr => jr_VO (rest := []) X hG (lo_str hG hn) (mt_J2_isLatin1 l G σ n hn rr hrr) (cwV 0 X.2.2.2.2 (lw_V q483 q484 q485 q71 q486) rfl rfl rfl kd_J2_isLatin1 ⟨by decide, by decide⟩) rfl rfl (Nat.le_of_ble_eq_true rfl) dJ2_charAt_1 ⟨by decide, by decide⟩) ?_
  refine jj_eqt (t' := if (1 : Int32) = 0 then none else some (sc_ n i.toNatClampNeg)) (if_neg (by decide)).symm ?_
  refine jj_if_eq (tgt := 16) X dJ2_charAt_4 (by decide) (fun _ => jj_none) (fun _ => ?_)
  refine jj_aload_n X dJ2_charAt_7 0 rfl ?_
  refine js_value X hG hn q1374 dJ2_charAt_8 ?_
  refine jj_iload_n X dJ2_charAt_11 1 rfl ?_
  refine jj_ct (mc := 0) (ms := 0) (v := sc_ n i.toNatClampNeg) (fun rr hrr => jr_S (rest := []) X hG (mt_J3_charAt l G σ n i hn rr (by rw [if_pos hb]; exact hrr)) (va_cwS 2 X.2.2.2.2 (lw_S q487 q488 q72 q489) rfl rfl rfl kd_J3_charAt ⟨by decide, by decide⟩) rfl rfl (Nat.le_of_ble_eq_true rfl) dJ2_charAt_12 ⟨by decide, by decide⟩) ?_
  exact jj_tret X hrt hlk (by rw [← sc_char n hn _ (inb_lt hb)]; exact pk_nc _) dJ2_charAt_15
section JS2
variable {p : Program} {l : Launch} {e : Env} {R : Room} {s : State} {m : MethodId} {args : Array Value} {below : List Frame} {meth : Method} {c : Code} {cc : ByteArray} {nL : Nat} {own : String} {G : GG_} {cells slots : Nat} {ρ : Type} {Qf : ρ → State → Prop} {pc : Nat} {lv : List (Nat × Value)} {st : List Value} {σ : Me_} {t : Option ρ} {n : Nat}
theorem jv_length (X : CallFix p m c cc nL s args lw_all own) (hG : Gl_ G s) (hn : n < 5) {index : Nat} (hlink : Cond.methodLink own index yJ2_length ∈ lw_all) (hfr : 3 ≤ R.frames) (hlo : 192 ≤ R.locals) (hc : cells ≤ R.cells) (hs : slots ≤ R.slots) (hrm : (st.map fun v => v.category).sum ≤ 8) (hd : decode cc pc = .ok (.invokevirtual index, 3)) (kk : jj_J p l e R s m args below meth c nL G cells slots Qf (pc + 3) lv (.int (nI (sn_l n)) :: st) σ t) : jj_J p l e R s m args below meth c nL G cells slots Qf pc lv (.ref (gg_a G (50 + n)) :: st) σ t :=
  jj_ct (mc := 0) (ms := 0) (fun rr hrr => jr_VO (As := []) (rest := st) X hG (lo_str hG hn) (mt_J2_length l G σ n hn rr hrr) (cwV 0 X.2.2.2.2 (lw_V hlink q470 q471 q71 q472) rfl rfl rfl kd_J2_length ⟨by show 2 + 1 ≤ R.frames; omega, by show 8 + (1 + 11) + 64 * 2 ≤ R.locals; omega⟩) rfl rfl hrm hd ⟨hc, hs⟩) kk
theorem jv_charAt (X : CallFix p m c cc nL s args lw_all own) (hG : Gl_ G s) (hn : n < 5) {i : Int32} {index : Nat} (hlink : Cond.methodLink own index yJ2_charAt ∈ lw_all) (hfr : 5 ≤ R.frames) (hlo : 320 ≤ R.locals) (hc : cells ≤ R.cells) (hs : slots ≤ R.slots) (hrm : (st.map fun v => v.category).sum ≤ 8) (hd : decode cc pc = .ok (.invokevirtual index, 3)) (kk : jj_J p l e R s m args below meth c nL G cells slots Qf (pc + 3) lv (.int (sc_ n i.toNatClampNeg) :: st) σ t) : jj_J p l e R s m args below meth c nL G cells slots Qf pc lv (.int i :: .ref (gg_a G (50 + n)) :: st) σ (if inb_ i (sn_l n) = true then t else none) :=
  jj_ck fun hb => jj_ct (mc := 0) (ms := 0) (v := sc_ n i.toNatClampNeg) (fun rr hrr => jr_VO (As := [.int i]) (rest := st) X hG (lo_str hG hn) (mt_J2_charAt l G σ n i hn rr (by rw [if_pos hb]; exact hrr)) (cwV 1 X.2.2.2.2 (lw_V hlink q480 q481 q71 q482) rfl rfl rfl kd_J2_charAt ⟨by show 4 + 1 ≤ R.frames; omega, by show 8 + (2 + 11) + 64 * 4 ≤ R.locals; omega⟩) rfl rfl hrm hd ⟨hc, hs⟩) kk
theorem js_ldc (X : CallFix p m c cc nL s args lw_all own) {index n : Nat} {tx : String} (hR : vk_R own index tx (gg_a G (50 + n)) s) (hd : decode cc pc = .ok (.ldc index, 2)) (kk : jj_J p l e R s m args below meth c nL G cells slots Qf (pc + 2) lv (.ref (gg_a G (50 + n)) :: st) σ t) : jj_J p l e R s m args below meth c nL G cells slots Qf pc lv st σ t := fun r hr H locs ls hW hS hl => va_ldcS X.1 X.2.1 X.2.2.2.1 hR hd (kk r hr H locs ls hW hS hl)
end JS2
