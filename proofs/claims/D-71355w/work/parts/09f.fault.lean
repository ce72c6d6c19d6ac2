/-! FAULT: the exception's constructors; wants; calls of methods that may throw -/
set_option maxRecDepth 100000
theorem ki_J0 : yJ0_init_2.cls ≠ "java/lang/invoke/MethodHandle" ∧ yJ0_init_2.cls ≠ "java/lang/invoke/VarHandle" ∧ (parseMethodDescriptor yJ0_init_2.desc).map (fun d => d.parameters.length) = some 4 := by decide +kernel
theorem ki_J1 : yJ1_init.cls ≠ "java/lang/invoke/MethodHandle" ∧ yJ1_init.cls ≠ "java/lang/invoke/VarHandle" ∧ (parseMethodDescriptor yJ1_init.desc).map (fun d => d.parameters.length) = some 4 := by decide +kernel
theorem ki_X7 : yX7_init.cls ≠ "java/lang/invoke/MethodHandle" ∧ yX7_init.cls ≠ "java/lang/invoke/VarHandle" ∧ (parseMethodDescriptor yX7_init.desc).map (fun d => d.parameters.length) = some 1 := by decide +kernel
set_option maxHeartbeats 4000000 in
theorem mt_J0_init_2 (l : Launch) (G : GG_) (w0 : va_W) (q : Nat) (v0 v1 v2 v3 v4 v5 v6 : Value) : CX_ l yJ0_init_2 (ws_ yJ0_init_2 cJ0_init_2 5 none) (rm_ 1) 0 0 G w0 [.ref q, .null, .null, .int 0, .int 0] [(q, .inr (7, [v0, v1, v2, v3, v4, v5, v6]))] (fun ex' => ex' = [(q, .inr (7, [.null, .null, .null, .null, v4, v5, v6]))]) := by
  refine jx_met (by decide) (Nat.le_of_ble_eq_true rfl) ?_
  intro p e s m below meth c X hG hz hrt hlk hnm
  refine jx_aload_n X dJ0_init_2_0 0 rfl ?_
  refine jx_objInit X q420 q84 q85 (by decide) (Nat.le_of_ble_eq_true rfl) dJ0_init_2_1 ?_
  refine jx_aload_n X dJ0_init_2_4 0 rfl ?_
  refine jx_aload_n X dJ0_init_2_5 0 rfl ?_
  refine jx_put X hG 0 rfl rfl in_X7 tyX7 tyX7_ok nmX7 0 (by decide) q447 rfl (by decide +kernel) (ty := .object "java/lang/Throwable") rfl rfl (by show 0 < 7; decide) rfl dJ0_init_2_6 ?_
  refine jx_aload_n X dJ0_init_2_9 0 rfl ?_
  refine jx_US X hG q421 dJ0_init_2_10 (fun u hu => ?_)
  refine jx_put X hG 0 rfl rfl in_X7 tyX7 tyX7_ok nmX7 1 (by decide) q448 rfl (by decide +kernel) (ty := .array (.object "java/lang/StackTraceElement")) (nr_arr hu).1 (nr_arr hu).2 (by show 1 < 7; decide) rfl dJ0_init_2_13 ?_
  refine jx_aload_n X dJ0_init_2_16 0 rfl ?_
  refine jx_SS X hG q423 dJ0_init_2_17 (fun w hw => ?_)
  refine jx_put X hG 0 rfl rfl in_X7 tyX7 tyX7_ok nmX7 2 (by decide) q449 rfl (by decide +kernel) (ty := .object "java/util/List") (nr_obj hw).1 (nr_obj hw).2 (by show 2 < 7; decide) rfl dJ0_init_2_20 ?_
  refine jx_iload X dJ0_init_2_23 4 rfl ?_
  refine jx_if_eqT (tgt := 36) X rfl dJ0_init_2_25 (by decide) ?_
  refine jx_aload_n X dJ0_init_2_36 0 rfl ?_
  refine jx_aconst_null X dJ0_init_2_37 ?_
  refine jx_put X hG 0 rfl rfl in_X7 tyX7 tyX7_ok nmX7 1 (by decide) q448 rfl (by decide +kernel) (ty := .array (.object "java/lang/StackTraceElement")) rfl rfl (by show 1 < 7; decide) rfl dJ0_init_2_38 ?_
  refine jx_aload_n X dJ0_init_2_41 0 rfl ?_
  refine jx_aload_nN X dJ0_init_2_42 1 rfl ?_
  refine jx_put X hG 0 rfl rfl in_X7 tyX7 tyX7_ok nmX7 3 (by decide) q446 rfl (by decide +kernel) (ty := .object "java/lang/String") rfl rfl (by show 3 < 7; decide) rfl dJ0_init_2_43 ?_
  refine jx_aload_n X dJ0_init_2_46 0 rfl ?_
  refine jx_aload_nN X dJ0_init_2_47 2 rfl ?_
  refine jx_put X hG 0 rfl rfl in_X7 tyX7 tyX7_ok nmX7 0 (by decide) q447 rfl (by decide +kernel) (ty := .object "java/lang/Throwable") rfl rfl (by show 0 < 7; decide) rfl dJ0_init_2_48 ?_
  refine jx_iload_n X dJ0_init_2_51 3 rfl ?_
  refine jx_if_neF (tgt := 60) X rfl dJ0_init_2_52 (by decide) ?_
  refine jx_aload_n X dJ0_init_2_55 0 rfl ?_
  refine jx_aconst_null X dJ0_init_2_56 ?_
  refine jx_put X hG 0 rfl rfl in_X7 tyX7 tyX7_ok nmX7 2 (by decide) q449 rfl (by decide +kernel) (ty := .object "java/util/List") rfl rfl (by show 2 < 7; decide) rfl dJ0_init_2_57 ?_
  exact jx_vret X hrt hlk rfl dJ0_init_2_60
theorem mt_J1_init (l : Launch) (G : GG_) (w0 : va_W) (q : Nat) (v0 v1 v2 v3 v4 v5 v6 : Value) : CX_ l yJ1_init (ws_ yJ1_init cJ1_init 5 none) (rm_ 2) 0 0 G w0 [.ref q, .null, .null, .int 0, .int 0] [(q, .inr (7, [v0, v1, v2, v3, v4, v5, v6]))] (fun ex' => ex' = [(q, .inr (7, [.null, .null, .null, .null, v4, v5, v6]))]) := by
  refine jx_met (by decide) (Nat.le_of_ble_eq_true rfl) ?_
  intro p e s m below meth c X hG hz hrt hlk hnm
  refine jx_aload_n X dJ1_init_0 0 rfl ?_
  refine jx_aload_nN X dJ1_init_1 1 rfl ?_
  refine jx_aload_nN X dJ1_init_2 2 rfl ?_
  refine jx_iload_n X dJ1_init_3 3 rfl ?_
  refine jx_iload X dJ1_init_4 4 rfl ?_
  refine jx_init (rest := []) [] [(q, .inr (7, [v0, v1, v2, v3, v4, v5, v6]))] X hG rfl (mt_J0_init_2 l G _ q v0 v1 v2 v3 v4 v5 v6) (cwI 4 X.2.2.2.2 (lw_meth q442) rfl rfl rfl (X.2.2.2.2 _ q68) (X.2.2.2.2 _ q440) (X.2.2.2.2 _ q441) rfl ki_J0 ⟨by decide, by decide⟩) rfl rfl (Nat.le_of_ble_eq_true rfl) dJ1_init_6 ⟨by decide, by decide⟩ (fun ex' hex => ?_)
  subst hex
  exact jx_vret X hrt hlk rfl dJ1_init_9
theorem mt_X7_init (l : Launch) (G : GG_) (w0 : va_W) (q : Nat) (x : Int32) (v0 v1 v2 v3 v4 v5 v6 : Value) : CX_ l yX7_init (ws_ yX7_init cX7_init 2 none) (rm_ 3) 0 0 G w0 [.ref q, .int x] [(q, .inr (7, [v0, v1, v2, v3, v4, v5, v6]))] (fun ex' => ex' = [(q, .inr (7, [.null, .null, .null, .null, v4, v5, .int x]))]) := by
  refine jx_met (by decide) (Nat.le_of_ble_eq_true rfl) ?_
  intro p e s m below meth c X hG hz hrt hlk hnm
  refine jx_aload_n X dX7_init_0 0 rfl ?_
  refine jx_aconst_null X dX7_init_1 ?_
  refine jx_aconst_null X dX7_init_2 ?_
  refine jx_iconst (v := 0) X dX7_init_3 (by decide) ?_
  refine jx_iconst (v := 0) X dX7_init_4 (by decide) ?_
  refine jx_init (rest := []) [] [(q, .inr (7, [v0, v1, v2, v3, v4, v5, v6]))] X hG rfl (mt_J1_init l G _ q v0 v1 v2 v3 v4 v5 v6) (cwI 4 X.2.2.2.2 (lw_meth q439) rfl rfl rfl (X.2.2.2.2 _ q69) (X.2.2.2.2 _ q437) (X.2.2.2.2 _ q438) rfl ki_J1 ⟨by decide, by decide⟩) rfl rfl (Nat.le_of_ble_eq_true rfl) dX7_init_5 ⟨by decide, by decide⟩ (fun ex' hex => ?_)
  subst hex
  refine jx_aload_n X dX7_init_8 0 rfl ?_
  refine jx_iload_n X dX7_init_9 1 rfl ?_
  refine jx_putF X hG hnm 0 rfl rfl in_X7 tyX7 tyX7_ok nmX7 6 (by decide) q443 rfl rfl (by decide +kernel) (ty := .int) rfl rfl (by show 6 < 7; decide) rfl dX7_init_10 ?_
  exact jx_vret X hrt hlk rfl dX7_init_13
/-- a Fault with its place -/
def FaultAt (G : GG_) (a : Nat) (pl : Int32) (H : Heap) : Prop := gg_z G ≤ a ∧ ∃ v0 v1 v2 v3 v4 v5 : Value, va_at (gg_D G) cl_ (a, .inr (7, [v0, v1, v2, v3, v4, v5, .int pl])) H
abbrev Ex_ : Type := (Int32 ⊕ Int32) × Me_
def rv_ (vd : Bool) (v : Int32) : Option Value := if vd then none else some (.int v)
def QT_ (G : GG_) (vd : Bool) (r : Ex_) : Array Value → State → Outcome → State → Prop := fun _ st o t => (match r.1 with
  | .inl v => o = .returned (rv_ vd v)
  | .inr pl => ∃ a, o = .threw a ∧ FaultAt G a pl t.heap) ∧ Wo_ G r.2 t.heap ∧ va_F (AA_ G) st t
def CT_ (l : Launch) (y : MethodName) (ws : List Cond) (rm : Room) (G : GG_) (av : List Value) (σ : Me_) (vd : Bool) (o : Option Ex_) : Prop := ∀ r, o = some r → MetT l y ws rm (Pr_ G σ av) (QT_ G vd r) 1 7 (AA_ G)
def rmT_ (d : Nat) : Room := { frames := d, cells := 1, slots := 7, locals := 64 * d }
/-- behind a call that may throw: what is thrown goes through -/
def bt_ (o : Option Ex_) (k : Int32 → Me_ → Option Ex_) : Option Ex_ := o.bind (fun q => match q.1 with
  | .inl v => k v q.2
  | .inr pl => some (.inr pl, q.2))
section JT
variable {p : Program} {l : Launch} {e : Env} {R : Room} {s : State} {m : MethodId} {args : Array Value} {below : List Frame} {meth : Method} {c : Code} {cc : ByteArray} {nL : Nat} {own : String} {G : GG_} {cells slots : Nat} {vd : Bool} {pc : Nat} {lv : List (Nat × Value)} {st : List Value} {σ : Me_} {t : Option Ex_} {id tg : Nat}
theorem jj_sty {ρ : Type} {Qf : ρ → State → Prop} {t0 : Option ρ} {st' : List Value} (h : st = st') (k : jj_J p l e R s m args below meth c nL G cells slots Qf pc lv st' σ t0) : jj_J p l e R s m args below meth c nL G cells slots Qf pc lv st σ t0 := h ▸ k
theorem W.mono {H : Heap} {locs : List Loc} {Q Q' : State → Prop} {g : JFrame} (h : ∀ t, Q t → Q' t) (k : W p l e R s m args below meth c H locs cells slots Q g) : W p l e R s m args below meth c H locs cells slots Q' g := fun T hT X => by
  obtain ⟨t, a, b⟩ := k T hT X
  exact ⟨t, a, h t b⟩
theorem MQ.toX {Qc : Array Value → State → Outcome → State → Prop} {free : Addr → Prop} {t : State} (h : MQ below Qc args s 0 0 free t) : MQX below Qc args s 1 7 free t := by
  obtain ⟨o, h1, h2, h3, L, ⟨⟨v, rfl⟩, h5, h6⟩, h7⟩ := h
  exact ⟨_, h1, h2, h3, L, ⟨h5, h6⟩, h7⟩
theorem jj_iretT (X : CallFix p m c cc nL s args lw_all own) (hrt : meth.sig.returnType = some .int) (hlk : meth.locks = false) {x : Int32} (hd : decode cc pc = .ok (.ireturn, 1)) : jj_J p l e R s m args below meth c nL G 0 0 (fun r => MQX below (QT_ G false r) args s 1 7 (AA_ G)) pc lv [.int x] σ (some (.inl x, σ)) := fun r hr H locs ls hW hS hl => by
  cases hr
  exact W.mono (fun _ => MQ.toX) (W.iret X.1 X.2.1 hrt (fun t ht hWm => ⟨rfl, by rw [ht]; exact hW, hS.F ht⟩) hS.2.2 hd)
theorem jj_vretT (X : CallFix p m c cc nL s args lw_all own) (hrt : meth.sig.returnType = none) (hlk : meth.locks = false) (hd : decode cc pc = .ok (.return_, 1)) : jj_J p l e R s m args below meth c nL G 0 0 (fun r => MQX below (QT_ G true r) args s 1 7 (AA_ G)) pc lv [] σ (some (.inl 0, σ)) := fun r hr H locs ls hW hS hl => by
  cases hr
  exact W.mono (fun _ => MQ.toX) (W.vret X.1 X.2.1 hrt (fun t ht hWm => ⟨rfl, by rw [ht]; exact hW, hS.F ht⟩) hS.2.2 hd)
theorem jj_metT {y : MethodName} {ret : Option FieldType} {rm : Room} {av : List Value} (hy : plainName y.cls = true) (hav : (lg_sl av).length ≤ nL)
    (body : ∀ (p : Program) (e : Env) (s : State) (m : MethodId) (below : List Frame) (meth : Method) (c : Code), CallFix p m c cc nL s av.toArray lw_all y.cls → Gl_ G s → meth.sig.returnType = ret → meth.locks = false → (∀ x ∈ c.exceptionTable.toList, False) → jj_J p l e rm s m av.toArray below meth c nL G 0 0 (fun r => MQX below (QT_ G vd r) av.toArray s 1 7 (AA_ G)) 0 (lv_args 0 av) [] σ t) :
    CT_ l y (ws_ y cc nL ret) rm G av σ vd t := by
  intro r hr
  refine MetT.ofW (cc := cc) (maxL := nL) (ret := ret) hy rfl ?_
  intro p e s m args below meth c s₁ B hml hno hv
  obtain ⟨rfl, hG, hW⟩ := hv
  have hts := atoms_spec (ws := ws_ y cc nL ret) B.pre
  have hts : ∀ w ∈ lw_all, w.before _ s = true := fun w h => hts w (List.mem_cons_of_mem _ h)
  rw [lg_entry_eq]
  exact body p e s m below meth c ⟨B.exec, B.bytes, hml, findClass_of_methodNamed B.named, hts⟩ hG B.returns B.notSynchronized hno r hr s.heap [] _ hW va_S.rf (lv_entry av hav)
/-- a call of a method that may throw, in a method without handlers -/
theorem jj_cT {y : MethodName} {bytes : ByteArray} {maxL n index ci N : Nat} {T : u_T} {ret : Option FieldType} {rm : Room} {C : String} {As rest st0 : List Value} {vc : Bool} {o : Option Ex_} {k : Int32 → Me_ → Option Ex_} (X : CallFix p m c cc nL s args lw_all own) (hG : Gl_ G s) (hlk : meth.locks = false) (hno : ∀ x ∈ c.exceptionTable.toList, False) (ht : gg_t G id = tg) (h0 : tg ≠ 0) (he : ∃ fs, cell_ G tg id (σ.1 id) (σ.2 id) = .inr (ci, fs)) (hc : cl_[ci]? = some (C, T, N)) (M : CT_ l y (ws_ y bytes maxL ret) rm G (.ref (gg_r G id) :: As) σ vc o) (cw : CallW R s args own C index y bytes maxL ret (ws_ y bytes maxL ret) rm 1 7 n) (hn : As.length = n) (hst : st0 = As.reverse ++ .ref (gg_r G id) :: rest) (hrm : (rest.map fun v => v.category).sum ≤ 8) (hd : decode cc pc = .ok (.invokevirtual index, 3)) (hf : 0 + 1 ≤ R.cells ∧ 0 + 7 ≤ R.slots)
    (kk : ∀ v σ', jj_J p l e R s m args below meth c nL G 0 0 (fun r => MQX below (QT_ G vd r) args s 1 7 (AA_ G)) (pc + 3) lv ((rv_ vc v).toList ++ rest) σ' (k v σ')) : jj_J p l e R s m args below meth c nL G 0 0 (fun r => MQX below (QT_ G vd r) args s 1 7 (AA_ G)) pc lv st0 σ (bt_ o k) := by
  cases o with
  | none => exact jj_none
  | some rr =>
    intro r hr H locs ls hW hS hl
    have hM := M rr rfl
    obtain ⟨fs, he⟩ := he
    have hini := cw.1.2.2.2.2.2.2.2.1
    have hK : BackT l R p e below s args y 3 8 (PreOf R 1 7 (Pr_ G σ (.ref (gg_r G id) :: As))) (PostT (QT_ G vc rr) 1 7 (AA_ G)) := back_ofT (bytes := bytes) (maxL := maxL) (ret := ret) hM Pr_.blind cw.1.1 cw.1.2.1 cw.1.2.2.1 cw.1.2.2.2.1 cw.1.2.2.2.2.1 cw.1.2.2.2.2.2.1 (fun a' U hW => word_at hW (Or.inl (by first | rfl | simp [Cond.onTables, Cond.keeps, Cond.steady])) hini)
    obtain ⟨cellB, hcB, hoB, hclB⟩ := va_recv hG.1 (hW.one ht h0 he) hc (q0 := 0) rfl
    have hPc := Pr_.go (av := .ref (gg_r G id) :: As) hG hW hS
    obtain ⟨⟨-, -, -, -, -, -, hcode, -, hy, hlen, hlink⟩, hin, hse⟩ := cw
    obtain ⟨hx, hb, hml, ho, hts⟩ := X
    intro T hT X
    obtain ⟨oc, vm₁, ⟨U', l2, c2, s2⟩, hW₁, X', ⟨g', mk, t1, L, e1, e2, hq, h1, hL, h2, h3⟩, st1, st2⟩ := callVT X hx (C := C) (bytes := bytes) (maxL := maxL) (ret := ret) ho hlink hin hse hcode hy hK (by rw [hT]; exact hcB) hoB hclB (g := F0 m pc ls st0) rfl (hl.1.trans hml.symm) (argsL := As) (rest := rest) (fun sig h => hn.trans (hlen sig h)) hst (lv_room hrm) (by rw [hb]; exact hd)
      (fun vm₁ hW₁ => ⟨hf.1, hf.2, hPc (T.setVm vm₁) hT hW₁⟩)
    dsimp only [Pt.U, Pt.locs, Pt.cells, Pt.slots] at X' e1 e2 h1 h2 h3 st1 st2
    subst h1; subst h2; subst h3
    obtain ⟨hq1, hq2, hF⟩ := hq
    have hF2 : H.size ≤ U'.heap.size ∧ ∀ q : Nat, q < H.size → ¬ AA_ G q → U'.heap[q]? = H[q]? := by
      obtain ⟨z1, z2⟩ := hF
      have hh : ((T.setVm vm₁).calling g' mk (Value.ref (gg_r G id) :: As).toArray).heap = H := hT
      rw [hh] at z1 z2
      exact ⟨by rw [e1]; exact z1, fun q a b => by rw [e1]; exact z2 q a b⟩
    have hS1 : va_S (AA_ G) s.heap U'.heap (locs ++ L) := ⟨Nat.le_trans hS.1 hF2.1, fun q a b => by rw [hF2.2 q (Nat.lt_of_lt_of_le a hS.1) b]; exact hS.2.1 q a b, fun q hq => by
      rcases List.mem_append.mp hq with h | h
      · exact hS.2.2 q h
      · exact hL q h⟩
    have hWo : Wo_ G rr.2 U'.heap := by rw [e1]; exact hq2
    obtain ⟨r1, σ'⟩ := rr
    cases r1 with
    | inl v =>
      have hoc : oc = .returned (rv_ vc v) := hq1
      subst hoc
      have hr' : k v σ' = some r := hr
      obtain ⟨t2, a1, b1⟩ := kk v σ' r hr' U'.heap (locs ++ L) ls hWo hS1 hl U' rfl X'
      exact ⟨t2, st1 _ rfl t2 a1, b1⟩
    | inr pl =>
      obtain ⟨x, hoc, hFa⟩ := hq1
      subst hoc
      have hr' : r = (.inr pl, σ') := (Option.some.inj hr).symm
      subst hr'
      obtain ⟨hsteps, hrun, hend, hwm, hsame⟩ := X'.leaveThrown x (g := F0 m pc ls rest) rfl rfl rfl (fun y hy => absurd hy (hno y)) hlk
      refine ⟨_, st2 x rfl _ hsteps, .threw x, hrun, hend, ⟨⟨x, rfl, ?_⟩, ?_, ?_⟩, locs ++ L, ⟨hwm, hsame⟩, hS1.2.2⟩
      · show FaultAt G x pl U'.heap
        rw [e1]; exact hFa
      · exact hWo
      · exact hS1.F rfl
/-- the field of an object of the world, while others are being made -/
theorem jx_getW {Q : State → Prop} {ex : va_W} {ci N index k : Nat} {C : String} {T : u_T} {fs : List Value} {v : Value} (X : CallFix p m c cc nL s args lw_all own) (hG : Gl_ G s) (ht : gg_t G id = tg) (h0 : tg ≠ 0) (he : cell_ G tg id (σ.1 id) (σ.2 id) = .inr (ci, fs)) (hc : cl_[ci]? = some (C, T, N)) (hin : ∀ w ∈ u_ws C T N, w ∈ lw_all) (hk : k < N) (hw : Cond.fieldLink own index (T k).1 (T k).2.1 (T k).2.2.1 ∈ lw_all) (hv : fs[k]? = some v) (hd : decode cc pc = .ok (.getfield index, 3)) (kk : jx_J p l e R s m args below meth c nL G cells slots Q (pc + 3) lv (v :: st) (wl_ G σ) ex) : jx_J p l e R s m args below meth c nL G cells slots Q pc lv (.ref (gg_r G id) :: st) (wl_ G σ) ex := fun H locs ls hP hS hl =>
  va_get X.1 X.2.1 X.2.2.2.2 hin X.2.2.2.1 hG.1 ((hP.world hG.nu).one ht h0 he) 0 rfl hc k hk (X.2.2.2.2 _ hw) (fun x h => h) hv hd (kk H locs ls hP hS hl)
theorem jx_throw {q : Nat} {v0 v1 v2 v3 v4 v5 : Value} {pl : Int32} {rest : List Value} (X : CallFix p m c cc nL s args lw_all own) (hG : Gl_ G s) (hlk : meth.locks = false) (hno : ∀ x ∈ c.exceptionTable.toList, False) (hd : decode cc pc = .ok (.athrow, 1)) : jx_J p l e R s m args below meth c nL G 1 7 (MQX below (QT_ G vd (.inr pl, σ)) args s 1 7 (AA_ G)) pc lv (.ref q :: rest) (wl_ G σ) [(q, .inr (7, [v0, v1, v2, v3, v4, v5, .int pl]))] := fun H locs ls hP hS hl => by
  intro T hT XT
  obtain ⟨hsteps, hrun, hend, hwm, hsame⟩ := XT.athrowLeaves X.1 (g := F0 m pc ls (.ref q :: rest)) rfl rfl rfl (fun y hy => absurd hy (hno y)) (a := q) (rest := rest) rfl (by rw [X.2.1]; exact hd) hlk
  refine ⟨_, hsteps, .threw q, hrun, hend, ⟨⟨q, rfl, ?_⟩, ?_, ?_⟩, locs, ⟨hwm, hsame⟩, hS.2.2⟩
  · show FaultAt G q pl T.heap
    rw [hT]
    have hx : ([(q, Sum.inr (7, [v0, v1, v2, v3, v4, v5, .int pl]))] : va_W)[0]? = some (q, Sum.inr (7, [v0, v1, v2, v3, v4, v5, .int pl])) := rfl
    exact ⟨hP.2.2 _ _ (wx_at hx), v0, v1, v2, v3, v4, v5, hP.1 _ _ (wx_at hx)⟩
  · show Wo_ G σ T.heap
    rw [hT]; exact hP.world hG.nu
  · exact hS.F hT
end JT
theorem kd_X3_wants : yX3_wants.cls = "LeftBehind$Reader" ∧ yX3_wants.cls ≠ "java/lang/invoke/MethodHandle" ∧ yX3_wants.cls ≠ "java/lang/invoke/VarHandle" ∧ (parseMethodDescriptor yX3_wants.desc).map (fun d => d.parameters.length) = some 1 := by decide +kernel
def F_X3_wants (σ : Me_) (x1 : Int32) : Option Ex_ := if x1 = 0 then some (.inr (σ.1 77 1), σ) else some (.inl 0, σ)
theorem mt_X3_wants (l : Launch) (G : GG_) (σ : Me_) (x1 : Int32) : CT_ l yX3_wants (ws_ yX3_wants cX3_wants 2 none) (rmT_ 4) G [.ref (gg_r G 77), .int x1] σ true (F_X3_wants σ x1) := by
  refine jj_metT (by decide) (Nat.le_of_ble_eq_true rfl) ?_
  intro p e s m below meth c X hG hrt hlk hno
  unfold F_X3_wants
  refine jj_iload_n X dX3_wants_0 1 rfl ?_
  refine jj_if_ne (tgt := 16) X dX3_wants_1 (by decide) (fun _ => ?_) (fun _ => ?_)
  · exact jj_vretT X hrt hlk dX3_wants_16
  · intro r hr H locs ls hW hS hl
    cases hr
    have key : jx_J p l e (rmT_ 4) s m ([.ref (gg_r G 77), .int x1] : List Value).toArray below meth c 2 G 0 0 (MQX below (QT_ G true (.inr (σ.1 77 1), σ)) ([.ref (gg_r G 77), .int x1] : List Value).toArray s 1 7 (AA_ G)) 4 [(0, .ref (gg_r G 77)), (1, .int x1)] [] (wl_ G σ) [] := by
      refine jx_new (ci := 7) (fs := [.null, .null, .null, .null, .null, .int 0, .int 0]) X hG hG.2.2.2.2.2.2 in_X7 tyX7 tyX7_ok q397 q398 q70 rfl (by decide) (by decide) (by decide) dX3_wants_4 (fun q => ?_)
      refine jx_dup X dX3_wants_7 rfl ?_
      refine jx_aload_n X dX3_wants_8 0 rfl ?_
      refine jx_getW X hG (tg_77 hG) (by decide) rfl rfl in_X3 (k := 1) (by decide) q193 rfl dX3_wants_9 ?_
      refine jx_init (rest := [.ref q]) [] [(q, .inr (7, [.null, .null, .null, .null, .null, .int 0, .int 0]))] X hG rfl (mt_X7_init l G _ q (σ.1 77 1) .null .null .null .null .null (.int 0) (.int 0)) (cwI 1 X.2.2.2.2 (lw_meth q436) rfl rfl rfl (X.2.2.2.2 _ q70) (X.2.2.2.2 _ q434) (X.2.2.2.2 _ q435) rfl ki_X7 ⟨by decide, by decide⟩) rfl rfl (Nat.le_of_ble_eq_true rfl) dX3_wants_12 ⟨by decide, by decide⟩ (fun ex' hex => ?_)
      subst hex
      exact jx_throw X hG hlk hno dX3_wants_15
    exact key H locs ls (Xp_.nil hG.nu hW) hS hl
