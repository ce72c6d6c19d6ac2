/-! READ: LeftBehind.read, the one method with a handler; the catch type's pool entry cold or warm -/
set_option maxRecDepth 100000
def FindsX (e : Env) (s : State) (f : JFrame) (a : Addr) (h : Handler) (vm' : Vm) : Prop :=
  ∀ (Q : Handler → Pre) (E : CtlPost) (d : Bool) (acts : List Action), wp (findHandler f a) Q E e d acts s ↔ Q h d acts (s.setVm vm')
theorem finds_link {Q : Handler → Pre} {E : CtlPost} {e : Env} {d : Bool} {acts : List Action} {s : State} {f : JFrame} {a : Addr} {x : ExceptionTableEntry} {t : List ExceptionTableEntry} {c : ClassId} {cell : Cell} (hx : covers x f.pc = true) (h0 : x.catchType ≠ 0)
    (hl : s.vm.ClassLinks e.platform f.method.cls x.catchType c) (hcell : s.heap[a]? = some cell) (hobj : ∀ k, cell.vm ≠ .statics k)
    (hk : ∃ k, s.vm.classes[cell.cls]? = some k) (hc : ∃ k, s.vm.classes[c]? = some k) (hfit : s.vm.assignable cell.cls c = true) :
    wp (findHandler.go f a (x :: t)) Q E e d acts s ↔ Q (.found x.handlerPc) d acts (s.setVm (s.vm.noted f.method.cls x.catchType (.cls c))) := by
  simp only [covers] at hx
  obtain ⟨ha, ht⟩ := (resolveClass_links e.toSetting hl).op (op := VmOp.resolveClass f.method.cls x.catchType) rfl
  have hal : s.vm.Alike (s.vm.noted f.method.cls x.catchType (.cls c)) := (Vm.Alike.refl s.vm).noted _ _ _
  obtain ⟨k1, hk1⟩ := hk
  obtain ⟨k2, hk2⟩ := hc
  obtain ⟨k1', hk1', -⟩ := hal.2.2 _ _ hk1
  obtain ⟨k2', hk2', -⟩ := hal.2.2 _ _ hk2
  have hfit' : (s.vm.noted f.method.cls x.catchType (.cls c)).assignable cell.cls c = true := by rw [hal.assignable]; exact hfit
  simp [findHandler.go, hx, h0, ha, ht, hcell, hobj, hk1', hk2', hfit', VmOp.dirties, VmOp.acts]
theorem step_catchX {e : Env} {s : State} {a : Addr} {f : JFrame} {r : List Frame} {pc : Nat} {vm' : Vm} (hfind : FindsX e s f a (.found pc) vm') :
    (stepThrowing e s a (.java f :: r)).Is ((s.setVm vm').setFrames (.java { f with pc := pc, stack := [.ref a] } :: r)) [] := by
  simp only [stepThrowing, searchFrame, vmDo]
  generalize hr : Sem.go _ e false [] s = res
  obtain ⟨as, rfl, ha⟩ := Sem.eq_ok_of hr (a := Handler.found pc) (s' := s.setVm vm') (acts' := []) (by simp [hfind _ _ _ _])
  exact ⟨rfl, ha⟩
theorem frames_vm_frames (u : State) (vm' : Vm) (F G : List Frame) : ((u.setFrames F).setVm vm').setFrames G = (u.setVm vm').setFrames G := by
  have h1 : (u.setFrames F).setVm vm' = (u.setVm vm').setFrames F := rfl
  rw [h1, State.setFrames_setFrames]
theorem steps_caughtX {tb : Tables} {e : Env} {s target : State} {g : JFrame} {c : Code} {below : List Frame} {a : Addr} (h : At s g.method c below) {pc : Nat} {vm' : Vm}
    (hfind : FindsX e ((s.setTop g).pushFrame (.throwing a)) g a (.found pc) vm') (hrest : Steps tb e below ((s.setVm vm').setTop { g with pc := pc, stack := [.ref a] }) target) :
    Steps tb e below ((s.setTop g).pushFrame (.throwing a)) target := by
  obtain ⟨hgo, hw⟩ := h.throwing a
  refine Steps.head hgo hw ?_
  rw [stepThread_throwing (frames_entered h.top _), (step_catchX (s := (s.setTop g).pushFrame (.throwing a)) hfind).1]
  obtain ⟨g₀, hg⟩ := Option.isSome_iff_exists.mp h.top
  obtain ⟨r, hr⟩ := State.topJava?_eq_some.mp hg
  have hr' : (s.setVm vm').frames = .java g₀ :: r := hr
  rw [State.setTop_of_frames _ hr'] at hrest
  rw [hr, List.tail_cons, State.pushFrame, frames_vm_frames, State.setTop_of_frames _ hr, frames_vm_frames]
  exact hrest
section RC
variable {p : Program} {l : Launch} {e : Env} {R : Room} {s : State} {m : MethodId} {args : Array Value} {below : List Frame} {meth : Method} {c : Code} {T : State} {locs : List Loc} {cells slots : Nat}
theorem stand_caught (X : Stand p l e R s m args below meth c T locs cells slots) (a : Addr) {g : JFrame} (hg : g.method = m) {own name : String} (hown : s.vm.findClass own = some m.cls)
    (x : ExceptionTableEntry) (rest : List ExceptionTableEntry) (hsplit : c.exceptionTable.toList = x :: rest) (hx : covers x g.pc = true) (h0 : x.catchType ≠ 0)
    (hlink : (Cond.classLink own x.catchType name).before args s = true) {cT : ClassId} {cell : Cell} (hcT : s.vm.findClass name = some cT) (hcell : T.heap[a]? = some cell) (hobj : cell.vm.isStatics = false) (hfit : s.vm.assignable cell.cls cT = true) :
    ∃ vm', Stand p l e R s m args below meth c (T.setVm vm') locs cells slots ∧
      ∀ target, Steps p.tables e below ((T.setVm vm').setTop { g with pc := x.handlerPc, stack := [.ref a] }) target → Steps p.tables e below ((T.setTop g).pushFrame (.throwing a)) target := by
  have hpl : e.platform.magicAccessors = ({} : Platform).magicAccessors := by rw [X.admits.platform]
  obtain ⟨c', hc', hcl⟩ := Cond.classLink_spec hown hlink e.platform hpl
  cases hcT.symm.trans hc'
  obtain ⟨dk, _, _, kt, hd, _, _, _, _, hkt, _, hopen⟩ := hcl.here
  have hcl₀ := X.warmed.classLinks hcl
  have hW' : s.WarmedH (T.vm.noted m.cls x.catchType (.cls cT)) := X.warmed.noted hd hopen (State.rightAt_cls hcl)
  have hal := X.warmed.alike
  obtain ⟨kt', hkt', -⟩ := hal.2.2 _ _ hkt
  have hfit' : T.vm.assignable cell.cls cT = true := by rw [hal.assignable]; exact hfit
  refine ⟨_, X.noted hW', fun target hrest => ?_⟩
  subst hg
  refine steps_caughtX X.here (vm' := T.vm.noted g.method.cls x.catchType (.cls cT)) (fun Q E d acts => ?_) hrest
  rw [W.findHandler_eq (s := (T.setTop g).pushFrame (.throwing a)) (meth := meth) (code := c) X.method' X.code, hsplit]
  exact finds_link (s := (T.setTop g).pushFrame (.throwing a)) hx h0 hcl₀ hcell (VmData.ne_statics_of hobj) (Vm.classAt_of_assignable hfit' ⟨kt', hkt'⟩) ⟨kt', hkt'⟩ hfit'
end RC
/-- behind a call that may throw, in a method that catches it -/
def bh_ {ρ : Type} (o : Option Ex_) (k h : Int32 → Me_ → Option ρ) : Option ρ := o.bind (fun q => match q.1 with
  | .inl v => k v q.2
  | .inr pl => h pl q.2)
section RH
variable {p : Program} {l : Launch} {e : Env} {R : Room} {s : State} {m : MethodId} {args : Array Value} {below : List Frame} {meth : Method} {c : Code} {cc : ByteArray} {nL : Nat} {own : String} {G : GG_} {ρ : Type} {Qf : ρ → State → Prop} {pc : Nat} {lv : List (Nat × Value)} {σ : Me_} {id tg : Nat}
theorem jj_cH {y : MethodName} {bytes : ByteArray} {maxL n index ci N : Nat} {T : u_T} {ret : Option FieldType} {rm : Room} {C : String} {As rest st0 : List Value} {vc : Bool} {o : Option Ex_} {k h : Int32 → Me_ → Option ρ} {xe : ExceptionTableEntry} (X : CallFix p m c cc nL s args lw_all own) (hG : Gl_ G s) (hsplit : c.exceptionTable.toList = [xe]) (hx : covers xe pc = true) (hx0 : xe.catchType ≠ 0) (hcl : Cond.classLink own xe.catchType "LeftBehind$Fault" ∈ lw_all) (ht : gg_t G id = tg) (h0 : tg ≠ 0) (he : ∃ fs, cell_ G tg id (σ.1 id) (σ.2 id) = .inr (ci, fs)) (hc : cl_[ci]? = some (C, T, N)) (M : CT_ l y (ws_ y bytes maxL ret) rm G (.ref (gg_r G id) :: As) σ vc o) (cw : CallW R s args own C index y bytes maxL ret (ws_ y bytes maxL ret) rm 1 7 n) (hn : As.length = n) (hst : st0 = As.reverse ++ .ref (gg_r G id) :: rest) (hrm : (rest.map fun v => v.category).sum ≤ 8) (hd : decode cc pc = .ok (.invokevirtual index, 3)) (hf : 0 + 1 ≤ R.cells ∧ 0 + 7 ≤ R.slots)
    (kk : ∀ v σ', jj_J p l e R s m args below meth c nL G 0 0 Qf (pc + 3) lv ((rv_ vc v).toList ++ rest) σ' (k v σ'))
    (kh : ∀ (a : Nat) (pl : Int32) (σ' : Me_) (r : ρ), h pl σ' = some r → ∀ (H : Heap) (locs : List Loc) (ls : Array Slot), Wo_ G σ' H → FaultAt G a pl H → va_S (AA_ G) s.heap H locs → lv_has ls nL lv → W p l e R s m args below meth c H locs 1 7 (Qf r) (F0 m xe.handlerPc ls [.ref a])) : jj_J p l e R s m args below meth c nL G 0 0 Qf pc lv st0 σ (bh_ o k h) := by
  cases o with
  | none => exact jj_none
  | some rr =>
    intro r hr H locs ls hW hS hl
    have hM := M rr rfl
    obtain ⟨fs, he⟩ := he
    have hini := cw.1.2.2.2.2.2.2.2.1
    have hK : BackT l R p e below s args y 3 8 (PreOf R 1 7 (Pr_ G σ (.ref (gg_r G id) :: As))) (PostT (QT_ G vc rr) 1 7 (AA_ G)) := back_ofT (bytes := bytes) (maxL := maxL) (ret := ret) hM Pr_.blind cw.1.1 cw.1.2.1 cw.1.2.2.1 cw.1.2.2.2.1 cw.1.2.2.2.2.1 cw.1.2.2.2.2.2.1 (fun a' U hW => word_at hW (Or.inl (by first | rfl | simp [Cond.onTables, Cond.keeps, Cond.steady])) hini)
    obtain ⟨cellB, hcB, hoB, hclB⟩ := va_recv hG.1 (hW.one ht h0 he) hc (q0 := 0) rfl
    have hPc := Pr_.go (av := .ref (gg_r G id) :: As) hG hW hS
    obtain ⟨⟨-, -, -, -, -, -, hcode, -, hy, hlen, hlink⟩, hin, hse⟩ := cw
    obtain ⟨hx', hb, hml, ho, hts⟩ := X
    intro T hT X
    obtain ⟨oc, vm₁, ⟨U', l2, c2, s2⟩, hW₁, X', ⟨g', mk, t1, L, e1, e2, hq, h1, hL, h2, h3⟩, st1, st2⟩ := callVT X hx' (C := C) (bytes := bytes) (maxL := maxL) (ret := ret) ho hlink hin hse hcode hy hK (by rw [hT]; exact hcB) hoB hclB (g := F0 m pc ls st0) rfl (hl.1.trans hml.symm) (argsL := As) (rest := rest) (fun sig h => hn.trans (hlen sig h)) hst (lv_room hrm) (by rw [hb]; exact hd)
      (fun vm₁ hW₁ => ⟨hf.1, hf.2, hPc (T.setVm vm₁) hT hW₁⟩)
    dsimp only [Pt.U, Pt.locs, Pt.cells, Pt.slots] at X' e1 e2 h1 h2 h3 st1 st2
    subst h1; subst h2; subst h3
    obtain ⟨hq1, hq2, hF⟩ := hq
    have hF2 : H.size ≤ U'.heap.size ∧ ∀ q : Nat, q < H.size → ¬ AA_ G q → U'.heap[q]? = H[q]? := by
      obtain ⟨z1, z2⟩ := hF
      have hh : ((T.setVm vm₁).calling g' mk (Value.ref (gg_r G id) :: As).toArray).heap = H := hT
      rw [hh] at z1 z2
      exact ⟨by rw [e1]; exact z1, fun q a b => by rw [e1]; exact z2 q a b⟩
    have hS1 : va_S (AA_ G) s.heap U'.heap (locs ++ L) := ⟨Nat.le_trans hS.1 hF2.1, fun q a b => by rw [hF2.2 q (Nat.lt_of_lt_of_le a hS.1) b]; exact hS.2.1 q a b, fun q hq => by
      rcases List.mem_append.mp hq with h | h
      · exact hS.2.2 q h
      · exact hL q h⟩
    have hWo : Wo_ G rr.2 U'.heap := by rw [e1]; exact hq2
    obtain ⟨r1, σ'⟩ := rr
    cases r1 with
    | inl v =>
      have hoc : oc = .returned (rv_ vc v) := hq1
      subst hoc
      have hr' : k v σ' = some r := hr
      obtain ⟨t2, a1, b1⟩ := kk v σ' r hr' U'.heap (locs ++ L) ls hWo hS1 hl U' rfl X'
      exact ⟨t2, st1 _ rfl t2 a1, b1⟩
    | inr pl =>
      obtain ⟨x, hoc, hFa⟩ := hq1
      subst hoc
      have hr' : h pl σ' = some r := hr
      have hFa : FaultAt G x pl U'.heap := by rw [e1]; exact hFa
      have hFa2 := hFa
      obtain ⟨hzx, v0, v1, v2, v3, v4, v5, r7, hr7, cell, g1, g2, g3, -⟩ := hFa2
      have hK7 := hG.1.1 7 _ rfl
      have hfc : s.vm.findClass "LeftBehind$Fault" = some ((gg_D G).1 7) := hK7.2.1
      obtain ⟨vm', XV, stV⟩ := stand_caught X' x (g := F0 m pc ls rest) rfl ho xe [] hsplit hx hx0 (hts _ hcl) hfc g1 (by rw [g3]; rfl) (by rw [g2]; exact vb_asgS _ _ hfc hfc)
      obtain ⟨t2, a1, b1⟩ := kh x pl σ' r hr' U'.heap (locs ++ L) ls hWo hFa hS1 hl (U'.setVm vm') rfl XV
      exact ⟨t2, st2 x rfl t2 (stV t2 a1), b1⟩
/-- the run of a call of a method with handlers -/
theorem jr_VW {y : MethodName} {bytes : ByteArray} {maxL mc ms n index ci N cells slots : Nat} {T : u_T} {ret : Option FieldType} {hh : List (Nat × Nat × Nat × Nat)} {rm : Room} {Qc : Array Value → State → Outcome → State → Prop} {C : String} {As rest st0 : List Value} (X : CallFix p m c cc nL s args lw_all own) (hG : Gl_ G s) (ht : gg_t G id = tg) (h0 : tg ≠ 0) (he : ∃ fs, cell_ G tg id (σ.1 id) (σ.2 id) = .inr (ci, fs)) (hc : cl_[ci]? = some (C, T, N)) (M : Met l y (wsW_ y bytes maxL ret hh) rm (Pr_ G σ (.ref (gg_r G id) :: As)) Qc mc ms (AA_ G)) (hlink : Cond.methodLink own index y ∈ lw_all) (hin : Cond.instanceMethod y ∈ lw_all) (hsel : Cond.selects C y y ∈ lw_all) (hini : Cond.initialized y.cls ∈ lw_all) (hcode : Cond.codeWith y bytes maxL ret hh ∈ lw_all) (hd0 : y.cls ≠ "java/lang/invoke/MethodHandle" ∧ y.cls ≠ "java/lang/invoke/VarHandle" ∧ (parseMethodDescriptor y.desc).map (fun d => d.parameters.length) = some n) (hrc : rm.cells = mc) (hrs : rm.slots = ms) (hR : rm.frames + 1 ≤ R.frames ∧ 8 + (maxL + 11) + rm.locals ≤ R.locals) (hn : As.length = n) (hst : st0 = As.reverse ++ .ref (gg_r G id) :: rest) (hrm : (rest.map fun v => v.category).sum ≤ 8) (hd : decode cc pc = .ok (.invokevirtual index, 3)) (hf : cells + mc ≤ R.cells ∧ slots + ms ≤ R.slots) : Rn_ p l e R s m args below meth c nL G cells slots mc ms pc lv st0 rest σ (.ref (gg_r G id) :: As).toArray Qc := fun H locs ls hW hS hl => by
  obtain ⟨fs, he⟩ := he
  have hini' := X.2.2.2.2 _ hini
  have hK : Back l R p e below s args y 3 8 (PreOf R mc ms (Pr_ G σ (.ref (gg_r G id) :: As))) (PostOf Qc mc ms (AA_ G)) := va_backW (bytes := bytes) (maxL := maxL) (ret := ret) (hh := hh) M Pr_.blind hrc hrs hR.1 hR.2 (pay_in X.2.2.2.2 (lw_methW hcode)) List.mem_cons_self (fun a' U hW => word_at hW (Or.inl (by first | rfl | simp [Cond.onTables, Cond.keeps, Cond.steady])) hini')
  obtain ⟨cellB, hcB, hoB, hclB⟩ := va_recv hG.1 (hW.one ht h0 he) hc (q0 := 0) rfl
  have hPc := Pr_.go (av := .ref (gg_r G id) :: As) hG hW hS
  obtain ⟨hx, hb, hml, ho, hts⟩ := X
  intro T hT X
  obtain ⟨mk, methM, hnamed, hmethM, hstM, habM⟩ := Cond.instanceMethod_spec (hts _ hin)
  obtain ⟨m9, methM', cM, hn9, hmethM', -, -, -, -, -, -, hsigM⟩ := Cond.codeWith_spec (hts _ hcode)
  cases hnamed.symm.trans hn9
  cases hmethM.symm.trans hmethM'
  obtain ⟨c2, r2, m2, q1, q2, q3, q4, kP, hkP, hkPi⟩ := Cond.selects_spec (hts _ hsel)
  cases hclB.symm.trans q1
  cases (State.methodFound?_of_named hnamed ⟨hd0.1, hd0.2.1⟩).symm.trans q2
  cases hnamed.symm.trans q3
  have hselP : selectMethod e.platform s.vm cellB.cls mk = .method mk := by rw [Launch.admits_selectMethod X.admits]; exact q4
  have hcell : T.heap[gg_r G id]? = some cellB := by rw [hT]; exact hcB
  have hlen : As.length = methM.sig.parameters.length := by
    have := hd0.2.2
    rw [hsigM] at this
    exact hn.trans (Option.some.inj this).symm
  obtain ⟨vm₁, X₁, hstep₁⟩ := X.invokevirtual hx ho (hts _ hlink) hnamed hmethM hstM hkP hkPi ⟨hd0.1, hd0.2.1⟩ (a := gg_r G id) (cell := cellB) hcell
    (fun z h => by rw [h] at hoB; cases hoB) hselP hmethM habM hkP hkPi (g := F0 m pc ls st0) rfl (argsL := As) (rest := rest) hlen hst (by rw [hb]; exact hd)
  obtain ⟨v, ⟨U', l2, c2', s2⟩, X', ⟨g', mk', t, L, e1, e2, hq, h1, hL, h2, h3⟩, hsteps⟩ := hK m meth c ⟨T.setVm vm₁, locs, cells, slots⟩ (F0 m pc ls rest) (.invokevirtual index) mk (Value.ref (gg_r G id) :: As).toArray X₁ rfl (hl.1.trans hml.symm) (by rw [hb]; exact hd) (lv_room hrm) (X₁.named hnamed) ⟨hf.1, hf.2, hPc (T.setVm vm₁) hT X₁.warmed⟩
  dsimp only [Pt.U, Pt.locs, Pt.cells, Pt.slots] at X' e1 e2 h1 h2 h3 hsteps
  subst h1; subst h2; subst h3
  exact ⟨v, (T.setVm vm₁).calling g' mk' (Value.ref (gg_r G id) :: As).toArray, t, U', L, hT, X', hL, e1, e2, hq, fun target h => hstep₁ _ fun acts => by rw [doInvoke_state]; exact hsteps.trans h⟩
end RH
def F_X0_read (σ : Me_) : Option (Int32 × Me_) := bh_ (F_X3_reads σ) (fun r σ_1 => nm_ (α := Int32) r fun x1 => Option.bind (F_X1_takes σ_1 1 36) fun σ_2 => some (x1, σ_2)) (fun pl σ_1 => some ((-10 : Int32) - pl, σ_1))
theorem kd_X0_read : yX0_read.cls ≠ "java/lang/invoke/MethodHandle" ∧ yX0_read.cls ≠ "java/lang/invoke/VarHandle" ∧ (parseMethodDescriptor yX0_read.desc).map (fun d => d.parameters.length) = some 0 := by decide +kernel
set_option maxHeartbeats 4000000 in
theorem mt_X0_read (l : Launch) (G : GG_) (σ : Me_) : Ci_ l yX0_read (wsW_ yX0_read cX0_read 2 (some .int) [(0, 20, 21, 135)]) (rmT_ 12) 1 7 G [.ref (gg_r G 0)] σ (F_X0_read σ) := by
  intro r hr
  refine va_MetW (cc := cX0_read) (maxL := 2) (ret := some .int) (hh := [(0, 20, 21, 135)]) (by decide) rfl ?_
  intro p e s m args below meth c s₁ B hml hv
  obtain ⟨rfl, hG, hW⟩ := hv
  have hts0 := atoms_spec (ws := wsW_ yX0_read cX0_read 2 (some .int) [(0, 20, 21, 135)]) B.pre
  have hts : ∀ w ∈ lw_all, w.before _ s = true := fun w h => hts0 w (List.mem_cons_of_mem _ h)
  obtain ⟨m9, meth9, c9, hn9, hm9, hc9, -, -, htab, -⟩ := Cond.codeWith_spec (hts0 _ List.mem_cons_self)
  cases B.named.symm.trans hn9
  cases B.method.symm.trans hm9
  cases (Stand.of_body B).code.symm.trans hc9
  have X : CallFix p m c cX0_read 2 s ([.ref (gg_r G 0)] : List Value).toArray lw_all "LeftBehind" := ⟨B.exec, B.bytes, hml, findClass_of_methodNamed B.named, hts⟩
  have hrt := B.returns
  have hlk := B.notSynchronized
  obtain ⟨xe, hxe, hxs⟩ : ∃ xe : ExceptionTableEntry, c.exceptionTable.toList = [xe] ∧ (xe.startPc, xe.endPc, xe.handlerPc, xe.catchType) = (0, 20, 21, 135) := by
    match h : c.exceptionTable.toList with
    | [] => rw [h] at htab; cases htab
    | [xe] => rw [h] at htab; exact ⟨xe, rfl, (List.cons.inj htab).1⟩
    | x1 :: x2 :: xs => rw [h] at htab; exact absurd (congrArg List.length htab) (by simp)
  have h1 : xe.startPc = 0 := congrArg (fun z => z.1) hxs
  have h2 : xe.endPc = 20 := congrArg (fun z => z.2.1) hxs
  have h3 : xe.handlerPc = 21 := congrArg (fun z => z.2.2.1) hxs
  have h4 : xe.catchType = 135 := congrArg (fun z => z.2.2.2) hxs
  rw [lg_entry_eq]
  suffices key : jj_J p l e (rmT_ 12) s m ([.ref (gg_r G 0)] : List Value).toArray below meth c 2 G 0 0 (fun r => MQ below (Qi_ G r) ([.ref (gg_r G 0)] : List Value).toArray s 1 7 (AA_ G)) 0 [(0, .ref (gg_r G 0))] [] σ (F_X0_read σ) from key r hr s.heap [] _ hW va_S.rf (lv_entry [.ref (gg_r G 0)] (Nat.le_of_ble_eq_true rfl))
  unfold F_X0_read
  refine jj_aload_n X dX0_read_0 0 rfl ?_
  refine g0_reader X hG q283 (tg_0 hG) dX0_read_1 ?_
  refine jj_cH (rest := []) X hG hxe (by simp [covers, h1, h2]) (by rw [h4]; decide) (by rw [h4]; exact q375) (tg_77 hG) (by decide) ⟨_, rfl⟩ rfl (mt_X3_reads l G σ) (cwV 0 X.2.2.2.2 (lw_V q376 q377 q378 q64 q379) rfl rfl rfl kd_X3_reads ⟨by decide, by decide⟩) rfl rfl (Nat.le_of_ble_eq_true rfl) dX0_read_4 ⟨by decide, by decide⟩ (fun r σ_1 => ?_) (fun a pl σ_1 r hr H locs ls hW hFa hS hl => ?_)
  · refine jj_sty (st' := [.int r]) rfl ?_
    refine jj_ni (fun x1 => ?_)
    refine jj_istore_n (lv' := [(1, .int x1), (0, .ref (gg_r G 0))]) X dX0_read_7 rfl (by decide) rfl ?_
    refine jj_aload_n X dX0_read_8 1 rfl ?_
    refine g0_island X hG q268 (tg_0 hG) dX0_read_9 ?_
    refine jj_aload_n X dX0_read_12 1 rfl ?_
    refine g0_aside X hG q270 (tg_0 hG) dX0_read_13 ?_
    refine jj_cv (mc := 0) (ms := 0) (fun rr hrr => jr_V (rest := []) X hG (is_0 (is_of hG (Or.inl rfl))) (by decide) ⟨_, rfl⟩ rfl (mt_X1_takes l G σ_1 1 36 (is_of hG (Or.inl rfl)) (is_of hG (Or.inr rfl)) rr hrr) (cwV 1 X.2.2.2.2 (lw_V q577 q578 q579 q62 q580) rfl rfl rfl kd_X1_takes ⟨by decide, by decide⟩) rfl rfl (Nat.le_of_ble_eq_true rfl) dX0_read_16 ⟨by decide, by decide⟩) (fun σ_2 => ?_)
    refine jj_iload_n X dX0_read_19 0 rfl ?_
    refine jj_widen (k := 1) (n := 7) (by decide) (by decide) ?_
    exact jj_iret X hrt hlk dX0_read_20
  · have hr' : r = ((-10 : Int32) - pl, σ_1) := (Option.some.inj hr).symm
    subst hr'
    rw [h3]
    obtain ⟨hz, v0, v1, v2, v3, v4, v5, hat⟩ := hFa
    have hP : va_P (gg_D G) cl_ [(a, .inr (7, [v0, v1, v2, v3, v4, v5, .int pl]))] H := by
      intro k q hq
      cases k with
      | zero => cases hq; exact hat
      | succ k => cases hq
    refine lv_astore_n (lv' := [(1, .ref a), (0, .ref (gg_r G 0))]) X.1 X.2.1 dX0_read_21 rfl hl (by decide) rfl (fun ls hl => ?_)
    refine lv_bipush (v := -10) X.1 X.2.1 dX0_read_22 (by decide) ?_
    refine lv_aload_n X.1 X.2.1 dX0_read_24 rfl (lv_at hl 0 rfl) ?_
    refine va_getN X.1 X.2.1 X.2.2.2.2 in_X7 X.2.2.2.1 hG.1 hP 0 rfl rfl 6 (by decide) (va_Nw.use rfl (hG.2.1 _ q444 rfl)) (fun x h => h) rfl dX0_read_25 ?_
    refine lv_isub X.1 X.2.1 dX0_read_28 ?_
    exact W.iret X.1 X.2.1 hrt (fun t ht hWm => ⟨⟨_, (), rfl, rfl, by show Wo_ G σ_1 t.heap; rw [ht]; exact hW⟩, hS.F ht⟩) hS.2.2 dX0_read_29
