/-! CONST: rows of the constants (SAILS, BEACH), of arrays of references, of arraycopy, of calls in the nest -/
set_option maxRecDepth 100000
section JC
variable {p : Program} {l : Launch} {e : Env} {R : Room} {s : State} {m : MethodId} {args : Array Value} {below : List Frame} {meth : Method} {c : Code} {cc : ByteArray} {nL : Nat} {own : String} {G : GG_} {cells slots : Nat} {ρ : Type} {Qf : ρ → State → Prop} {pc : Nat} {lv : List (Nat × Value)} {st : List Value} {σ : Me_} {t : Option ρ} {id tg : Nat}
theorem jj_metU {y : MethodName} {ret : Option FieldType} {rm : Room} {mc ms : Nat} {av : List Value} {Qc : ρ → Array Value → State → Outcome → State → Prop} (hy : plainName y.cls = true) (hav : (lg_sl av).length ≤ nL)
    (body : ∀ (p : Program) (e : Env) (s : State) (m : MethodId) (below : List Frame) (meth : Method) (c : Code), CallFix p m c cc nL s av.toArray lw_all y.cls → Gl_ G s → meth.sig.returnType = ret → meth.locks = false → jj_J p l e rm s m av.toArray below meth c nL G 0 0 (fun r => MQ below (Qc r) av.toArray s mc ms (AA_ G)) 0 (lv_args 0 av) [] σ t) :
    ∀ r, t = some r → MetU l y (ws_ y cc nL ret) rm (Pr_ G σ av) (Qc r) mc ms (AA_ G) := by
  intro r hr
  refine MetU.ofW (cc := cc) (maxL := nL) (ret := ret) hy rfl ?_
  intro p e s m args below meth c hx hb hml hn hm hret hlk hpre hv
  obtain ⟨rfl, hG, hW⟩ := hv
  have hts := atoms_spec (ws := ws_ y cc nL ret) hpre
  have hts : ∀ w ∈ lw_all, w.before _ s = true := fun w h => hts w (List.mem_cons_of_mem _ h)
  rw [lg_entry_eq]
  exact body p e s m below meth c ⟨hx, hb, hml, findClass_of_methodNamed hn, hts⟩ hG hret hlk r hr s.heap [] _ hW va_S.rf (lv_entry av hav)
theorem lo_sail (hG : Gl_ G s) {j : Nat} (hj : j < 6) : va_O (sn_ j) (gg_a G (20 + j)) (AA_ G) s s.heap := hG.2.2.1.1.2.2 j hj
theorem lo_man (hG : Gl_ G s) {j : Nat} (hj : j < 6) : va_O (mn_ j) (gg_a G (30 + j)) (AA_ G) s s.heap := hG.2.2.1.2.1.2.2 j hj
section UC
variable {x y : MethodName} {bytes b0 : ByteArray} {maxL m0 mc ms n index a : Nat} {ret r0 : Option FieldType} {rm : Room} {Qc : Array Value → State → Outcome → State → Prop} {C : String} {As rest st0 : List Value}
theorem lw_pay (X : CallFix p m c cc nL s args lw_all own) (hcy : Cond.code y bytes maxL ret ∈ lw_all) : ∀ w ∈ ws_ y bytes maxL ret, ∀ (a' : Array Value) (U : State), s.WarmedH U.vm → w.before a' U = true := pay_in X.2.2.2.2 (lw_meth hcy)
/-- a call on a constant -/
theorem jr_U (X : CallFix p m c cc nL s args lw_all own) (hG : Gl_ G s) (hO : va_O C a (AA_ G) s s.heap) (M : MetU l y (ws_ y bytes maxL ret) rm (Pr_ G σ (.ref a :: As)) Qc mc ms (AA_ G)) (hlink : Cond.methodLink own index x ∈ lw_all) (hsame : Cond.sameMethod x.cls x.cls x.name x.desc ∈ lw_all) (hix : Cond.instanceMethod x ∈ lw_all) (hcx : Cond.code x b0 m0 r0 ∈ lw_all) (hsel : Cond.selects C x y ∈ lw_all) (hiy : Cond.instanceMethod y ∈ lw_all) (hcy : Cond.code y bytes maxL ret ∈ lw_all)
    (hmh : x.cls ≠ "java/lang/invoke/MethodHandle" ∧ x.cls ≠ "java/lang/invoke/VarHandle" ∧ (parseMethodDescriptor x.desc).map (fun d => d.parameters.length) = some n) (hrc : rm.cells = mc) (hrs : rm.slots = ms) (hR : rm.frames + 1 ≤ R.frames ∧ 8 + (maxL + 11) + rm.locals ≤ R.locals) (hn : As.length = n) (hst : st0 = As.reverse ++ .ref a :: rest) (hrm : (rest.map fun v => v.category).sum ≤ 8) (hd : decode cc pc = .ok (.invokevirtual index, 3)) (hf : cells + mc ≤ R.cells ∧ slots + ms ≤ R.slots) : Rn_ p l e R s m args below meth c nL G cells slots mc ms pc lv st0 rest σ (.ref a :: As).toArray Qc := fun H locs ls hW hS hl => by
  have hK : Back l R p e below s args y 3 8 (PreOf R mc ms (Pr_ G σ (.ref a :: As))) (PostOf Qc mc ms (AA_ G)) := back_ofU (bytes := bytes) (maxL := maxL) (ret := ret) M Pr_.blind hrc hrs hR.1 hR.2 (lw_pay X hcy) List.mem_cons_self
  obtain ⟨cellB, hcB, hoB, hclB⟩ := va_Orecv hO hS
  have hPc := Pr_.go (av := .ref a :: As) hG hW hS
  obtain ⟨hx, hb, hml, ho, hts⟩ := X
  intro T hT X
  obtain ⟨v, vm₁, ⟨U', l2, c2, s2⟩, hW₁, X', ⟨g', mk, t, L, e1, e2, hq, h1, hL, h2, h3⟩, st⟩ := va_callVU X hx (C := C) (owner := x.cls) (x := x) (y := y) (bytes := bytes) (maxL := maxL) (ret := ret) ho (hts _ hlink) (hts _ hsame) (va_Decl.of (hts _ hix) (hts _ hcx)) ⟨hmh.1, hmh.2.1⟩ (hts _ hsel) (hts _ hiy) (hts _ hcy) hK (by rw [hT]; exact hcB) hoB hclB (g := F0 m pc ls st0) rfl (hl.1.trans hml.symm) (argsL := As) (rest := rest) (fun sig h => by have := hmh.2.2; rw [h] at this; exact hn.trans (Option.some.inj this).symm) hst (lv_room hrm) (by rw [hb]; exact hd)
    (fun vm₁ hW₁ => ⟨hf.1, hf.2, hPc (T.setVm vm₁) hT hW₁⟩)
  dsimp only [Pt.U, Pt.locs, Pt.cells, Pt.slots] at X' e1 e2 h1 h2 h3 st
  subst h1; subst h2; subst h3
  exact ⟨v, (T.setVm vm₁).calling g' mk (Value.ref a :: As).toArray, t, U', L, hT, X', hL, e1, e2, hq, st⟩
/-- a call of the method above (super) -/
theorem jr_SU (X : CallFix p m c cc nL s args lw_all own) (hG : Gl_ G s) (hO : va_O C a (AA_ G) s s.heap) (M : MetU l y (ws_ y bytes maxL ret) rm (Pr_ G σ (.ref a :: As)) Qc mc ms (AA_ G)) (hlink : Cond.methodLink own index y ∈ lw_all) (hsame : Cond.sameMethod y.cls y.cls y.name y.desc ∈ lw_all) (hsup : Cond.superclass own y.cls ∈ lw_all) (hiy : Cond.instanceMethod y ∈ lw_all) (hcy : Cond.code y bytes maxL ret ∈ lw_all)
    (hd0 : y.name ≠ "<init>" ∧ (parseMethodDescriptor y.desc).map (fun d => d.parameters.length) = some n) (hrc : rm.cells = mc) (hrs : rm.slots = ms) (hR : rm.frames + 1 ≤ R.frames ∧ 8 + (maxL + 11) + rm.locals ≤ R.locals) (hn : As.length = n) (hst : st0 = As.reverse ++ .ref a :: rest) (hrm : (rest.map fun v => v.category).sum ≤ 8) (hd : decode cc pc = .ok (.invokespecial index, 3)) (hf : cells + mc ≤ R.cells ∧ slots + ms ≤ R.slots) : Rn_ p l e R s m args below meth c nL G cells slots mc ms pc lv st0 rest σ (.ref a :: As).toArray Qc := fun H locs ls hW hS hl => by
  have hK : Back l R p e below s args y 3 8 (PreOf R mc ms (Pr_ G σ (.ref a :: As))) (PostOf Qc mc ms (AA_ G)) := back_ofU (bytes := bytes) (maxL := maxL) (ret := ret) M Pr_.blind hrc hrs hR.1 hR.2 (lw_pay X hcy) List.mem_cons_self
  obtain ⟨cellB, hcB, hoB, hclB⟩ := va_Orecv hO hS
  obtain ⟨kB, hkB, -⟩ := Vm.findClass_spec hclB
  have hPc := Pr_.go (av := .ref a :: As) hG hW hS
  obtain ⟨hx, hb, hml, ho, hts⟩ := X
  intro T hT X
  obtain ⟨v, vm₁, ⟨U', l2, c2, s2⟩, hW₁, X', ⟨g', mk, t, L, e1, e2, hq, h1, hL, h2, h3⟩, st⟩ := va_callSU X hx (bytes := bytes) (maxL := maxL) (ret := ret) ho (hts _ hlink) (hts _ hsame) (hts _ hsup) (hts _ hiy) (hts _ hcy) hd0.1 hK (by rw [hT]; exact hcB) hoB hkB (g := F0 m pc ls st0) rfl (hl.1.trans hml.symm) (argsL := As) (rest := rest) (fun sig h => by have := hd0.2; rw [h] at this; exact hn.trans (Option.some.inj this).symm) hst (lv_room hrm) (by rw [hb]; exact hd)
    (fun vm₁ hW₁ => ⟨hf.1, hf.2, hPc (T.setVm vm₁) hT hW₁⟩)
  dsimp only [Pt.U, Pt.locs, Pt.cells, Pt.slots] at X' e1 e2 h1 h2 h3 st
  subst h1; subst h2; subst h3
  exact ⟨v, (T.setVm vm₁).calling g' mk (Value.ref a :: As).toArray, t, U', L, hT, X', hL, e1, e2, hq, st⟩
/-- private methods of a nest mate -/
theorem jr_VN {ci N : Nat} {T : u_T} {ws : List Cond} {host : String} (X : CallFix p m c cc nL s args lw_all own) (hG : Gl_ G s) (ht : gg_t G id = tg) (h0 : tg ≠ 0) (he : ∃ fs, cell_ G tg id (σ.1 id) (σ.2 id) = .inr (ci, fs)) (hc : cl_[ci]? = some (C, T, N)) (M : Met l y ws rm (Pr_ G σ (.ref (gg_r G id) :: As)) Qc mc ms (AA_ G)) (cw : va_CN R s args own index y host bytes maxL ret ws rm mc ms n ∧ (Cond.instanceMethod y).before args s = true ∧ (Cond.selects C y y).before args s = true) (hn : As.length = n) (hst : st0 = As.reverse ++ .ref (gg_r G id) :: rest) (hrm : (rest.map fun v => v.category).sum ≤ 8) (hd : decode cc pc = .ok (.invokevirtual index, 3)) (hf : cells + mc ≤ R.cells ∧ slots + ms ≤ R.slots) : Rn_ p l e R s m args below meth c nL G cells slots mc ms pc lv st0 rest σ (.ref (gg_r G id) :: As).toArray Qc := fun H locs ls hW hS hl => by
  obtain ⟨fs, he⟩ := he
  exact va_runVN (As := As) (rest := rest) X M cw ⟨Pr_.blind, va_recv hG.1 (hW.one ht h0 he) hc (q0 := 0) rfl, Pr_.go hG hW hS⟩ rfl hn hl.1 hst (lv_room hrm) hd hf
theorem jr_SN {ws : List Cond} {host : String} (X : CallFix p m c cc nL s args lw_all own) (hG : Gl_ G s) (M : Met l y ws rm (Pr_ G σ As) Qc mc ms (AA_ G)) (cw : va_CN R s args own index y host bytes maxL ret ws rm mc ms n ∧ (Cond.static y).before args s = true ∧ True) (hn : As.length = n) (hst : st0 = As.reverse ++ rest) (hrm : (rest.map fun v => v.category).sum ≤ 8) (hd : decode cc pc = .ok (.invokestatic index, 3)) (hf : cells + mc ≤ R.cells ∧ slots + ms ≤ R.slots) : Rn_ p l e R s m args below meth c nL G cells slots mc ms pc lv st0 rest σ As.toArray Qc := fun H locs ls hW hS hl =>
  va_runSN (As := As) (rest := rest) X M cw ⟨Pr_.blind, Pr_.go hG hW hS⟩ rfl hn hl.1 hst (lv_room hrm) hd hf
end UC
/-- the static arrays -/
theorem js_SAILS (X : CallFix p m c cc nL s args lw_all own) (hG : Gl_ G s) {index : Nat} (hw : Cond.fieldLink own index "LeftBehind" "SAILS" "[LLeftBehind$Ship;" ∈ lw_all) (hd : decode cc pc = .ok (.getstatic index, 3)) (kk : jj_J p l e R s m args below meth c nL G cells slots Qf (pc + 3) lv (.ref (gg_a G 10) :: st) σ t) : jj_J p l e R s m args below meth c nL G cells slots Qf pc lv st σ t := fun r hr H locs ls hW hS hl =>
  va_gets X.1 X.2.1 hG.2.2.1.1.1 hS X.2.2.2.1 (X.2.2.2.2 _ hw) (fun _ h => h) hd (kk r hr H locs ls hW hS hl)
theorem js_SAILSN (X : CallFix p m c cc nL s args lw_all own) (hG : Gl_ G s) {index : Nat} {host : String} (hw : Cond.fieldLinkNest own index "LeftBehind" "SAILS" "[LLeftBehind$Ship;" host ∈ lw_tbl) (hd : decode cc pc = .ok (.getstatic index, 3)) (kk : jj_J p l e R s m args below meth c nL G cells slots Qf (pc + 3) lv (.ref (gg_a G 10) :: st) σ t) : jj_J p l e R s m args below meth c nL G cells slots Qf pc lv st σ t := fun r hr H locs ls hW hS hl =>
  va_getsN X.1 X.2.1 hG.2.2.1.1.1 hS X.2.2.2.1 (va_Nw.use rfl (hG.2.1 _ hw rfl)) (fun _ h => h) hd (kk r hr H locs ls hW hS hl)
theorem js_BEACH (X : CallFix p m c cc nL s args lw_all own) (hG : Gl_ G s) {index : Nat} (hw : Cond.fieldLink own index "LeftBehind" "BEACH" "[LLeftBehind$Man;" ∈ lw_all) (hd : decode cc pc = .ok (.getstatic index, 3)) (kk : jj_J p l e R s m args below meth c nL G cells slots Qf (pc + 3) lv (.ref (gg_a G 11) :: st) σ t) : jj_J p l e R s m args below meth c nL G cells slots Qf pc lv st σ t := fun r hr H locs ls hW hS hl =>
  va_gets X.1 X.2.1 hG.2.2.1.2.1.1 hS X.2.2.2.1 (X.2.2.2.2 _ hw) (fun _ h => h) hd (kk r hr H locs ls hW hS hl)
theorem js_BEACHN (X : CallFix p m c cc nL s args lw_all own) (hG : Gl_ G s) {index : Nat} {host : String} (hw : Cond.fieldLinkNest own index "LeftBehind" "BEACH" "[LLeftBehind$Man;" host ∈ lw_tbl) (hd : decode cc pc = .ok (.getstatic index, 3)) (kk : jj_J p l e R s m args below meth c nL G cells slots Qf (pc + 3) lv (.ref (gg_a G 11) :: st) σ t) : jj_J p l e R s m args below meth c nL G cells slots Qf pc lv st σ t := fun r hr H locs ls hW hS hl =>
  va_getsN X.1 X.2.1 hG.2.2.1.2.1.1 hS X.2.2.2.1 (va_Nw.use rfl (hG.2.1 _ hw rfl)) (fun _ h => h) hd (kk r hr H locs ls hW hS hl)
theorem inb_lt {i : Int32} {n : Nat} (h : inb_ i n = true) : i.toNatClampNeg < n := by
  simp only [inb_, Bool.and_eq_true, decide_eq_true_eq] at h
  exact h.2
theorem ja_SAILS (X : CallFix p m c cc nL s args lw_all own) (hG : Gl_ G s) {i : Int32} (hd : decode cc pc = .ok (.aaload, 1)) (kk : i.toNatClampNeg < 6 → jj_J p l e R s m args below meth c nL G cells slots Qf (pc + 1) lv (.ref (gg_a G (20 + i.toNatClampNeg)) :: st) σ t) : jj_J p l e R s m args below meth c nL G cells slots Qf pc lv (.int i :: .ref (gg_a G 10) :: st) σ (if inb_ i 6 = true then t else none) :=
  jj_ck fun hb r hr H locs ls hW hS hl => vb_tq X.1 X.2.1 hG.2.2.1.1.2.1 hS (inb_in hb) rfl hd (kk (inb_lt hb) r hr H locs ls hW hS hl)
theorem ja_BEACH (X : CallFix p m c cc nL s args lw_all own) (hG : Gl_ G s) {i : Int32} (hd : decode cc pc = .ok (.aaload, 1)) (kk : i.toNatClampNeg < 6 → jj_J p l e R s m args below meth c nL G cells slots Qf (pc + 1) lv (.ref (gg_a G (30 + i.toNatClampNeg)) :: st) σ t) : jj_J p l e R s m args below meth c nL G cells slots Qf pc lv (.int i :: .ref (gg_a G 11) :: st) σ (if inb_ i 6 = true then t else none) :=
  jj_ck fun hb r hr H locs ls hW hS hl => vb_tq X.1 X.2.1 hG.2.2.1.2.1.2.1 hS (inb_in hb) rfl hd (kk (inb_lt hb) r hr H locs ls hW hS hl)
theorem rk_some (G : GG_) (b : Nat) {z : Int32} (h : ¬ z < 0) : rk_ G b z = some (gg_a G (b + z.toNatClampNeg % 6)) := if_neg h
theorem ja_ships (X : CallFix p m c cc nL s args lw_all own) (hG : Gl_ G s) {i : Int32} (ht : gg_t G id = 22) (hd : decode cc pc = .ok (.aaload, 1)) (kk : (σ.1 id i.toNatClampNeg).toNatClampNeg % 6 < 6 → jj_J p l e R s m args below meth c nL G cells slots Qf (pc + 1) lv (.ref (gg_a G (20 + (σ.1 id i.toNatClampNeg).toNatClampNeg % 6)) :: st) σ t) : jj_J p l e R s m args below meth c nL G cells slots Qf pc lv (.int i :: .ref (gg_r G id) :: st) σ (if inb_ i 3 = true then (if σ.1 id i.toNatClampNeg < 0 then none else t) else none) :=
  jj_ck fun hb => jj_cn fun hz r hr H locs ls hW hS hl => va_aldq X.1 X.2.1 hG.1 (hW.one ht (by decide) rfl) 0 3 rfl rfl (inb_in hb) hd (by rw [rk_some G 20 hz]; exact kk (Nat.mod_lt _ (by decide)) r hr H locs ls hW hS hl)
theorem ja_men (X : CallFix p m c cc nL s args lw_all own) (hG : Gl_ G s) {i : Int32} (ht : gg_t G id = 23) (hd : decode cc pc = .ok (.aaload, 1)) (kk : (σ.1 id i.toNatClampNeg).toNatClampNeg % 6 < 6 → jj_J p l e R s m args below meth c nL G cells slots Qf (pc + 1) lv (.ref (gg_a G (30 + (σ.1 id i.toNatClampNeg).toNatClampNeg % 6)) :: st) σ t) : jj_J p l e R s m args below meth c nL G cells slots Qf pc lv (.int i :: .ref (gg_r G id) :: st) σ (if inb_ i 8 = true then (if σ.1 id i.toNatClampNeg < 0 then none else t) else none) :=
  jj_ck fun hb => jj_cn fun hz r hr H locs ls hW hS hl => va_aldq X.1 X.2.1 hG.1 (hW.one ht (by decide) rfl) 0 4 rfl rfl (inb_in hb) hd (by rw [rk_some G 30 hz]; exact kk (Nat.mod_lt _ (by decide)) r hr H locs ls hW hS hl)
theorem ja_was (X : CallFix p m c cc nL s args lw_all own) (hG : Gl_ G s) {i : Int32} (ht : gg_t G id = 24) (hd : decode cc pc = .ok (.aaload, 1)) (kk : i.toNatClampNeg < 8 → jj_J p l e R s m args below meth c nL G cells slots Qf (pc + 1) lv (.ref (gg_r G (id + 1 + 3 * i.toNatClampNeg)) :: st) σ t) : jj_J p l e R s m args below meth c nL G cells slots Qf pc lv (.int i :: .ref (gg_r G id) :: st) σ (if inb_ i 8 = true then t else none) :=
  jj_ck fun hb r hr H locs ls hW hS hl => va_aldq X.1 X.2.1 hG.1 (hW.one ht (by decide) rfl) 0 5 rfl rfl (inb_in hb) hd (kk (inb_lt hb) r hr H locs ls hW hS hl)
/-- a constant may stand in the arrays -/
theorem any_sail (hG : Gl_ G s) {H : Heap} {locs : List Loc} (hS : va_S (AA_ G) s.heap H locs) {j : Nat} (hj : j < 6) : va_Any "LeftBehind$Ship" s H (gg_a G (20 + j)) := by
  obtain ⟨cell, h1, h2, h3⟩ := va_Orecv (lo_sail hG hj) hS
  obtain ⟨k, hk, -⟩ := Vm.findClass_spec h3
  refine ⟨cell, h1, h2, ⟨k, hk⟩, fun comp hc => ?_⟩
  match j, hj, h3 with
  | 0, _, h3 => exact vb_asgS comp _ hc h3
  | 1, _, h3 => exact vb_asgC (hG.2.1 _ q1364 rfl) comp _ hc h3
  | 2, _, h3 => exact vb_asgC (hG.2.1 _ q1365 rfl) comp _ hc h3
  | 3, _, h3 => exact vb_asgC (hG.2.1 _ q1366 rfl) comp _ hc h3
  | 4, _, h3 => exact vb_asgC (hG.2.1 _ q1367 rfl) comp _ hc h3
  | 5, _, h3 => exact vb_asgC (hG.2.1 _ q1368 rfl) comp _ hc h3
theorem any_man (hG : Gl_ G s) {H : Heap} {locs : List Loc} (hS : va_S (AA_ G) s.heap H locs) {j : Nat} (hj : j < 6) : va_Any "LeftBehind$Man" s H (gg_a G (30 + j)) := by
  obtain ⟨cell, h1, h2, h3⟩ := va_Orecv (lo_man hG hj) hS
  obtain ⟨k, hk, -⟩ := Vm.findClass_spec h3
  refine ⟨cell, h1, h2, ⟨k, hk⟩, fun comp hc => ?_⟩
  match j, hj, h3 with
  | 0, _, h3 => exact vb_asgS comp _ hc h3
  | 1, _, h3 => exact vb_asgC (hG.2.1 _ q1369 rfl) comp _ hc h3
  | 2, _, h3 => exact vb_asgC (hG.2.1 _ q1370 rfl) comp _ hc h3
  | 3, _, h3 => exact vb_asgC (hG.2.1 _ q1371 rfl) comp _ hc h3
  | 4, _, h3 => exact vb_asgC (hG.2.1 _ q1372 rfl) comp _ hc h3
  | 5, _, h3 => exact vb_asgC (hG.2.1 _ q1373 rfl) comp _ hc h3
theorem rk_nI (G : GG_) (b : Nat) {j : Nat} (hj : j < 6) : rk_ G b (nI j) = some (gg_a G (b + j)) := by
  rw [rk_some G b (nI_pos (by omega)), nI_clamp (by omega), Nat.mod_eq_of_lt hj]
theorem up_rk (G : GG_) (b : Nat) (f : Nat → Int32) (k j : Nat) (hj : j < 6) : va_up (fun i => rk_ G b (f i)) k (some (gg_a G (b + j))) = fun i => rk_ G b (upd f k (nI j) i) := by
  funext i
  by_cases h : i = k
  · simp [va_up, upd, h, rk_nI G b hj]
  · simp [va_up, upd, h]
theorem ja_astS (X : CallFix p m c cc nL s args lw_all own) (hG : Gl_ G s) {i : Int32} {j : Nat} (hj : j < 6) (ht : gg_t G id = 22) (hd : decode cc pc = .ok (.aastore, 1)) (kk : jj_J p l e R s m args below meth c nL G cells slots Qf (pc + 1) lv st (me_set σ id i.toNatClampNeg (nI j)) t) : jj_J p l e R s m args below meth c nL G cells slots Qf pc lv (.ref (gg_a G (20 + j)) :: .int i :: .ref (gg_r G id) :: st) σ (if inb_ i 3 = true then t else none) :=
  jj_ck fun hb r hr H locs ls hW hS hl => by
  obtain ⟨q0, hq0⟩ := wl_ix hG.nu (i := id) (by rw [ht]; decide)
  have hq1 : (wl_ G σ)[q0]? = some (gg_r G id, .inl (gg_a G 3, rq_ 3 (fun j => rk_ G 20 (σ.1 id j)))) := by rw [(hq0 σ).2]; unfold at_; rw [ht]; rfl
  exact va_astqM X.1 X.2.1 hG.1 hW.list (wl_D hG.nu) hS q0 3 hq1 rfl (any_sail hG hS hj) (inb_in hb) hd (fun H1 locs1 hP1 _ hS1 => kk r hr H1 locs1 ls (Wo_.of_set hG.nu (hq0 σ).1 hP1 (by rw [ht, (me_set_eq σ id _ _).1, up_rk G 20 _ _ j hj]; rfl) (fun j hj => me_set_ne σ _ hj)) hS1 hl)
theorem ja_astM (X : CallFix p m c cc nL s args lw_all own) (hG : Gl_ G s) {i : Int32} {j : Nat} (hj : j < 6) (ht : gg_t G id = 23) (hd : decode cc pc = .ok (.aastore, 1)) (kk : jj_J p l e R s m args below meth c nL G cells slots Qf (pc + 1) lv st (me_set σ id i.toNatClampNeg (nI j)) t) : jj_J p l e R s m args below meth c nL G cells slots Qf pc lv (.ref (gg_a G (30 + j)) :: .int i :: .ref (gg_r G id) :: st) σ (if inb_ i 8 = true then t else none) :=
  jj_ck fun hb r hr H locs ls hW hS hl => by
  obtain ⟨q0, hq0⟩ := wl_ix hG.nu (i := id) (by rw [ht]; decide)
  have hq1 : (wl_ G σ)[q0]? = some (gg_r G id, .inl (gg_a G 4, rq_ 8 (fun j => rk_ G 30 (σ.1 id j)))) := by rw [(hq0 σ).2]; unfold at_; rw [ht]; rfl
  exact va_astqM X.1 X.2.1 hG.1 hW.list (wl_D hG.nu) hS q0 4 hq1 rfl (any_man hG hS hj) (inb_in hb) hd (fun H1 locs1 hP1 _ hS1 => kk r hr H1 locs1 ls (Wo_.of_set hG.nu (hq0 σ).1 hP1 (by rw [ht, (me_set_eq σ id _ _).1, up_rk G 30 _ _ j hj]; rfl) (fun j hj => me_set_ne σ _ hj)) hS1 hl)
/-- the first n places of one array into another -/
def cp_ (f g : Nat → Int32) (n : Nat) : Nat → Int32 := fun k => if k < n then f k else g k
theorem cpy_cp {f g : Nat → Int32} {n : Nat} : va_cpy f g 0 0 n = cp_ f g n := by
  funext k
  simp [va_cpy, cp_]
theorem ja_copy (X : CallFix p m c cc nL s args lw_all own) (hG : Gl_ G s) {d n0 n1 N : Nat} {nn : Int32} {index : Nat} (hw : Cond.methodLink own index arraycopyName ∈ lw_all) (hnat : Cond.native arraycopyName ∈ lw_all) (hstat : Cond.static arraycopyName ∈ lw_all) (hini : Cond.initialized "java/lang/System" ∈ lw_all) (ia : Ia_ G id n0) (ib : Ia_ G d n1) (hn : ¬ nn < 0) (hN : nn.toNatClampNeg = N) (h0 : N ≤ n0) (h1 : N ≤ n1) (hfr : 1 ≤ R.frames) (hlo : (st.map fun v => v.category).sum + (nativeFrameWords "java/lang/System" "arraycopy" 5 + 11) ≤ R.locals) (hd : decode cc pc = .ok (.invokestatic index, 3)) (kk : jj_J p l e R s m args below meth c nL G cells slots Qf (pc + 3) lv st (me_arr σ d (cp_ (σ.1 id) (σ.1 d) N)) t) : jj_J p l e R s m args below meth c nL G cells slots Qf pc lv (.int nn :: .int 0 :: .ref (gg_r G d) :: .int 0 :: .ref (gg_r G id) :: st) σ t := fun r hr H locs ls hW hS hl => by
  obtain ⟨q0, hq0⟩ := wl_ix hG.nu (i := id) ia.1
  obtain ⟨q1, hq1⟩ := wl_ix hG.nu (i := d) ib.1
  have e0 : (wl_ G σ)[q0]? = some (gg_r G id, .inl (gg_a G 0, n0, .inl (σ.1 id))) := by rw [(hq0 σ).2]; unfold at_; rw [ia.2]
  have e1 : (wl_ G σ)[q1]? = some (gg_r G d, .inl (gg_a G 0, n1, .inl (σ.1 d))) := by rw [(hq1 σ).2]; unfold at_; rw [ib.2]
  refine va_copyi X.1 X.2.1 (X.2.2.1.trans hl.1.symm) X.2.2.2.1 (X.2.2.2.2 _ hw) (X.2.2.2.2 _ hnat) (X.2.2.2.2 _ hstat) (X.2.2.2.2 _ hini) hG.1 hW.list (wl_D hG.nu) hS q0 q1 0 0 e0 e1 rfl rfl rfl (by decide) (by decide) hn (by rw [hN]; show 0 + N ≤ n0; omega) (by rw [hN]; show 0 + N ≤ n1; omega) (fun _ _ => rfl) hfr hlo hd (fun H1 locs1 hP1 _ hS1 => kk r hr H1 locs1 ls (Wo_.of_set hG.nu (hq1 σ).1 hP1 ?_ (fun j hj => me_arr_ne σ _ hj)) hS1 hl)
  rw [ib.2, (me_arr_eq σ d _).1, hN]
  show Sum.inl (gg_a G 0, n1, Sum.inl (va_cpy (σ.1 id) (σ.1 d) 0 0 N)) = _
  rw [cpy_cp]
theorem cpy_rk (G : GG_) (b : Nat) (f g : Nat → Int32) (n : Nat) : va_cpy (fun i => rk_ G b (f i)) (fun i => rk_ G b (g i)) 0 0 n = fun i => rk_ G b (cp_ f g n i) := by
  funext i
  by_cases h : i < n <;> simp [va_cpy, cp_, h]
theorem rk_any {b : Nat} {z : Int32} {y : Nat} (h : rk_ G b z = some y) : ∃ j, j < 6 ∧ y = gg_a G (b + j) := by
  unfold rk_ at h
  by_cases hz : z < 0
  · rw [if_pos hz] at h; cases h
  · rw [if_neg hz] at h
    exact ⟨z.toNatClampNeg % 6, Nat.mod_lt _ (by decide), (Option.some.inj h).symm⟩
theorem ja_copyS (X : CallFix p m c cc nL s args lw_all own) (hG : Gl_ G s) {d : Nat} {index : Nat} (hw : Cond.methodLink own index arraycopyName ∈ lw_all) (hnat : Cond.native arraycopyName ∈ lw_all) (hstat : Cond.static arraycopyName ∈ lw_all) (hini : Cond.initialized "java/lang/System" ∈ lw_all) (ia : gg_t G id = 22) (ib : gg_t G d = 22) (hfr : 1 ≤ R.frames) (hlo : (st.map fun v => v.category).sum + (nativeFrameWords "java/lang/System" "arraycopy" 5 + 11) ≤ R.locals) (hd : decode cc pc = .ok (.invokestatic index, 3)) (kk : jj_J p l e R s m args below meth c nL G cells slots Qf (pc + 3) lv st (me_arr σ d (cp_ (σ.1 id) (σ.1 d) 3)) t) : jj_J p l e R s m args below meth c nL G cells slots Qf pc lv (.int 3 :: .int 0 :: .ref (gg_r G d) :: .int 0 :: .ref (gg_r G id) :: st) σ t := fun r hr H locs ls hW hS hl => by
  obtain ⟨q0, hq0⟩ := wl_ix hG.nu (i := id) (by rw [ia]; decide)
  obtain ⟨q1, hq1⟩ := wl_ix hG.nu (i := d) (by rw [ib]; decide)
  have e0 : (wl_ G σ)[q0]? = some (gg_r G id, .inl (gg_a G 3, rq_ 3 (fun j => rk_ G 20 (σ.1 id j)))) := by rw [(hq0 σ).2]; unfold at_; rw [ia]; rfl
  have e1 : (wl_ G σ)[q1]? = some (gg_r G d, .inl (gg_a G 3, rq_ 3 (fun j => rk_ G 20 (σ.1 d j)))) := by rw [(hq1 σ).2]; unfold at_; rw [ib]; rfl
  refine va_copyM X.1 X.2.1 (X.2.2.1.trans hl.1.symm) X.2.2.2.1 (X.2.2.2.2 _ hw) (X.2.2.2.2 _ hnat) (X.2.2.2.2 _ hstat) (X.2.2.2.2 _ hini) hG.1 hW.list (wl_D hG.nu) hS q0 q1 3 3 e0 e1 rfl rfl (by decide) (by decide) (by decide) (by decide) (by decide) (fun i _ y hy => by obtain ⟨j, hj, rfl⟩ := rk_any hy; exact any_sail hG hS hj) hfr hlo hd (fun H1 locs1 hP1 _ hS1 => kk r hr H1 locs1 ls (Wo_.of_set hG.nu (hq1 σ).1 hP1 ?_ (fun j hj => me_arr_ne σ _ hj)) hS1 hl)
  rw [ib, (me_arr_eq σ d _).1]
  show Sum.inl (gg_a G 3, rq_ 3 (va_cpy (fun i => rk_ G 20 (σ.1 id i)) (fun i => rk_ G 20 (σ.1 d i)) 0 0 3)) = _
  rw [cpy_rk]
  rfl
theorem ja_copyM (X : CallFix p m c cc nL s args lw_all own) (hG : Gl_ G s) {d : Nat} {index : Nat} (hw : Cond.methodLink own index arraycopyName ∈ lw_all) (hnat : Cond.native arraycopyName ∈ lw_all) (hstat : Cond.static arraycopyName ∈ lw_all) (hini : Cond.initialized "java/lang/System" ∈ lw_all) (ia : gg_t G id = 23) (ib : gg_t G d = 23) (hfr : 1 ≤ R.frames) (hlo : (st.map fun v => v.category).sum + (nativeFrameWords "java/lang/System" "arraycopy" 5 + 11) ≤ R.locals) (hd : decode cc pc = .ok (.invokestatic index, 3)) (kk : jj_J p l e R s m args below meth c nL G cells slots Qf (pc + 3) lv st (me_arr σ d (cp_ (σ.1 id) (σ.1 d) 8)) t) : jj_J p l e R s m args below meth c nL G cells slots Qf pc lv (.int 8 :: .int 0 :: .ref (gg_r G d) :: .int 0 :: .ref (gg_r G id) :: st) σ t := fun r hr H locs ls hW hS hl => by
  obtain ⟨q0, hq0⟩ := wl_ix hG.nu (i := id) (by rw [ia]; decide)
  obtain ⟨q1, hq1⟩ := wl_ix hG.nu (i := d) (by rw [ib]; decide)
  have e0 : (wl_ G σ)[q0]? = some (gg_r G id, .inl (gg_a G 4, rq_ 8 (fun j => rk_ G 30 (σ.1 id j)))) := by rw [(hq0 σ).2]; unfold at_; rw [ia]; rfl
  have e1 : (wl_ G σ)[q1]? = some (gg_r G d, .inl (gg_a G 4, rq_ 8 (fun j => rk_ G 30 (σ.1 d j)))) := by rw [(hq1 σ).2]; unfold at_; rw [ib]; rfl
  refine va_copyM X.1 X.2.1 (X.2.2.1.trans hl.1.symm) X.2.2.2.1 (X.2.2.2.2 _ hw) (X.2.2.2.2 _ hnat) (X.2.2.2.2 _ hstat) (X.2.2.2.2 _ hini) hG.1 hW.list (wl_D hG.nu) hS q0 q1 4 4 e0 e1 rfl rfl (by decide) (by decide) (by decide) (by decide) (by decide) (fun i _ y hy => by obtain ⟨j, hj, rfl⟩ := rk_any hy; exact any_man hG hS hj) hfr hlo hd (fun H1 locs1 hP1 _ hS1 => kk r hr H1 locs1 ls (Wo_.of_set hG.nu (hq1 σ).1 hP1 ?_ (fun j hj => me_arr_ne σ _ hj)) hS1 hl)
  rw [ib, (me_arr_eq σ d _).1]
  show Sum.inl (gg_a G 4, rq_ 8 (va_cpy (fun i => rk_ G 30 (σ.1 id i)) (fun i => rk_ G 30 (σ.1 d i)) 0 0 8)) = _
  rw [cpy_rk]
  rfl
end JC
