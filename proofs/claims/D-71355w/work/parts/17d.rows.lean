/-! LAW: rows of the law's own body -/
set_option maxRecDepth 100000
section LR
variable {p : Program} {l : Launch} {e : Env} {R : Room} {s : State} {m : MethodId} {args : Array Value} {below : List Frame} {meth : Method} {c : Code} {cc : ByteArray} {nL : Nat} {own : String} {G : GG_} {cells slots : Nat} {ρ : Type} {Qf : ρ → State → Prop} {pc : Nat} {lv : List (Nat × Value)} {st : List Value} {σ : Me_} {t : Option ρ}
theorem ba_ {b : Nat} (hz : gg_z G = s.heap.size) (hbl : b < s.heap.size) : ¬ AA_ G b := fun h => by
  have h1 : gg_z G ≤ b := h
  omega
/-- a number of the script -/
theorem jl_arg (X : CallFix p m c cc nL s args lw_all own) {b L : Nat} {xs : Nat → Int32} (hX : va_X b L xs s s.heap) (hbl : b < s.heap.size) (hbA : ¬ AA_ G b) {i : Int32} {n : Int} (v : Int32) (q0 q3 : Nat) (h0 : lv[q0]? = some (0, .ref b)) (h3 : lv[q3]? = some (3, .int i)) (hv : Int32.ofInt n = v) (hin : vp_in (i + v) L) (d1 : decode cc pc = .ok (.aload_n 0, 1)) (d2 : decode cc (pc + 1) = .ok (.iload_n 3, 1)) (d3 : decode cc (pc + 1 + 1) = .ok (.iconst n, 1)) (d4 : decode cc (pc + 1 + 1 + 1) = .ok (.iadd, 1)) (d5 : decode cc (pc + 1 + 1 + 1 + 1) = .ok (.iaload, 1)) (kk : jj_J p l e R s m args below meth c nL G cells slots Qf (pc + 1 + 1 + 1 + 1 + 1) lv (.int (xs (i + v).toNatClampNeg) :: st) σ t) : jj_J p l e R s m args below meth c nL G cells slots Qf pc lv st σ t :=
  jj_aload_n X d1 q0 h0 (jj_iload_n X d2 q3 h3 (jj_iconst X d3 hv (jj_iadd X d4 (fun r hr H locs ls hW hS hl => va_sld X.1 X.2.1 hX hbl hbA hS hin d5 (kk r hr H locs ls hW hS hl)))))
theorem jl_sld (X : CallFix p m c cc nL s args lw_all own) {b L : Nat} {xs : Nat → Int32} (hX : va_X b L xs s s.heap) (hbl : b < s.heap.size) (hbA : ¬ AA_ G b) {i : Int32} (hin : vp_in i L) (hd : decode cc pc = .ok (.iaload, 1)) (kk : jj_J p l e R s m args below meth c nL G cells slots Qf (pc + 1) lv (.int (xs i.toNatClampNeg) :: st) σ t) : jj_J p l e R s m args below meth c nL G cells slots Qf pc lv (.int i :: .ref b :: st) σ t := fun r hr H locs ls hW hS hl => va_sld X.1 X.2.1 hX hbl hbA hS hin hd (kk r hr H locs ls hW hS hl)
theorem jl_slen (X : CallFix p m c cc nL s args lw_all own) {b L : Nat} {xs : Nat → Int32} (hX : va_X b L xs s s.heap) (hbl : b < s.heap.size) (hbA : ¬ AA_ G b) (hd : decode cc pc = .ok (.arraylength, 1)) (kk : jj_J p l e R s m args below meth c nL G cells slots Qf (pc + 1) lv (.int (Int32.ofNat L) :: st) σ t) : jj_J p l e R s m args below meth c nL G cells slots Qf pc lv (.ref b :: st) σ t := fun r hr H locs ls hW hS hl => va_slen X.1 X.2.1 hX hbl hbA hS hd (kk r hr H locs ls hW hS hl)
/-- both answers are alike -/
theorem jl_eq (X : CallFix p m c cc nL s args lw_all own) {x : Int32} {off : Int} (tgt : Nat) (hd : decode cc pc = .ok (.if_icmp .eq off, 3)) (ht : (pc : Int) + off = (tgt : Int)) (kk : jj_J p l e R s m args below meth c nL G cells slots Qf tgt lv st σ t) : jj_J p l e R s m args below meth c nL G cells slots Qf pc lv (.int x :: .int x :: st) σ t := fun r hr H locs ls hW hS hl => lv_icmp_eq X.1 X.2.1 hd ht (fun _ => kk r hr H locs ls hW hS hl) (fun h => absurd rfl h)
theorem jl_leq (X : CallFix p m c cc nL s args lw_all own) {x : Int64} {off : Int} (tgt : Nat) (hd : decode cc pc = .ok (.lcmp, 1)) (hd2 : decode cc (pc + 1) = .ok (.ifCond .eq off, 3)) (ht : ((pc + 1 : Nat) : Int) + off = (tgt : Int)) (kk : jj_J p l e R s m args below meth c nL G cells slots Qf tgt lv st σ t) : jj_J p l e R s m args below meth c nL G cells slots Qf pc lv (.long x :: .long x :: st) σ t := jj_lcmp X hd (fun r hr H locs ls hW hS hl => lv_if_eq X.1 X.2.1 hd2 ht (fun _ => kk r hr H locs ls hW hS hl) (fun h => absurd ((lc_eq_z x x).mpr rfl) h))
theorem jl_ci {mc ms : Nat} {st0 rest : List Value} {a : Array Value} {x : Int32} {σ' : Me_} (run : Rn_ p l e R s m args below meth c nL G cells slots mc ms pc lv st0 rest σ a (Qi_ G (x, σ'))) (kk : jj_J p l e R s m args below meth c nL G (cells + mc) (slots + ms) Qf (pc + 3) lv (.int x :: rest) σ' t) : jj_J p l e R s m args below meth c nL G cells slots Qf pc lv st0 σ t := jj_ci0 run kk
theorem jl_cl {mc ms : Nat} {st0 rest : List Value} {a : Array Value} {x : Int64} {σ' : Me_} (run : Rn_ p l e R s m args below meth c nL G cells slots mc ms pc lv st0 rest σ a (Ql_ G (x, σ'))) (kk : jj_J p l e R s m args below meth c nL G (cells + mc) (slots + ms) Qf (pc + 3) lv (.long x :: rest) σ' t) : jj_J p l e R s m args below meth c nL G cells slots Qf pc lv st0 σ t := jj_cl0 run kk
theorem Ext_.AA {G' : GG_} (h : Ext_ G G') : AA_ G' = AA_ G := by
  have h1 : gg_z G' = gg_z G := h.2.2.1
  unfold AA_
  rw [h1]
/-- image: the numbering goes further -/
theorem jl_cx {mc ms : Nat} {st0 rest : List Value} {a : Array Value} {f : Nat → Int32} {x : Int32} {σ' : Me_} (run : Rn_ p l e R s m args below meth c nL G cells slots mc ms pc lv st0 rest σ a (Qx_ G f (x, σ'))) (kk : ∀ G', Ext_ G G' → Img_ G' f → jj_J p l e R s m args below meth c nL G' (cells + mc) (slots + ms) Qf (pc + 3) lv (.int x :: rest) σ' t) : jj_J p l e R s m args below meth c nL G cells slots Qf pc lv st0 σ t := fun r' hr H locs ls hW hS hl =>
  va_calli (run H locs ls hW hS hl) hS (fun _ _ h => h) (fun _ h => h) (fun x1 u t1 H1 locs1 ht _ hx hB _ _ hS1 => by
    obtain ⟨hx, hE, hI⟩ := hx
    have hx : x1 = x := hx
    subst hx
    exact kk u hE hI r' hr H1 locs1 ls (by rw [← ht]; exact hB) (by rw [hE.AA]; exact hS1) hl)
end LR
/-- the law at pc, in any world that stands, with the script at b and the number i in its third place -/
def Jl_ (p : Program) (l : Launch) (e : Env) (s : State) (m : MethodId) (below : List Frame) (meth : Method) (c : Code) (b : Nat) (i : Int32) (cells slots pc : Nat) : Prop :=
  ∀ (G : GG_) (σ : Me_), gg_z G = s.heap.size → Gl_ G s → Img_ G (σ.1 71) → Rel_z σ → jj_J p l e room_1 s m #[Value.ref b] below meth c 4 G cells slots (fun _ : Unit => lw_Z below #[Value.ref b] s) pc [(0, .ref b), (1, .ref (gg_r G 0)), (2, .ref (gg_r G 90)), (3, .int i)] [] σ (some ())
theorem sub5_ : ∀ L, L < 321 → (Int32.ofNat L - 5).toInt = (L : Int) - 5 := by decide +kernel
section LC
variable {p : Program} {l : Launch} {e : Env} {s : State} {m : MethodId} {below : List Frame} {meth : Method} {c : Code} {b L : Nat} {xs : Nat → Int32} {i : Int32} {cells slots : Nat}
theorem vin_ {n j L : Nat} (h1 : n + j < L) (h2 : L ≤ 1000) : vp_in (nI n + nI j) L := by
  rw [nI_add_z]
  exact vp_in_nI h1 (by omega)
set_option maxHeartbeats 4000000 in
/-- the law's end -/
theorem law_end {k : Nat} (hL : L ≤ 320) (X : CallFix p m c cL_law 4 s #[Value.ref b] lw_all "LeftBehindLaw") (hr : meth.sig.returnType = ret) (hlk : meth.locks = false) (hX : va_X b L xs s s.heap) (hbl : b < s.heap.size) (hk : k ≤ 65) (hend : L < 5 * k + 5) : Jl_ p l e s m below meth c b (nI (5 * k)) (1000 + 36 * k) (10000 + 240 * k) 18 := by
  intro G σ hz hG hI hR
  have hbA : ¬ AA_ G b := ba_ hz hbl
  refine jj_iload_n X dL_law_18 3 rfl ?_
  refine jj_aload_n X dL_law_19 0 rfl ?_
  refine jl_slen X hX hbl hbA dL_law_20 ?_
  refine jj_iconst (v := 5) X dL_law_21 (by decide) ?_
  refine jj_isub X dL_law_22 ?_
  intro r hr0 H locs ls hW hS hl
  refine lv_icmp_gt (tgt := 1245) X.1 X.2.1 dL_law_23 (by decide) (fun _ => ?_) (fun h => absurd ?_ h)
  · refine lv_iconst (v := 1) X.1 X.2.1 dL_law_1245 (by decide) ?_
    refine va_forget (fun q hq => ?_) (W.widen (k := 601024) (n := 7293034) (by omega) (by omega) (lw_ret X.1 X.2.1 hr hlk dL_law_1246))
    have h1 : gg_z G ≤ q.base := hS.2.2 q hq
    omega
  · rw [Int32.lt_iff_toInt_lt, sub5_ L (by omega), nI_int_z (by omega)]
    omega
end LC
