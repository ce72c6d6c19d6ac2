/-! IMAGE: the walks of image and from -/
set_option maxRecDepth 100000
section IM
variable {p : Program} {l : Launch} {e : Env} {R : Room} {s : State} {m : MethodId} {args : Array Value} {below : List Frame} {meth : Method} {c : Code} {cc : ByteArray} {nL : Nat} {own : String} {G : GG_} {cells slots : Nat} {ρ : Type} {Qf : ρ → State → Prop} {pc : Nat} {lv : List (Nat × Value)} {st : List Value} {σ : Me_} {t : Option ρ}
/-- images[i], then a branch: null or not -/
theorem ja_imgN (X : CallFix p m c cc nL s args lw_all own) (hG : Gl_ G s) {i : Int32} {off : Int} {tgt : Nat} {t1 t2 : Option ρ} (hd : decode cc pc = .ok (.aaload, 1)) (hd2 : decode cc (pc + 1) = .ok (.ifnonnull off, 3)) (hb : ((pc + 1 : Nat) : Int) + off = (tgt : Int)) (k0 : inb_ i 2 = true → σ.1 71 i.toNatClampNeg = 0 → jj_J p l e R s m args below meth c nL G cells slots Qf (pc + 1 + 3) lv st σ t1) (k1 : inb_ i 2 = true → ¬ σ.1 71 i.toNatClampNeg = 0 → jj_J p l e R s m args below meth c nL G cells slots Qf tgt lv st σ t2) : jj_J p l e R s m args below meth c nL G cells slots Qf pc lv (.int i :: .ref (gg_r G 71) :: st) σ (if inb_ i 2 = true then (if σ.1 71 i.toNatClampNeg = 0 then t1 else t2) else none) :=
  jj_ck fun hin r hr H locs ls hW hS hl => va_aldq X.1 X.2.1 hG.1 (hW.one (tg_71 hG) (by decide) rfl) 0 6 rfl rfl (inb_in hin) hd (by
    by_cases hz : σ.1 71 i.toNatClampNeg = 0
    · rw [if_pos hz] at hr ⊢
      exact lv_ifnonnullN X.1 X.2.1 hd2 (k0 hin hz r hr H locs ls hW hS hl)
    · rw [if_neg hz] at hr ⊢
      exact lv_ifnonnull X.1 X.2.1 hd2 hb (k1 hin hz r hr H locs ls hW hS hl))
/-- images[i], which is there -/
theorem ja_img (X : CallFix p m c cc nL s args lw_all own) (hG : Gl_ G s) {i : Int32} (hin : inb_ i 2 = true) (hz : ¬ σ.1 71 i.toNatClampNeg = 0) (hd : decode cc pc = .ok (.aaload, 1)) (kk : jj_J p l e R s m args below meth c nL G cells slots Qf (pc + 1) lv (.ref (gg_r G (110 + 40 * i.toNatClampNeg)) :: st) σ t) : jj_J p l e R s m args below meth c nL G cells slots Qf pc lv (.int i :: .ref (gg_r G 71) :: st) σ t := fun r hr H locs ls hW hS hl =>
  va_aldq X.1 X.2.1 hG.1 (hW.one (tg_71 hG) (by decide) rfl) 0 6 rfl rfl (inb_in hin) hd (by
    rw [if_neg hz]
    exact kk r hr H locs ls hW hS hl)
/-- a new island into images -/
theorem ja_astI (X : CallFix p m c cc nL s args lw_all own) (hG : Gl_ G s) {i : Int32} (hin : inb_ i 2 = true) (hB : IsB_ G (110 + 40 * i.toNatClampNeg)) (hd : decode cc pc = .ok (.aastore, 1)) (kk : jj_J p l e R s m args below meth c nL G cells slots Qf (pc + 1) lv st (me_set σ 71 i.toNatClampNeg 1) t) : jj_J p l e R s m args below meth c nL G cells slots Qf pc lv (.ref (gg_r G (110 + 40 * i.toNatClampNeg)) :: .int i :: .ref (gg_r G 71) :: st) σ t := fun r hr H locs ls hW hS hl => by
  obtain ⟨q0, hq0⟩ := wl_ix hG.nu (i := 71) (by rw [tg_71 hG]; decide)
  have ht : gg_t G (110 + 40 * i.toNatClampNeg) = 2 := is_0 hB
  obtain ⟨q1, hq1⟩ := wl_ix hG.nu (i := 110 + 40 * i.toNatClampNeg) (by rw [ht]; decide)
  have e0 : (wl_ G σ)[q0]? = some (gg_r G 71, .inl (gg_a G 6, rq_ 2 (fun j => if σ.1 71 j = 0 then none else some (gg_r G (110 + 40 * j))))) := by rw [(hq0 σ).2]; unfold at_; rw [tg_71 hG]; rfl
  have e1 : ∃ vs, (wl_ G σ)[q1]? = some (gg_r G (110 + 40 * i.toNatClampNeg), .inr (1, vs)) := by rw [(hq1 σ).2]; unfold at_; rw [ht]; exact ⟨_, rfl⟩
  obtain ⟨vs, e1⟩ := e1
  refine va_astq X.1 X.2.1 hG.1 hW.list (wl_D hG.nu) hS q0 6 q1 1 e0 rfl e1 rfl (inb_in hin) hd (fun H1 locs1 hP1 _ hS1 => kk r hr H1 locs1 ls (Wo_.of_set hG.nu (hq0 σ).1 hP1 ?_ (fun j hj => me_set_ne σ _ hj)) hS1 hl)
  rw [tg_71 hG, (me_set_eq σ 71 _ _).1]
  show Sum.inl (gg_a G 6, rq_ 2 _) = Sum.inl (gg_a G 6, rq_ 2 (fun j => if upd (σ.1 71) i.toNatClampNeg 1 j = 0 then none else some (gg_r G (110 + 40 * j))))
  congr 4
  funext j
  by_cases h : j = i.toNatClampNeg
  · simp [va_up, upd, h]
  · simp [va_up, upd, h]
theorem jj_of_jx (hG : Gl_ G s) (h : ∀ r, t = some r → jx_J p l e R s m args below meth c nL G cells slots (Qf r) pc lv st (wl_ G σ) []) : jj_J p l e R s m args below meth c nL G cells slots Qf pc lv st σ t := fun r hr H locs ls hW hS hl => h r hr H locs ls (Xp_.nil hG.nu hW) hS hl
end IM
/-- which images are there after image(i) -/
def im_ (f : Nat → Int32) (i : Int32) : Nat → Int32 := if F_X0_in i.toInt64 (0 : Int64) (1 : Int64) = 0 then f else if f i.toNatClampNeg = 0 then upd f i.toNatClampNeg 1 else f
def F_X0_image (σ : Me_) (x1 : Int32) : Option (Int32 × Me_) :=
  if F_X0_in x1.toInt64 (0 : Int64) (1 : Int64) = 0 then bi_ (F_X0_bad σ) fun r σ_1 => some (r, σ_1)
  else if inb_ x1 2 = true then
    (if σ.1 71 x1.toNatClampNeg = 0 then Option.bind (F_X1_takes (me_set (nb_ σ (110 + 40 * x1.toNatClampNeg)) 71 x1.toNatClampNeg 1) (110 + 40 * x1.toNatClampNeg) 1) fun σ_1 => some ((1 : Int32), σ_1)
     else Option.bind (F_X1_takes σ (110 + 40 * x1.toNatClampNeg) 1) fun σ_1 => some ((1 : Int32), σ_1))
  else none
def F_X0_from (σ : Me_) (x1 : Int32) : Option (Int32 × Me_) :=
  if F_X0_in x1.toInt64 (0 : Int64) (1 : Int64) = 0 then bi_ (F_X0_bad σ) fun r σ_1 => some (r, σ_1)
  else if inb_ x1 2 = true then
    (if σ.1 71 x1.toNatClampNeg = 0 then bi_ (F_X0_no σ) fun r σ_1 => some (r, σ_1)
     else Option.bind (F_X1_takes σ 1 (110 + 40 * x1.toNatClampNeg)) fun σ_1 => some ((1 : Int32), σ_1))
  else none
theorem kd_X0_from : yX0_from.cls = "LeftBehind" ∧ yX0_from.cls ≠ "java/lang/invoke/MethodHandle" ∧ yX0_from.cls ≠ "java/lang/invoke/VarHandle" ∧ (parseMethodDescriptor yX0_from.desc).map (fun d => d.parameters.length) = some 1 := by decide +kernel
theorem kd_X0_image : yX0_image.cls = "LeftBehind" ∧ yX0_image.cls ≠ "java/lang/invoke/MethodHandle" ∧ yX0_image.cls ≠ "java/lang/invoke/VarHandle" ∧ (parseMethodDescriptor yX0_image.desc).map (fun d => d.parameters.length) = some 1 := by decide +kernel
set_option maxHeartbeats 4000000 in
theorem mt_X0_from (l : Launch) (G : GG_) (σ : Me_) (x1 : Int32) (hI : Img_ G (σ.1 71)) : Ci_ l yX0_from (ws_ yX0_from cX0_from 2 (some .int)) (rm_ 4) 0 0 G [.ref (gg_r G 0), .int x1] σ (F_X0_from σ x1) := by
  refine jj_met (by decide) (Nat.le_of_ble_eq_true rfl) ?_
  intro p e s m below meth c X hG hrt hlk hnm
  unfold F_X0_from
  refine jj_iload_n X dX0_from_0 1 rfl ?_
  refine jj_i2l X dX0_from_1 ?_
  refine jj_lconst (v := 0) X dX0_from_2 (by decide) ?_
  refine jj_lconst (v := 1) X dX0_from_3 (by decide) ?_
  refine jj_ct (mc := 0) (ms := 0) (fun rr hrr => jr_S (rest := []) X hG (mt_X0_in l G σ x1.toInt64 (0 : Int64) (1 : Int64) rr hrr) (va_cwS 3 X.2.2.2.2 (lw_S q323 q324 q61 q325) rfl rfl rfl kd_X0_in ⟨by decide, by decide⟩) rfl rfl (Nat.le_of_ble_eq_true rfl) dX0_from_4 ⟨by decide, by decide⟩) ?_
  refine jj_if_ne (tgt := 15) X dX0_from_7 (by decide) (fun c => ?_) (fun c => ?_)
  · refine jj_aload_n X dX0_from_15 0 rfl ?_
    refine g0_images X hG q272 (tg_0 hG) dX0_from_16 ?_
    refine jj_iload_n X dX0_from_19 1 rfl ?_
    refine ja_imgN (tgt := 29) X hG dX0_from_20 dX0_from_21 (by decide) (fun hin hz => ?_) (fun hin hz => ?_)
    · refine jj_aload_n X dX0_from_24 0 rfl ?_
      refine jj_cib (mc := 0) (ms := 0) (fun rr hrr => jr_V (rest := []) X hG (tg_0 hG) (by decide) ⟨_, rfl⟩ rfl (mt_X0_no l G σ rr hrr) (cwV 0 X.2.2.2.2 (lw_V q598 q600 qs13 q61 q601) rfl rfl rfl kd_X0_no ⟨by decide, by decide⟩) rfl rfl (Nat.le_of_ble_eq_true rfl) dX0_from_25 ⟨by decide, by decide⟩) (fun r σ_1 => ?_)
      exact jj_iret X hrt hlk dX0_from_28
    · refine jj_aload_n X dX0_from_29 0 rfl ?_
      refine g0_island X hG q268 (tg_0 hG) dX0_from_30 ?_
      refine jj_aload_n X dX0_from_33 0 rfl ?_
      refine g0_images X hG q272 (tg_0 hG) dX0_from_34 ?_
      refine jj_iload_n X dX0_from_37 1 rfl ?_
      refine ja_img X hG hin hz dX0_from_38 ?_
      refine jj_cv (mc := 0) (ms := 0) (fun rr hrr => jr_V (rest := []) X hG (is_0 (is_of hG (Or.inl rfl))) (by decide) ⟨_, rfl⟩ rfl (mt_X1_takes l G σ 1 _ (is_of hG (Or.inl rfl)) ((hI.2 _ (inb_lt hin)).2 hz) rr hrr) (cwV 1 X.2.2.2.2 (lw_V q577 q578 q579 q62 q580) rfl rfl rfl kd_X1_takes ⟨by decide, by decide⟩) rfl rfl (Nat.le_of_ble_eq_true rfl) dX0_from_39 ⟨by decide, by decide⟩) (fun σ_1 => ?_)
      refine jj_iconst (v := 1) X dX0_from_42 (by decide) ?_
      exact jj_iret X hrt hlk dX0_from_43
  · refine jj_aload_n X dX0_from_10 0 rfl ?_
    refine jj_cib (mc := 0) (ms := 0) (fun rr hrr => jr_V (rest := []) X hG (tg_0 hG) (by decide) ⟨_, rfl⟩ rfl (mt_X0_bad l G σ rr hrr) (cwV 0 X.2.2.2.2 (lw_V q326 q328 qs0 q61 q329) rfl rfl rfl kd_X0_bad ⟨by decide, by decide⟩) rfl rfl (Nat.le_of_ble_eq_true rfl) dX0_from_11 ⟨by decide, by decide⟩) (fun r σ_1 => ?_)
    exact jj_iret X hrt hlk dX0_from_14
/-- what image leaves: a numbering that goes further, and the memory in it -/
def Qx_ (G : GG_) (f : Nat → Int32) (r : Int32 × Me_) : Array Value → State → Outcome → State → Prop := va_Qi (fun x (G' : GG_) => x = r.1 ∧ Ext_ G G' ∧ Img_ G' f) (fun G' t => Wo_ G' r.2 t.heap) (AA_ G)
theorem Ext_.rf {G : GG_} (h : Nu_ G) : Ext_ G G := ⟨h, rfl, rfl, rfl, fun _ _ => rfl⟩
def rmI_ : Room := { frames := 4, cells := 35, slots := 226, locals := 256 }
section IM2
variable {p : Program} {l : Launch} {e : Env} {s : State} {m : MethodId} {args : Array Value} {below : List Frame} {meth : Method} {c : Code} {G G' : GG_} {cells slots : Nat} {lv : List (Nat × Value)} {σ : Me_} {x1 : Int32}
theorem img_ret {cc : ByteArray} {nL pc : Nat} {own : String} (X : CallFix p m c cc nL s args lw_all own) (hrt : meth.sig.returnType = some .int) (hlk : meth.locks = false) {f : Nat → Int32} {x : Int32} (hA : AA_ G' = AA_ G) (hx : Ext_ G G' ∧ Img_ G' f) (h1 : cells ≤ 35) (h2 : slots ≤ 226) (hd : decode cc pc = .ok (.ireturn, 1)) : jj_J p l e rmI_ s m args below meth c nL G' cells slots (fun r => MQ below (Qx_ G f r) args s 35 226 (AA_ G)) pc lv [.int x] σ (some (x, σ)) := jj_widen h1 h2 (fun r hr H locs ls hW hS hl => by
  cases hr
  rw [hA] at hS
  exact W.iret X.1 X.2.1 hrt (fun t ht hWm => ⟨⟨x, G', rfl, ⟨rfl, hx⟩, by show Wo_ G' σ t.heap; rw [ht]; exact hW⟩, hS.F ht⟩) hS.2.2 hd)
/-- image, from the point on where the image is there -/
theorem img_tail (X : CallFix p m c cX0_image 2 s args lw_all "LeftBehind") (hG : Gl_ G' s) (hrt : meth.sig.returnType = some .int) (hlk : meth.locks = false) {f : Nat → Int32} (hA : AA_ G' = AA_ G) (hx : Ext_ G G' ∧ Img_ G' f) (h1 : cells ≤ 35) (h2 : slots ≤ 226) (hin : inb_ x1 2 = true) (hz : ¬ σ.1 71 x1.toNatClampNeg = 0) (hB : IsB_ G' (110 + 40 * x1.toNatClampNeg)) : jj_J p l e rmI_ s m args below meth c 2 G' cells slots (fun r => MQ below (Qx_ G f r) args s 35 226 (AA_ G)) 37 [(0, .ref (gg_r G' 0)), (1, .int x1)] [] σ (Option.bind (F_X1_takes σ (110 + 40 * x1.toNatClampNeg) 1) fun σ_1 => some ((1 : Int32), σ_1)) := by
  refine jj_aload_n X dX0_image_37 0 rfl ?_
  refine g0_images X hG q272 (tg_0 hG) dX0_image_38 ?_
  refine jj_iload_n X dX0_image_41 1 rfl ?_
  refine ja_img X hG hin hz dX0_image_42 ?_
  refine jj_aload_n X dX0_image_43 0 rfl ?_
  refine g0_island X hG q268 (tg_0 hG) dX0_image_44 ?_
  refine jj_cv (mc := 0) (ms := 0) (fun rr hrr => jr_V (rest := []) X hG (is_0 hB) (by decide) ⟨_, rfl⟩ rfl (mt_X1_takes l G' σ _ 1 hB (is_of hG (Or.inl rfl)) rr hrr) (cwV 1 X.2.2.2.2 (lw_V q577 q578 q579 q62 q580) rfl rfl rfl kd_X1_takes ⟨by decide, by decide⟩) rfl rfl (Nat.le_of_ble_eq_true rfl) dX0_image_47 ⟨by show cells + 0 ≤ 35; exact h1, by show slots + 0 ≤ 226; exact h2⟩) (fun σ_1 => ?_)
  refine jj_iconst (v := 1) X dX0_image_50 (by decide) ?_
  exact img_ret X hrt hlk hA hx h1 h2 dX0_image_51
end IM2
set_option maxHeartbeats 4000000 in
theorem mt_X0_image (l : Launch) (G : GG_) (σ : Me_) (x1 : Int32) (hI : Img_ G (σ.1 71)) : ∀ r, F_X0_image σ x1 = some r → Met l yX0_image (ws_ yX0_image cX0_image 2 (some .int)) rmI_ (Pr_ G σ [.ref (gg_r G 0), .int x1]) (Qx_ G (im_ (σ.1 71) x1) r) 35 226 (AA_ G) := by
  refine jj_met (by decide) (Nat.le_of_ble_eq_true rfl) ?_
  intro p e s m below meth c X hG hrt hlk hnm
  unfold F_X0_image
  refine jj_iload_n X dX0_image_0 1 rfl ?_
  refine jj_i2l X dX0_image_1 ?_
  refine jj_lconst (v := 0) X dX0_image_2 (by decide) ?_
  refine jj_lconst (v := 1) X dX0_image_3 (by decide) ?_
  refine jj_ct (mc := 0) (ms := 0) (fun rr hrr => jr_S (rest := []) X hG (mt_X0_in l G σ x1.toInt64 (0 : Int64) (1 : Int64) rr hrr) (va_cwS 3 X.2.2.2.2 (lw_S q323 q324 q61 q325) rfl rfl rfl kd_X0_in ⟨by decide, by decide⟩) rfl rfl (Nat.le_of_ble_eq_true rfl) dX0_image_4 ⟨by decide, by decide⟩) ?_
  refine jj_if_ne (tgt := 15) X dX0_image_7 (by decide) (fun hc => ?_) (fun hc => ?_)
  · refine jj_aload_n X dX0_image_15 0 rfl ?_
    refine g0_images X hG q272 (tg_0 hG) dX0_image_16 ?_
    refine jj_iload_n X dX0_image_19 1 rfl ?_
    refine ja_imgN (tgt := 37) X hG dX0_image_20 dX0_image_21 (by decide) (fun hin hz => ?_) (fun hin hz => ?_)
    · refine jj_aload_n X dX0_image_24 0 rfl ?_
      refine g0_images X hG q272 (tg_0 hG) dX0_image_25 ?_
      refine jj_iload_n X dX0_image_28 1 rfl ?_
      refine jj_of_jx hG (fun r hr => ?_)
      have hzz : gg_z G ≤ s.heap.size := hG.2.2.2.2.2.2
      refine jx_new (ci := 1) (fs := [.null, .int 0, .null, .null, .int 0, .null, .int 0, .null, .int 0, .null, .int 0, .null, .null, .int 0]) X hG hzz in_X1 tyX1 tyX1_ok q86 q87 q62 rfl (by decide) (by decide) (by decide) dX0_image_29 (fun a1 => ?_)
      refine jx_dup X dX0_image_32 rfl ?_
      refine jx_initN (rest := [.ref a1, .int x1, .ref (gg_r G 71)]) [] [(a1, .inr (1, [.null, .int 0, .null, .null, .int 0, .null, .int 0, .null, .int 0, .null, .int 0, .null, .null, .int 0]))] X hG rfl (mt_X1_init l G _ a1 ) ⟨va_cnB 0 X.2.2.2.2 (lw_meth q90) rfl rfl rfl (hG.2.1 _ q88 rfl) (X.2.2.2.2 _ q62) ki_X1_init ⟨by decide, by decide⟩, rfl, X.2.2.2.2 _ q89⟩ rfl rfl (Nat.le_of_ble_eq_true rfl) dX0_image_33 ⟨by decide, by decide⟩ (fun e2 hS => ?_)
      obtain ⟨ad, w2, had, hw2, hS1⟩ := hS
      subst had
      intro H locs ls hP hS hl
      rw [hS1, hw2] at hP
      have hP : Xp_ G (wl_ G σ) (isl_ G ad) H := hP
      obtain ⟨g1, g2, g3⟩ := gx_world (b := 110 + 40 * x1.toNatClampNeg) hG.nu hI (inb_lt hin) rfl hz hP
      have hG' : Gl_ (Gx_ G (110 + 40 * x1.toNatClampNeg) ad) s := hG.ext g2
      have hB : IsB_ (Gx_ G (110 + 40 * x1.toNatClampNeg) ad) (110 + 40 * x1.toNatClampNeg) := (g3.2 _ (inb_lt hin)).2 (by simp [upd])
      have e0 : gg_r (Gx_ G (110 + 40 * x1.toNatClampNeg) ad) 0 = gg_r G 0 := g2.2.2.2.2 0 (by decide)
      have e71 : gg_r (Gx_ G (110 + 40 * x1.toNatClampNeg) ad) 71 = gg_r G 71 := g2.2.2.2.2 71 (by decide)
      have eb : gg_r (Gx_ G (110 + 40 * x1.toNatClampNeg) ad) (110 + 40 * x1.toNatClampNeg) = ad 0 := by
        show (if 110 + 40 * x1.toNatClampNeg ≤ 110 + 40 * x1.toNatClampNeg ∧ 110 + 40 * x1.toNatClampNeg < 110 + 40 * x1.toNatClampNeg + 35 then ad (110 + 40 * x1.toNatClampNeg - (110 + 40 * x1.toNatClampNeg)) else _) = _
        rw [if_pos ⟨by omega, by omega⟩, Nat.sub_self]
      have him : im_ (σ.1 71) x1 = upd (σ.1 71) x1.toNatClampNeg 1 := by unfold im_; rw [if_neg hc, if_pos hz]
      have key := ja_astI (p := p) (l := l) (e := e) (R := rmI_) (m := m) (args := [Value.ref (gg_r G 0), .int x1].toArray) (below := below) (meth := meth) (c := c) (cells := 0 + 1 + 34) (slots := 0 + 14 + 212) (σ := nb_ σ (110 + 40 * x1.toNatClampNeg)) (lv := [(0, .ref (gg_r (Gx_ G (110 + 40 * x1.toNatClampNeg) ad) 0)), (1, .int x1)]) (st := []) X hG' hin hB dX0_image_36 (img_tail (l := l) (e := e) (below := below) (G := G) (f := im_ (σ.1 71) x1) X hG' hrt hlk rfl ⟨g2, by rw [him]; exact g3⟩ (by decide) (by decide) hin (by rw [(me_set_eq _ 71 _ _).1]; simp [upd]) hB)
      rw [eb, e71, e0] at key
      exact key r hr H locs ls g1 hS hl
    · have him : im_ (σ.1 71) x1 = σ.1 71 := by unfold im_; rw [if_neg hc, if_neg hz]
      exact img_tail (G := G) (G' := G) X hG hrt hlk rfl ⟨Ext_.rf hG.nu, by rw [him]; exact hI⟩ (by decide) (by decide) hin hz ((hI.2 _ (inb_lt hin)).2 hz)
  · refine jj_aload_n X dX0_image_10 0 rfl ?_
    refine jj_cib (mc := 0) (ms := 0) (fun rr hrr => jr_V (rest := []) X hG (tg_0 hG) (by decide) ⟨_, rfl⟩ rfl (mt_X0_bad l G σ rr hrr) (cwV 0 X.2.2.2.2 (lw_V q326 q328 qs0 q61 q329) rfl rfl rfl kd_X0_bad ⟨by decide, by decide⟩) rfl rfl (Nat.le_of_ble_eq_true rfl) dX0_image_11 ⟨by decide, by decide⟩) (fun r σ_1 => ?_)
    have him : im_ (σ.1 71) x1 = σ.1 71 := by unfold im_; rw [if_pos hc]
    exact img_ret X hrt hlk rfl ⟨Ext_.rf hG.nu, by rw [him]; exact hI⟩ (by decide) (by decide) dX0_image_14
