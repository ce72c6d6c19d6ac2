-- ===== PART A: goes FIRST, ahead of the names: the tables' words, and 'selects' of the private methods out of them =====
/-- a private method of a class that the tables say can be made, by its rows of tables_1 -/
def lw_okq (q : MethodName × Nat) : Prop := (q.1.cls ≠ "java/lang/invoke/MethodHandle" ∧ q.1.cls ≠ "java/lang/invoke/VarHandle") ∧ Cond.instantiable q.1.cls q.2 ∈ tables_1 ∧ Cond.privateMethod q.1 ∈ tables_1 ∧ Cond.instanceMethod q.1 ∈ tables_1
set_option maxRecDepth 100000
theorem lw_t1 {w : Cond} (h : w ∈ tables_1_1) : w ∈ tables_1 := List.mem_append_left _ h
theorem lw_t2 {w : Cond} (h : w ∈ tables_1_2) : w ∈ tables_1 := List.mem_append_right _ (List.mem_append_left _ h)
theorem lw_t3 {w : Cond} (h : w ∈ tables_1_3) : w ∈ tables_1 := List.mem_append_right _ (List.mem_append_right _ (List.mem_append_left _ h))
theorem lw_t4 {w : Cond} (h : w ∈ tables_1_4) : w ∈ tables_1 := List.mem_append_right _ (List.mem_append_right _ (List.mem_append_right _ (List.mem_append_left _ h)))
theorem lw_t5 {w : Cond} (h : w ∈ tables_1_5) : w ∈ tables_1 := List.mem_append_right _ (List.mem_append_right _ (List.mem_append_right _ (List.mem_append_right _ (List.mem_append_left _ h))))
theorem lw_t6 {w : Cond} (h : w ∈ tables_1_6) : w ∈ tables_1 := List.mem_append_right _ (List.mem_append_right _ (List.mem_append_right _ (List.mem_append_right _ (List.mem_append_right _ h))))
theorem lw_p0 : lw_okq (⟨"LeftBehind", "bad", "()I"⟩, 12) := ⟨⟨by decide +kernel, by decide +kernel⟩, lw_t1 (List.mem_of_getElem? (i := 19) rfl), lw_t2 (List.mem_of_getElem? (i := 27) rfl), lw_t2 (List.mem_of_getElem? (i := 28) rfl)⟩
theorem lw_p1 : lw_okq (⟨"LeftBehind", "refuses", "(II)I"⟩, 12) := ⟨⟨by decide +kernel, by decide +kernel⟩, lw_t1 (List.mem_of_getElem? (i := 19) rfl), lw_t2 (List.mem_of_getElem? (i := 31) rfl), lw_t2 (List.mem_of_getElem? (i := 32) rfl)⟩
theorem lw_p2 : lw_okq (⟨"LeftBehind", "full", "()I"⟩, 12) := ⟨⟨by decide +kernel, by decide +kernel⟩, lw_t1 (List.mem_of_getElem? (i := 19) rfl), lw_t2 (List.mem_of_getElem? (i := 35) rfl), lw_t2 (List.mem_of_getElem? (i := 36) rfl)⟩
theorem lw_p3 : lw_okq (⟨"LeftBehind", "isShip", "(I)Z"⟩, 12) := ⟨⟨by decide +kernel, by decide +kernel⟩, lw_t1 (List.mem_of_getElem? (i := 19) rfl), lw_t2 (List.mem_of_getElem? (i := 53) rfl), lw_t2 (List.mem_of_getElem? (i := 54) rfl)⟩
theorem lw_p4 : lw_okq (⟨"LeftBehind$Reader", "scans", "()V"⟩, 6) := ⟨⟨by decide +kernel, by decide +kernel⟩, lw_t1 (List.mem_of_getElem? (i := 127) rfl), lw_t2 (List.mem_of_getElem? (i := 82) rfl), lw_t2 (List.mem_of_getElem? (i := 83) rfl)⟩
theorem lw_p5 : lw_okq (⟨"LeftBehind$Reader", "isAt", "(II)Z"⟩, 6) := ⟨⟨by decide +kernel, by decide +kernel⟩, lw_t1 (List.mem_of_getElem? (i := 127) rfl), lw_t2 (List.mem_of_getElem? (i := 86) rfl), lw_t2 (List.mem_of_getElem? (i := 87) rfl)⟩
theorem lw_p6 : lw_okq (⟨"LeftBehind$Reader", "number", "()I"⟩, 6) := ⟨⟨by decide +kernel, by decide +kernel⟩, lw_t1 (List.mem_of_getElem? (i := 127) rfl), lw_t2 (List.mem_of_getElem? (i := 90) rfl), lw_t2 (List.mem_of_getElem? (i := 91) rfl)⟩
theorem lw_p7 : lw_okq (⟨"LeftBehind$Reader", "wants", "(Z)V"⟩, 6) := ⟨⟨by decide +kernel, by decide +kernel⟩, lw_t1 (List.mem_of_getElem? (i := 127) rfl), lw_t2 (List.mem_of_getElem? (i := 94) rfl), lw_t2 (List.mem_of_getElem? (i := 95) rfl)⟩
theorem lw_p8 : lw_okq (⟨"java/lang/Throwable", "fillInStackTrace", "(I)Ljava/lang/Throwable;"⟩, 6) := ⟨⟨by decide +kernel, by decide +kernel⟩, lw_t2 (List.mem_of_getElem? (i := 132) rfl), lw_t2 (List.mem_of_getElem? (i := 130) rfl), lw_t2 (List.mem_of_getElem? (i := 131) rfl)⟩
theorem lw_p9 : lw_okq (⟨"LeftBehind$Reader", "item", "()V"⟩, 6) := ⟨⟨by decide +kernel, by decide +kernel⟩, lw_t1 (List.mem_of_getElem? (i := 127) rfl), lw_t2 (List.mem_of_getElem? (i := 161) rfl), lw_t2 (List.mem_of_getElem? (i := 162) rfl)⟩
theorem lw_p10 : lw_okq (⟨"LeftBehind$Reader", "isWord", "(Ljava/lang/String;)Z"⟩, 6) := ⟨⟨by decide +kernel, by decide +kernel⟩, lw_t1 (List.mem_of_getElem? (i := 127) rfl), lw_t2 (List.mem_of_getElem? (i := 166) rfl), lw_t2 (List.mem_of_getElem? (i := 167) rfl)⟩
theorem lw_p11 : lw_okq (⟨"LeftBehind$Reader", "takes", "(II)I"⟩, 6) := ⟨⟨by decide +kernel, by decide +kernel⟩, lw_t1 (List.mem_of_getElem? (i := 127) rfl), lw_t2 (List.mem_of_getElem? (i := 219) rfl), lw_t2 (List.mem_of_getElem? (i := 220) rfl)⟩
theorem lw_p12 : lw_okq (⟨"LeftBehind", "isManned", "(I)Z"⟩, 12) := ⟨⟨by decide +kernel, by decide +kernel⟩, lw_t1 (List.mem_of_getElem? (i := 19) rfl), lw_t3 (List.mem_of_getElem? (i := 54) rfl), lw_t3 (List.mem_of_getElem? (i := 55) rfl)⟩
theorem lw_p13 : lw_okq (⟨"LeftBehind", "no", "()I"⟩, 12) := ⟨⟨by decide +kernel, by decide +kernel⟩, lw_t1 (List.mem_of_getElem? (i := 19) rfl), lw_t3 (List.mem_of_getElem? (i := 59) rfl), lw_t3 (List.mem_of_getElem? (i := 60) rfl)⟩
theorem lw_p14 : lw_okq (⟨"LeftBehind", "isMan", "(I)Z"⟩, 12) := ⟨⟨by decide +kernel, by decide +kernel⟩, lw_t1 (List.mem_of_getElem? (i := 19) rfl), lw_t3 (List.mem_of_getElem? (i := 72) rfl), lw_t3 (List.mem_of_getElem? (i := 73) rfl)⟩
theorem lw_p15 : lw_okq (⟨"LeftBehind", "ashore", "()I"⟩, 12) := ⟨⟨by decide +kernel, by decide +kernel⟩, lw_t1 (List.mem_of_getElem? (i := 19) rfl), lw_t3 (List.mem_of_getElem? (i := 87) rfl), lw_t3 (List.mem_of_getElem? (i := 88) rfl)⟩
def lw_privs_1 : List (MethodName × Nat) := [(⟨"LeftBehind", "bad", "()I"⟩, 12), (⟨"LeftBehind", "refuses", "(II)I"⟩, 12), (⟨"LeftBehind", "full", "()I"⟩, 12), (⟨"LeftBehind", "isShip", "(I)Z"⟩, 12), (⟨"LeftBehind$Reader", "scans", "()V"⟩, 6), (⟨"LeftBehind$Reader", "isAt", "(II)Z"⟩, 6), (⟨"LeftBehind$Reader", "number", "()I"⟩, 6), (⟨"LeftBehind$Reader", "wants", "(Z)V"⟩, 6), (⟨"java/lang/Throwable", "fillInStackTrace", "(I)Ljava/lang/Throwable;"⟩, 6), (⟨"LeftBehind$Reader", "item", "()V"⟩, 6), (⟨"LeftBehind$Reader", "isWord", "(Ljava/lang/String;)Z"⟩, 6), (⟨"LeftBehind$Reader", "takes", "(II)I"⟩, 6), (⟨"LeftBehind", "isManned", "(I)Z"⟩, 12), (⟨"LeftBehind", "no", "()I"⟩, 12), (⟨"LeftBehind", "isMan", "(I)Z"⟩, 12), (⟨"LeftBehind", "ashore", "()I"⟩, 12)]
theorem lw_r1 : ∀ q ∈ lw_privs_1, lw_okq q := List.forall_mem_cons.mpr ⟨lw_p0, List.forall_mem_cons.mpr ⟨lw_p1, List.forall_mem_cons.mpr ⟨lw_p2, List.forall_mem_cons.mpr ⟨lw_p3, List.forall_mem_cons.mpr ⟨lw_p4, List.forall_mem_cons.mpr ⟨lw_p5, List.forall_mem_cons.mpr ⟨lw_p6, List.forall_mem_cons.mpr ⟨lw_p7, List.forall_mem_cons.mpr ⟨lw_p8, List.forall_mem_cons.mpr ⟨lw_p9, List.forall_mem_cons.mpr ⟨lw_p10, List.forall_mem_cons.mpr ⟨lw_p11, List.forall_mem_cons.mpr ⟨lw_p12, List.forall_mem_cons.mpr ⟨lw_p13, List.forall_mem_cons.mpr ⟨lw_p14, List.forall_mem_cons.mpr ⟨lw_p15, fun _ h => absurd h List.not_mem_nil⟩⟩⟩⟩⟩⟩⟩⟩⟩⟩⟩⟩⟩⟩⟩⟩
theorem lw_p16 : lw_okq (⟨"LeftBehind", "likedNow", "(I)I"⟩, 12) := ⟨⟨by decide +kernel, by decide +kernel⟩, lw_t1 (List.mem_of_getElem? (i := 19) rfl), lw_t3 (List.mem_of_getElem? (i := 115) rfl), lw_t3 (List.mem_of_getElem? (i := 116) rfl)⟩
theorem lw_p17 : lw_okq (⟨"LeftBehind", "badAsk", "()I"⟩, 12) := ⟨⟨by decide +kernel, by decide +kernel⟩, lw_t1 (List.mem_of_getElem? (i := 19) rfl), lw_t3 (List.mem_of_getElem? (i := 223) rfl), lw_t3 (List.mem_of_getElem? (i := 224) rfl)⟩
theorem lw_p18 : lw_okq (⟨"LeftBehind$Fews", "tries", "(III)V"⟩, 7) := ⟨⟨by decide +kernel, by decide +kernel⟩, lw_t1 (List.mem_of_getElem? (i := 153) rfl), lw_t3 (List.mem_of_getElem? (i := 238) rfl), lw_t3 (List.mem_of_getElem? (i := 239) rfl)⟩
theorem lw_p19 : lw_okq (⟨"LeftBehind$Crews", "tries", "(I)V"⟩, 4) := ⟨⟨by decide +kernel, by decide +kernel⟩, lw_t1 (List.mem_of_getElem? (i := 183) rfl), lw_t4 (List.mem_of_getElem? (i := 13) rfl), lw_t4 (List.mem_of_getElem? (i := 14) rfl)⟩
theorem lw_p20 : lw_okq (⟨"LeftBehind$Crews", "ends", "()V"⟩, 4) := ⟨⟨by decide +kernel, by decide +kernel⟩, lw_t1 (List.mem_of_getElem? (i := 183) rfl), lw_t4 (List.mem_of_getElem? (i := 17) rfl), lw_t4 (List.mem_of_getElem? (i := 18) rfl)⟩
theorem lw_p21 : lw_okq (⟨"LeftBehind", "mayBe", "(II)Z"⟩, 12) := ⟨⟨by decide +kernel, by decide +kernel⟩, lw_t1 (List.mem_of_getElem? (i := 19) rfl), lw_t4 (List.mem_of_getElem? (i := 36) rfl), lw_t4 (List.mem_of_getElem? (i := 37) rfl)⟩
theorem lw_p22 : lw_okq (⟨"LeftBehind", "parts", "(III)I"⟩, 12) := ⟨⟨by decide +kernel, by decide +kernel⟩, lw_t1 (List.mem_of_getElem? (i := 19) rfl), lw_t4 (List.mem_of_getElem? (i := 45) rfl), lw_t4 (List.mem_of_getElem? (i := 46) rfl)⟩
theorem lw_p23 : lw_okq (⟨"LeftBehind", "sailsOf", "(I)I"⟩, 12) := ⟨⟨by decide +kernel, by decide +kernel⟩, lw_t1 (List.mem_of_getElem? (i := 19) rfl), lw_t4 (List.mem_of_getElem? (i := 68) rfl), lw_t4 (List.mem_of_getElem? (i := 69) rfl)⟩
theorem lw_p24 : lw_okq (⟨"LeftBehind", "beachOf", "(I)I"⟩, 12) := ⟨⟨by decide +kernel, by decide +kernel⟩, lw_t1 (List.mem_of_getElem? (i := 19) rfl), lw_t4 (List.mem_of_getElem? (i := 85) rfl), lw_t4 (List.mem_of_getElem? (i := 86) rfl)⟩
theorem lw_p25 : lw_okq (⟨"LeftBehind", "gets", "(IIZZ)I"⟩, 12) := ⟨⟨by decide +kernel, by decide +kernel⟩, lw_t1 (List.mem_of_getElem? (i := 19) rfl), lw_t4 (List.mem_of_getElem? (i := 98) rfl), lw_t4 (List.mem_of_getElem? (i := 99) rfl)⟩
theorem lw_p26 : lw_okq (⟨"LeftBehind", "could", "(IIZ)Z"⟩, 12) := ⟨⟨by decide +kernel, by decide +kernel⟩, lw_t1 (List.mem_of_getElem? (i := 19) rfl), lw_t4 (List.mem_of_getElem? (i := 102) rfl), lw_t4 (List.mem_of_getElem? (i := 103) rfl)⟩
theorem lw_p27 : lw_okq (⟨"LeftBehind", "turns", "(II)V"⟩, 12) := ⟨⟨by decide +kernel, by decide +kernel⟩, lw_t1 (List.mem_of_getElem? (i := 19) rfl), lw_t4 (List.mem_of_getElem? (i := 126) rfl), lw_t4 (List.mem_of_getElem? (i := 127) rfl)⟩
theorem lw_p28 : lw_okq (⟨"LeftBehind", "countOf", "(I)I"⟩, 12) := ⟨⟨by decide +kernel, by decide +kernel⟩, lw_t1 (List.mem_of_getElem? (i := 19) rfl), lw_t4 (List.mem_of_getElem? (i := 150) rfl), lw_t4 (List.mem_of_getElem? (i := 151) rfl)⟩
theorem lw_p29 : lw_okq (⟨"LeftBehind", "allCalls", "()I"⟩, 12) := ⟨⟨by decide +kernel, by decide +kernel⟩, lw_t1 (List.mem_of_getElem? (i := 19) rfl), lw_t4 (List.mem_of_getElem? (i := 154) rfl), lw_t4 (List.mem_of_getElem? (i := 155) rfl)⟩
theorem lw_p30 : lw_okq (⟨"LeftBehindModel", "many", "()I"⟩, 19) := ⟨⟨by decide +kernel, by decide +kernel⟩, lw_t4 (List.mem_of_getElem? (i := 165) rfl), lw_t4 (List.mem_of_getElem? (i := 237) rfl), lw_t4 (List.mem_of_getElem? (i := 238) rfl)⟩
theorem lw_p31 : lw_okq (⟨"LeftBehindModel", "bad", "(I)I"⟩, 19) := ⟨⟨by decide +kernel, by decide +kernel⟩, lw_t4 (List.mem_of_getElem? (i := 165) rfl), lw_t5 (List.mem_of_getElem? (i := 12) rfl), lw_t5 (List.mem_of_getElem? (i := 13) rfl)⟩
def lw_privs_2 : List (MethodName × Nat) := [(⟨"LeftBehind", "likedNow", "(I)I"⟩, 12), (⟨"LeftBehind", "badAsk", "()I"⟩, 12), (⟨"LeftBehind$Fews", "tries", "(III)V"⟩, 7), (⟨"LeftBehind$Crews", "tries", "(I)V"⟩, 4), (⟨"LeftBehind$Crews", "ends", "()V"⟩, 4), (⟨"LeftBehind", "mayBe", "(II)Z"⟩, 12), (⟨"LeftBehind", "parts", "(III)I"⟩, 12), (⟨"LeftBehind", "sailsOf", "(I)I"⟩, 12), (⟨"LeftBehind", "beachOf", "(I)I"⟩, 12), (⟨"LeftBehind", "gets", "(IIZZ)I"⟩, 12), (⟨"LeftBehind", "could", "(IIZ)Z"⟩, 12), (⟨"LeftBehind", "turns", "(II)V"⟩, 12), (⟨"LeftBehind", "countOf", "(I)I"⟩, 12), (⟨"LeftBehind", "allCalls", "()I"⟩, 12), (⟨"LeftBehindModel", "many", "()I"⟩, 19), (⟨"LeftBehindModel", "bad", "(I)I"⟩, 19)]
theorem lw_r2 : ∀ q ∈ lw_privs_2, lw_okq q := List.forall_mem_cons.mpr ⟨lw_p16, List.forall_mem_cons.mpr ⟨lw_p17, List.forall_mem_cons.mpr ⟨lw_p18, List.forall_mem_cons.mpr ⟨lw_p19, List.forall_mem_cons.mpr ⟨lw_p20, List.forall_mem_cons.mpr ⟨lw_p21, List.forall_mem_cons.mpr ⟨lw_p22, List.forall_mem_cons.mpr ⟨lw_p23, List.forall_mem_cons.mpr ⟨lw_p24, List.forall_mem_cons.mpr ⟨lw_p25, List.forall_mem_cons.mpr ⟨lw_p26, List.forall_mem_cons.mpr ⟨lw_p27, List.forall_mem_cons.mpr ⟨lw_p28, List.forall_mem_cons.mpr ⟨lw_p29, List.forall_mem_cons.mpr ⟨lw_p30, List.forall_mem_cons.mpr ⟨lw_p31, fun _ h => absurd h List.not_mem_nil⟩⟩⟩⟩⟩⟩⟩⟩⟩⟩⟩⟩⟩⟩⟩⟩
theorem lw_p32 : lw_okq (⟨"LeftBehindModel", "full", "()I"⟩, 19) := ⟨⟨by decide +kernel, by decide +kernel⟩, lw_t4 (List.mem_of_getElem? (i := 165) rfl), lw_t5 (List.mem_of_getElem? (i := 16) rfl), lw_t5 (List.mem_of_getElem? (i := 17) rfl)⟩
theorem lw_p33 : lw_okq (⟨"LeftBehindModel", "isShip", "(I)Z"⟩, 19) := ⟨⟨by decide +kernel, by decide +kernel⟩, lw_t4 (List.mem_of_getElem? (i := 165) rfl), lw_t5 (List.mem_of_getElem? (i := 28) rfl), lw_t5 (List.mem_of_getElem? (i := 29) rfl)⟩
theorem lw_p34 : lw_okq (⟨"LeftBehindModel", "no", "()I"⟩, 19) := ⟨⟨by decide +kernel, by decide +kernel⟩, lw_t4 (List.mem_of_getElem? (i := 165) rfl), lw_t5 (List.mem_of_getElem? (i := 42) rfl), lw_t5 (List.mem_of_getElem? (i := 43) rfl)⟩
theorem lw_p35 : lw_okq (⟨"LeftBehindModel", "save", "()V"⟩, 19) := ⟨⟨by decide +kernel, by decide +kernel⟩, lw_t4 (List.mem_of_getElem? (i := 165) rfl), lw_t5 (List.mem_of_getElem? (i := 46) rfl), lw_t5 (List.mem_of_getElem? (i := 47) rfl)⟩
theorem lw_p36 : lw_okq (⟨"LeftBehindModel", "isMan", "(I)Z"⟩, 19) := ⟨⟨by decide +kernel, by decide +kernel⟩, lw_t4 (List.mem_of_getElem? (i := 165) rfl), lw_t5 (List.mem_of_getElem? (i := 66) rfl), lw_t5 (List.mem_of_getElem? (i := 67) rfl)⟩
theorem lw_p37 : lw_okq (⟨"LeftBehindModel", "crewOf", "(I)I"⟩, 19) := ⟨⟨by decide +kernel, by decide +kernel⟩, lw_t4 (List.mem_of_getElem? (i := 165) rfl), lw_t5 (List.mem_of_getElem? (i := 86) rfl), lw_t5 (List.mem_of_getElem? (i := 87) rfl)⟩
theorem lw_p38 : lw_okq (⟨"LeftBehindModel", "layHand", "()V"⟩, 19) := ⟨⟨by decide +kernel, by decide +kernel⟩, lw_t4 (List.mem_of_getElem? (i := 165) rfl), lw_t5 (List.mem_of_getElem? (i := 120) rfl), lw_t5 (List.mem_of_getElem? (i := 121) rfl)⟩
theorem lw_p39 : lw_okq (⟨"LeftBehindModel", "ashoreBy", "(I)I"⟩, 19) := ⟨⟨by decide +kernel, by decide +kernel⟩, lw_t4 (List.mem_of_getElem? (i := 165) rfl), lw_t5 (List.mem_of_getElem? (i := 134) rfl), lw_t5 (List.mem_of_getElem? (i := 135) rfl)⟩
theorem lw_p40 : lw_okq (⟨"LeftBehindModel", "crewBy", "(II)I"⟩, 19) := ⟨⟨by decide +kernel, by decide +kernel⟩, lw_t4 (List.mem_of_getElem? (i := 165) rfl), lw_t5 (List.mem_of_getElem? (i := 142) rfl), lw_t5 (List.mem_of_getElem? (i := 143) rfl)⟩
theorem lw_p41 : lw_okq (⟨"LeftBehindModel", "layFour", "(IIIII)V"⟩, 19) := ⟨⟨by decide +kernel, by decide +kernel⟩, lw_t4 (List.mem_of_getElem? (i := 165) rfl), lw_t5 (List.mem_of_getElem? (i := 151) rfl), lw_t5 (List.mem_of_getElem? (i := 152) rfl)⟩
theorem lw_p42 : lw_okq (⟨"LeftBehindModel", "isSkilledBy", "(II)Z"⟩, 19) := ⟨⟨by decide +kernel, by decide +kernel⟩, lw_t4 (List.mem_of_getElem? (i := 165) rfl), lw_t5 (List.mem_of_getElem? (i := 160) rfl), lw_t5 (List.mem_of_getElem? (i := 161) rfl)⟩
theorem lw_p43 : lw_okq (⟨"LeftBehindModel", "kindsOfShip", "(I)I"⟩, 19) := ⟨⟨by decide +kernel, by decide +kernel⟩, lw_t4 (List.mem_of_getElem? (i := 165) rfl), lw_t5 (List.mem_of_getElem? (i := 185) rfl), lw_t5 (List.mem_of_getElem? (i := 186) rfl)⟩
theorem lw_p44 : lw_okq (⟨"LeftBehindModel", "kindsBy", "(IIIZ)I"⟩, 19) := ⟨⟨by decide +kernel, by decide +kernel⟩, lw_t4 (List.mem_of_getElem? (i := 165) rfl), lw_t5 (List.mem_of_getElem? (i := 189) rfl), lw_t5 (List.mem_of_getElem? (i := 190) rfl)⟩
theorem lw_p45 : lw_okq (⟨"LeftBehindModel", "mostAlike", "(I)I"⟩, 19) := ⟨⟨by decide +kernel, by decide +kernel⟩, lw_t4 (List.mem_of_getElem? (i := 165) rfl), lw_t5 (List.mem_of_getElem? (i := 197) rfl), lw_t5 (List.mem_of_getElem? (i := 198) rfl)⟩
theorem lw_p46 : lw_okq (⟨"LeftBehindModel", "kindsOfMan", "(I)I"⟩, 19) := ⟨⟨by decide +kernel, by decide +kernel⟩, lw_t4 (List.mem_of_getElem? (i := 165) rfl), lw_t5 (List.mem_of_getElem? (i := 208) rfl), lw_t5 (List.mem_of_getElem? (i := 209) rfl)⟩
theorem lw_p47 : lw_okq (⟨"LeftBehindModel", "canBehind", "(II)Z"⟩, 19) := ⟨⟨by decide +kernel, by decide +kernel⟩, lw_t4 (List.mem_of_getElem? (i := 165) rfl), lw_t5 (List.mem_of_getElem? (i := 220) rfl), lw_t5 (List.mem_of_getElem? (i := 221) rfl)⟩
def lw_privs_3 : List (MethodName × Nat) := [(⟨"LeftBehindModel", "full", "()I"⟩, 19), (⟨"LeftBehindModel", "isShip", "(I)Z"⟩, 19), (⟨"LeftBehindModel", "no", "()I"⟩, 19), (⟨"LeftBehindModel", "save", "()V"⟩, 19), (⟨"LeftBehindModel", "isMan", "(I)Z"⟩, 19), (⟨"LeftBehindModel", "crewOf", "(I)I"⟩, 19), (⟨"LeftBehindModel", "layHand", "()V"⟩, 19), (⟨"LeftBehindModel", "ashoreBy", "(I)I"⟩, 19), (⟨"LeftBehindModel", "crewBy", "(II)I"⟩, 19), (⟨"LeftBehindModel", "layFour", "(IIIII)V"⟩, 19), (⟨"LeftBehindModel", "isSkilledBy", "(II)Z"⟩, 19), (⟨"LeftBehindModel", "kindsOfShip", "(I)I"⟩, 19), (⟨"LeftBehindModel", "kindsBy", "(IIIZ)I"⟩, 19), (⟨"LeftBehindModel", "mostAlike", "(I)I"⟩, 19), (⟨"LeftBehindModel", "kindsOfMan", "(I)I"⟩, 19), (⟨"LeftBehindModel", "canBehind", "(II)Z"⟩, 19)]
theorem lw_r3 : ∀ q ∈ lw_privs_3, lw_okq q := List.forall_mem_cons.mpr ⟨lw_p32, List.forall_mem_cons.mpr ⟨lw_p33, List.forall_mem_cons.mpr ⟨lw_p34, List.forall_mem_cons.mpr ⟨lw_p35, List.forall_mem_cons.mpr ⟨lw_p36, List.forall_mem_cons.mpr ⟨lw_p37, List.forall_mem_cons.mpr ⟨lw_p38, List.forall_mem_cons.mpr ⟨lw_p39, List.forall_mem_cons.mpr ⟨lw_p40, List.forall_mem_cons.mpr ⟨lw_p41, List.forall_mem_cons.mpr ⟨lw_p42, List.forall_mem_cons.mpr ⟨lw_p43, List.forall_mem_cons.mpr ⟨lw_p44, List.forall_mem_cons.mpr ⟨lw_p45, List.forall_mem_cons.mpr ⟨lw_p46, List.forall_mem_cons.mpr ⟨lw_p47, fun _ h => absurd h List.not_mem_nil⟩⟩⟩⟩⟩⟩⟩⟩⟩⟩⟩⟩⟩⟩⟩⟩
theorem lw_p48 : lw_okq (⟨"LeftBehindModel", "fraction", "(JJ)V"⟩, 19) := ⟨⟨by decide +kernel, by decide +kernel⟩, lw_t4 (List.mem_of_getElem? (i := 165) rfl), lw_t5 (List.mem_of_getElem? (i := 231) rfl), lw_t5 (List.mem_of_getElem? (i := 232) rfl)⟩
theorem lw_p49 : lw_okq (⟨"LeftBehindModel", "lookAt", "(I)V"⟩, 19) := ⟨⟨by decide +kernel, by decide +kernel⟩, lw_t4 (List.mem_of_getElem? (i := 165) rfl), lw_t6 (List.mem_of_getElem? (i := 20) rfl), lw_t6 (List.mem_of_getElem? (i := 21) rfl)⟩
theorem lw_p50 : lw_okq (⟨"LeftBehindModel", "spells", "(IIIIIII)Z"⟩, 19) := ⟨⟨by decide +kernel, by decide +kernel⟩, lw_t4 (List.mem_of_getElem? (i := 165) rfl), lw_t6 (List.mem_of_getElem? (i := 34) rfl), lw_t6 (List.mem_of_getElem? (i := 35) rfl)⟩
theorem lw_p51 : lw_okq (⟨"LeftBehindModel", "goBehind", "()V"⟩, 19) := ⟨⟨by decide +kernel, by decide +kernel⟩, lw_t4 (List.mem_of_getElem? (i := 165) rfl), lw_t6 (List.mem_of_getElem? (i := 38) rfl), lw_t6 (List.mem_of_getElem? (i := 39) rfl)⟩
theorem lw_p52 : lw_okq (⟨"LeftBehindModel", "takesItem", "()Z"⟩, 19) := ⟨⟨by decide +kernel, by decide +kernel⟩, lw_t4 (List.mem_of_getElem? (i := 165) rfl), lw_t6 (List.mem_of_getElem? (i := 42) rfl), lw_t6 (List.mem_of_getElem? (i := 43) rfl)⟩
theorem lw_p53 : lw_okq (⟨"LeftBehindModel", "takesShip", "()Z"⟩, 19) := ⟨⟨by decide +kernel, by decide +kernel⟩, lw_t4 (List.mem_of_getElem? (i := 165) rfl), lw_t6 (List.mem_of_getElem? (i := 46) rfl), lw_t6 (List.mem_of_getElem? (i := 47) rfl)⟩
theorem lw_p54 : lw_okq (⟨"LeftBehindModel", "takes", "(III)Z"⟩, 19) := ⟨⟨by decide +kernel, by decide +kernel⟩, lw_t4 (List.mem_of_getElem? (i := 165) rfl), lw_t6 (List.mem_of_getElem? (i := 50) rfl), lw_t6 (List.mem_of_getElem? (i := 51) rfl)⟩
theorem lw_p55 : lw_okq (⟨"LeftBehindModel", "takesMan", "()Z"⟩, 19) := ⟨⟨by decide +kernel, by decide +kernel⟩, lw_t4 (List.mem_of_getElem? (i := 165) rfl), lw_t6 (List.mem_of_getElem? (i := 54) rfl), lw_t6 (List.mem_of_getElem? (i := 55) rfl)⟩
theorem lw_p56 : lw_okq (⟨"LeftBehindModel", "takesCall", "()Z"⟩, 19) := ⟨⟨by decide +kernel, by decide +kernel⟩, lw_t4 (List.mem_of_getElem? (i := 165) rfl), lw_t6 (List.mem_of_getElem? (i := 58) rfl), lw_t6 (List.mem_of_getElem? (i := 59) rfl)⟩
theorem lw_p57 : lw_okq (⟨"LeftBehindModel", "takesBoard", "()Z"⟩, 19) := ⟨⟨by decide +kernel, by decide +kernel⟩, lw_t4 (List.mem_of_getElem? (i := 165) rfl), lw_t6 (List.mem_of_getElem? (i := 62) rfl), lw_t6 (List.mem_of_getElem? (i := 63) rfl)⟩
theorem lw_p58 : lw_okq (⟨"LeftBehindModel", "counted", "(I)I"⟩, 19) := ⟨⟨by decide +kernel, by decide +kernel⟩, lw_t4 (List.mem_of_getElem? (i := 165) rfl), lw_t6 (List.mem_of_getElem? (i := 86) rfl), lw_t6 (List.mem_of_getElem? (i := 87) rfl)⟩
theorem lw_p59 : lw_okq (⟨"LeftBehindModel", "sums", "(JII)J"⟩, 19) := ⟨⟨by decide +kernel, by decide +kernel⟩, lw_t4 (List.mem_of_getElem? (i := 165) rfl), lw_t6 (List.mem_of_getElem? (i := 96) rfl), lw_t6 (List.mem_of_getElem? (i := 97) rfl)⟩
def lw_privs_4 : List (MethodName × Nat) := [(⟨"LeftBehindModel", "fraction", "(JJ)V"⟩, 19), (⟨"LeftBehindModel", "lookAt", "(I)V"⟩, 19), (⟨"LeftBehindModel", "spells", "(IIIIIII)Z"⟩, 19), (⟨"LeftBehindModel", "goBehind", "()V"⟩, 19), (⟨"LeftBehindModel", "takesItem", "()Z"⟩, 19), (⟨"LeftBehindModel", "takesShip", "()Z"⟩, 19), (⟨"LeftBehindModel", "takes", "(III)Z"⟩, 19), (⟨"LeftBehindModel", "takesMan", "()Z"⟩, 19), (⟨"LeftBehindModel", "takesCall", "()Z"⟩, 19), (⟨"LeftBehindModel", "takesBoard", "()Z"⟩, 19), (⟨"LeftBehindModel", "counted", "(I)I"⟩, 19), (⟨"LeftBehindModel", "sums", "(JII)J"⟩, 19)]
theorem lw_r4 : ∀ q ∈ lw_privs_4, lw_okq q := List.forall_mem_cons.mpr ⟨lw_p48, List.forall_mem_cons.mpr ⟨lw_p49, List.forall_mem_cons.mpr ⟨lw_p50, List.forall_mem_cons.mpr ⟨lw_p51, List.forall_mem_cons.mpr ⟨lw_p52, List.forall_mem_cons.mpr ⟨lw_p53, List.forall_mem_cons.mpr ⟨lw_p54, List.forall_mem_cons.mpr ⟨lw_p55, List.forall_mem_cons.mpr ⟨lw_p56, List.forall_mem_cons.mpr ⟨lw_p57, List.forall_mem_cons.mpr ⟨lw_p58, List.forall_mem_cons.mpr ⟨lw_p59, fun _ h => absurd h List.not_mem_nil⟩⟩⟩⟩⟩⟩⟩⟩⟩⟩⟩⟩
def lw_privs : List (MethodName × Nat) := lw_privs_1 ++ (lw_privs_2 ++ (lw_privs_3 ++ (lw_privs_4)))
def lw_tbl : List Cond := k2_sels lw_privs ++ tables_1
theorem lw_privs_ok : ∀ q ∈ lw_privs, lw_okq q := by
  show ∀ q ∈ lw_privs_1 ++ (lw_privs_2 ++ (lw_privs_3 ++ (lw_privs_4))), lw_okq q
  exact List.forall_mem_append.mpr ⟨lw_r1, List.forall_mem_append.mpr ⟨lw_r2, List.forall_mem_append.mpr ⟨lw_r3, lw_r4⟩⟩⟩
-- ===== ONE list of words for every method: the tables' words that hold all through a run =====
def lw_all : List Cond := lw_tbl.filter goodWord
/-- a word of the tables by its place: claim/WORDS.tsv -/
theorem lw_w {w : Cond} (i : Nat) (h : lw_tbl[i]? = some w) (g : goodWord w = true) : w ∈ lw_all := List.mem_filter.mpr ⟨List.mem_of_getElem? h, g⟩
theorem lw_all_tbl {w : Cond} (h : w ∈ lw_all) : w ∈ lw_tbl := (List.mem_filter.mp h).1
theorem lw_self : GoodIn lw_all lw_all := fun w h => ⟨h, good_of_word (List.mem_filter.mp h).2⟩
/-- a class's field words, by their places -/
theorem lw_in (ws : List Cond) (ps : List Nat) (hp : ws = ps.filterMap (fun i => lw_tbl[i]?)) (hg : ws.all goodWord = true) : ∀ w ∈ ws, w ∈ lw_all := by
  intro w h
  have h1 := List.all_eq_true.mp hg w h
  rw [hp] at h
  obtain ⟨i, -, hi⟩ := List.mem_filterMap.mp h
  exact lw_w i hi h1
/-- the words of a contract for the method y with code b, L locals, answer r -/
abbrev ws_ (y : MethodName) (b : ByteArray) (L : Nat) (r : Option FieldType) : List Cond := Cond.code y b L r :: lw_all
theorem lw_meth {y : MethodName} {b : ByteArray} {L : Nat} {r : Option FieldType} (h : Cond.code y b L r ∈ lw_all) : GoodIn lw_all (ws_ y b L r) := by
  intro w hw
  rcases List.mem_cons.mp hw with e | e
  · rw [e]
    exact lw_self _ h
  · exact lw_self _ e
theorem lw_app {a c : List Cond} (ha : ∀ w ∈ a, w ∈ lw_all) (hc : GoodIn lw_all c) : GoodIn lw_all (a ++ c) := by
  intro w hw
  rcases List.mem_append.mp hw with e | e
  · exact lw_self w (ha w e)
  · exact hc w e
/-- what a call through an object asks: cwV n hts (lw_V ..) -/
theorem lw_V {own : String} {idx : Nat} {C : String} {y : MethodName} {b : ByteArray} {L : Nat} {r : Option FieldType} (h1 : Cond.methodLink own idx y ∈ lw_all) (h2 : Cond.instanceMethod y ∈ lw_all) (h3 : Cond.selects C y y ∈ lw_all) (h4 : Cond.initialized C ∈ lw_all) (h5 : Cond.code y b L r ∈ lw_all) : GoodIn lw_all (wsV own idx C y (ws_ y b L r)) := by
  refine lw_app ?_ (lw_meth h5)
  intro w hw
  simp only [List.mem_cons, List.not_mem_nil, or_false] at hw
  rcases hw with e | e | e | e
  · rw [e]; exact h1
  · rw [e]; exact h2
  · rw [e]; exact h3
  · rw [e]; exact h4
/-- what a static call asks: va_cwS n hts (lw_S ..) -/
theorem lw_S {own : String} {idx : Nat} {y : MethodName} {b : ByteArray} {L : Nat} {r : Option FieldType} (h1 : Cond.methodLink own idx y ∈ lw_all) (h2 : Cond.static y ∈ lw_all) (h3 : Cond.initialized y.cls ∈ lw_all) (h4 : Cond.code y b L r ∈ lw_all) : GoodIn lw_all (va_wsS own idx y (ws_ y b L r)) := by
  refine lw_app ?_ (lw_meth h4)
  intro w hw
  simp only [List.mem_cons, List.not_mem_nil, or_false] at hw
  rcases hw with e | e | e
  · rw [e]; exact h1
  · rw [e]; exact h2
  · rw [e]; exact h3
/-- the words of a contract for a method WITH HANDLERS (hh: its table) -/
abbrev wsW_ (y : MethodName) (b : ByteArray) (L : Nat) (r : Option FieldType) (hh : List (Nat × Nat × Nat × Nat)) : List Cond := Cond.codeWith y b L r hh :: lw_all
theorem lw_methW {y : MethodName} {b : ByteArray} {L : Nat} {r : Option FieldType} {hh : List (Nat × Nat × Nat × Nat)} (h : Cond.codeWith y b L r hh ∈ lw_all) : GoodIn lw_all (wsW_ y b L r hh) := by
  intro w hw
  rcases List.mem_cons.mp hw with e | e
  · rw [e]
    exact lw_self _ h
  · exact lw_self _ e
/-- any list of words by their places (lw_in), good -/
theorem lw_good {ws : List Cond} (h : ∀ w ∈ ws, w ∈ lw_all) : GoodIn lw_all ws := fun w hw => lw_self w (h w hw)
/-- what a call of a method with handlers asks: vx_cwVW n hts (lw_VW ..), vx_cwSW n hts (lw_SW ..) -/
theorem lw_VW {own : String} {idx : Nat} {C : String} {y : MethodName} {b : ByteArray} {L : Nat} {r : Option FieldType} {hh : List (Nat × Nat × Nat × Nat)} (h1 : Cond.methodLink own idx y ∈ lw_all) (h2 : Cond.instanceMethod y ∈ lw_all) (h3 : Cond.selects C y y ∈ lw_all) (h4 : Cond.initialized C ∈ lw_all) (h5 : Cond.codeWith y b L r hh ∈ lw_all) : GoodIn lw_all (wsV own idx C y (wsW_ y b L r hh)) := by
  refine lw_app ?_ (lw_methW h5)
  intro w hw
  simp only [List.mem_cons, List.not_mem_nil, or_false] at hw
  rcases hw with e | e | e | e
  · rw [e]; exact h1
  · rw [e]; exact h2
  · rw [e]; exact h3
  · rw [e]; exact h4
theorem lw_SW {own : String} {idx : Nat} {y : MethodName} {b : ByteArray} {L : Nat} {r : Option FieldType} {hh : List (Nat × Nat × Nat × Nat)} (h1 : Cond.methodLink own idx y ∈ lw_all) (h2 : Cond.static y ∈ lw_all) (h3 : Cond.initialized y.cls ∈ lw_all) (h4 : Cond.codeWith y b L r hh ∈ lw_all) : GoodIn lw_all (va_wsS own idx y (wsW_ y b L r hh)) := by
  refine lw_app ?_ (lw_methW h4)
  intro w hw
  simp only [List.mem_cons, List.not_mem_nil, or_false] at hw
  rcases hw with e | e | e
  · rw [e]; exact h1
  · rw [e]; exact h2
  · rw [e]; exact h3
/-- a word by its place in its run of the tables -/
theorem lw_at {r : List Cond} (hr : ∀ w ∈ r, w ∈ lw_tbl) {w : Cond} (i : Nat) (h : r[i]? = some w) : w ∈ lw_tbl := hr w (List.mem_of_getElem? h)
theorem lw_g {w : Cond} (h : w ∈ lw_tbl) (g : goodWord w = true) : w ∈ lw_all := List.mem_filter.mpr ⟨h, g⟩
theorem lw_ms : ∀ w ∈ k2_sels lw_privs, w ∈ lw_tbl := fun w h => show w ∈ k2_sels lw_privs ++ tables_1 from List.mem_append_left _ h
theorem lw_m1 : ∀ w ∈ tables_1_1, w ∈ lw_tbl := fun w h => show w ∈ k2_sels lw_privs ++ tables_1 from List.mem_append_right (k2_sels lw_privs) (show w ∈ tables_1 from List.mem_append_left _ h)
theorem lw_m2 : ∀ w ∈ tables_1_2, w ∈ lw_tbl := fun w h => show w ∈ k2_sels lw_privs ++ tables_1 from List.mem_append_right (k2_sels lw_privs) (show w ∈ tables_1 from List.mem_append_right _ (List.mem_append_left _ h))
theorem lw_m3 : ∀ w ∈ tables_1_3, w ∈ lw_tbl := fun w h => show w ∈ k2_sels lw_privs ++ tables_1 from List.mem_append_right (k2_sels lw_privs) (show w ∈ tables_1 from List.mem_append_right _ (List.mem_append_right _ (List.mem_append_left _ h)))
theorem lw_m4 : ∀ w ∈ tables_1_4, w ∈ lw_tbl := fun w h => show w ∈ k2_sels lw_privs ++ tables_1 from List.mem_append_right (k2_sels lw_privs) (show w ∈ tables_1 from List.mem_append_right _ (List.mem_append_right _ (List.mem_append_right _ (List.mem_append_left _ h))))
theorem lw_m5 : ∀ w ∈ tables_1_5, w ∈ lw_tbl := fun w h => show w ∈ k2_sels lw_privs ++ tables_1 from List.mem_append_right (k2_sels lw_privs) (show w ∈ tables_1 from List.mem_append_right _ (List.mem_append_right _ (List.mem_append_right _ (List.mem_append_right _ (List.mem_append_left _ h)))))
theorem lw_m6 : ∀ w ∈ tables_1_6, w ∈ lw_tbl := fun w h => show w ∈ k2_sels lw_privs ++ tables_1 from List.mem_append_right (k2_sels lw_privs) (show w ∈ tables_1 from List.mem_append_right _ (List.mem_append_right _ (List.mem_append_right _ (List.mem_append_right _ (List.mem_append_right _ h)))))
theorem qs0 : (Cond.selects "LeftBehind" ⟨"LeftBehind", "bad", "()I"⟩ ⟨"LeftBehind", "bad", "()I"⟩) ∈ lw_all := lw_g (lw_at lw_ms 0 rfl) rfl
theorem qs1 : (Cond.selects "LeftBehind" ⟨"LeftBehind", "refuses", "(II)I"⟩ ⟨"LeftBehind", "refuses", "(II)I"⟩) ∈ lw_all := lw_g (lw_at lw_ms 1 rfl) rfl
theorem qs2 : (Cond.selects "LeftBehind" ⟨"LeftBehind", "full", "()I"⟩ ⟨"LeftBehind", "full", "()I"⟩) ∈ lw_all := lw_g (lw_at lw_ms 2 rfl) rfl
theorem qs3 : (Cond.selects "LeftBehind" ⟨"LeftBehind", "isShip", "(I)Z"⟩ ⟨"LeftBehind", "isShip", "(I)Z"⟩) ∈ lw_all := lw_g (lw_at lw_ms 3 rfl) rfl
theorem qs4 : (Cond.selects "LeftBehind$Reader" ⟨"LeftBehind$Reader", "scans", "()V"⟩ ⟨"LeftBehind$Reader", "scans", "()V"⟩) ∈ lw_all := lw_g (lw_at lw_ms 4 rfl) rfl
theorem qs5 : (Cond.selects "LeftBehind$Reader" ⟨"LeftBehind$Reader", "isAt", "(II)Z"⟩ ⟨"LeftBehind$Reader", "isAt", "(II)Z"⟩) ∈ lw_all := lw_g (lw_at lw_ms 5 rfl) rfl
theorem qs6 : (Cond.selects "LeftBehind$Reader" ⟨"LeftBehind$Reader", "number", "()I"⟩ ⟨"LeftBehind$Reader", "number", "()I"⟩) ∈ lw_all := lw_g (lw_at lw_ms 6 rfl) rfl
theorem qs7 : (Cond.selects "LeftBehind$Reader" ⟨"LeftBehind$Reader", "wants", "(Z)V"⟩ ⟨"LeftBehind$Reader", "wants", "(Z)V"⟩) ∈ lw_all := lw_g (lw_at lw_ms 7 rfl) rfl
theorem qs8 : (Cond.selects "java/lang/Throwable" ⟨"java/lang/Throwable", "fillInStackTrace", "(I)Ljava/lang/Throwable;"⟩ ⟨"java/lang/Throwable", "fillInStackTrace", "(I)Ljava/lang/Throwable;"⟩) ∈ lw_all := lw_g (lw_at lw_ms 8 rfl) rfl
theorem qs9 : (Cond.selects "LeftBehind$Reader" ⟨"LeftBehind$Reader", "item", "()V"⟩ ⟨"LeftBehind$Reader", "item", "()V"⟩) ∈ lw_all := lw_g (lw_at lw_ms 9 rfl) rfl
theorem qs10 : (Cond.selects "LeftBehind$Reader" ⟨"LeftBehind$Reader", "isWord", "(Ljava/lang/String;)Z"⟩ ⟨"LeftBehind$Reader", "isWord", "(Ljava/lang/String;)Z"⟩) ∈ lw_all := lw_g (lw_at lw_ms 10 rfl) rfl
theorem qs11 : (Cond.selects "LeftBehind$Reader" ⟨"LeftBehind$Reader", "takes", "(II)I"⟩ ⟨"LeftBehind$Reader", "takes", "(II)I"⟩) ∈ lw_all := lw_g (lw_at lw_ms 11 rfl) rfl
theorem qs12 : (Cond.selects "LeftBehind" ⟨"LeftBehind", "isManned", "(I)Z"⟩ ⟨"LeftBehind", "isManned", "(I)Z"⟩) ∈ lw_all := lw_g (lw_at lw_ms 12 rfl) rfl
theorem qs13 : (Cond.selects "LeftBehind" ⟨"LeftBehind", "no", "()I"⟩ ⟨"LeftBehind", "no", "()I"⟩) ∈ lw_all := lw_g (lw_at lw_ms 13 rfl) rfl
theorem qs14 : (Cond.selects "LeftBehind" ⟨"LeftBehind", "isMan", "(I)Z"⟩ ⟨"LeftBehind", "isMan", "(I)Z"⟩) ∈ lw_all := lw_g (lw_at lw_ms 14 rfl) rfl
theorem qs15 : (Cond.selects "LeftBehind" ⟨"LeftBehind", "ashore", "()I"⟩ ⟨"LeftBehind", "ashore", "()I"⟩) ∈ lw_all := lw_g (lw_at lw_ms 15 rfl) rfl
theorem qs16 : (Cond.selects "LeftBehind" ⟨"LeftBehind", "likedNow", "(I)I"⟩ ⟨"LeftBehind", "likedNow", "(I)I"⟩) ∈ lw_all := lw_g (lw_at lw_ms 16 rfl) rfl
theorem qs17 : (Cond.selects "LeftBehind" ⟨"LeftBehind", "badAsk", "()I"⟩ ⟨"LeftBehind", "badAsk", "()I"⟩) ∈ lw_all := lw_g (lw_at lw_ms 17 rfl) rfl
theorem qs18 : (Cond.selects "LeftBehind$Fews" ⟨"LeftBehind$Fews", "tries", "(III)V"⟩ ⟨"LeftBehind$Fews", "tries", "(III)V"⟩) ∈ lw_all := lw_g (lw_at lw_ms 18 rfl) rfl
theorem qs19 : (Cond.selects "LeftBehind$Crews" ⟨"LeftBehind$Crews", "tries", "(I)V"⟩ ⟨"LeftBehind$Crews", "tries", "(I)V"⟩) ∈ lw_all := lw_g (lw_at lw_ms 19 rfl) rfl
theorem qs20 : (Cond.selects "LeftBehind$Crews" ⟨"LeftBehind$Crews", "ends", "()V"⟩ ⟨"LeftBehind$Crews", "ends", "()V"⟩) ∈ lw_all := lw_g (lw_at lw_ms 20 rfl) rfl
theorem qs21 : (Cond.selects "LeftBehind" ⟨"LeftBehind", "mayBe", "(II)Z"⟩ ⟨"LeftBehind", "mayBe", "(II)Z"⟩) ∈ lw_all := lw_g (lw_at lw_ms 21 rfl) rfl
theorem qs22 : (Cond.selects "LeftBehind" ⟨"LeftBehind", "parts", "(III)I"⟩ ⟨"LeftBehind", "parts", "(III)I"⟩) ∈ lw_all := lw_g (lw_at lw_ms 22 rfl) rfl
theorem qs23 : (Cond.selects "LeftBehind" ⟨"LeftBehind", "sailsOf", "(I)I"⟩ ⟨"LeftBehind", "sailsOf", "(I)I"⟩) ∈ lw_all := lw_g (lw_at lw_ms 23 rfl) rfl
theorem qs24 : (Cond.selects "LeftBehind" ⟨"LeftBehind", "beachOf", "(I)I"⟩ ⟨"LeftBehind", "beachOf", "(I)I"⟩) ∈ lw_all := lw_g (lw_at lw_ms 24 rfl) rfl
theorem qs25 : (Cond.selects "LeftBehind" ⟨"LeftBehind", "gets", "(IIZZ)I"⟩ ⟨"LeftBehind", "gets", "(IIZZ)I"⟩) ∈ lw_all := lw_g (lw_at lw_ms 25 rfl) rfl
theorem qs26 : (Cond.selects "LeftBehind" ⟨"LeftBehind", "could", "(IIZ)Z"⟩ ⟨"LeftBehind", "could", "(IIZ)Z"⟩) ∈ lw_all := lw_g (lw_at lw_ms 26 rfl) rfl
theorem qs27 : (Cond.selects "LeftBehind" ⟨"LeftBehind", "turns", "(II)V"⟩ ⟨"LeftBehind", "turns", "(II)V"⟩) ∈ lw_all := lw_g (lw_at lw_ms 27 rfl) rfl
theorem qs28 : (Cond.selects "LeftBehind" ⟨"LeftBehind", "countOf", "(I)I"⟩ ⟨"LeftBehind", "countOf", "(I)I"⟩) ∈ lw_all := lw_g (lw_at lw_ms 28 rfl) rfl
theorem qs29 : (Cond.selects "LeftBehind" ⟨"LeftBehind", "allCalls", "()I"⟩ ⟨"LeftBehind", "allCalls", "()I"⟩) ∈ lw_all := lw_g (lw_at lw_ms 29 rfl) rfl
theorem qs30 : (Cond.selects "LeftBehindModel" ⟨"LeftBehindModel", "many", "()I"⟩ ⟨"LeftBehindModel", "many", "()I"⟩) ∈ lw_all := lw_g (lw_at lw_ms 30 rfl) rfl
theorem qs31 : (Cond.selects "LeftBehindModel" ⟨"LeftBehindModel", "bad", "(I)I"⟩ ⟨"LeftBehindModel", "bad", "(I)I"⟩) ∈ lw_all := lw_g (lw_at lw_ms 31 rfl) rfl
theorem qs32 : (Cond.selects "LeftBehindModel" ⟨"LeftBehindModel", "full", "()I"⟩ ⟨"LeftBehindModel", "full", "()I"⟩) ∈ lw_all := lw_g (lw_at lw_ms 32 rfl) rfl
theorem qs33 : (Cond.selects "LeftBehindModel" ⟨"LeftBehindModel", "isShip", "(I)Z"⟩ ⟨"LeftBehindModel", "isShip", "(I)Z"⟩) ∈ lw_all := lw_g (lw_at lw_ms 33 rfl) rfl
theorem qs34 : (Cond.selects "LeftBehindModel" ⟨"LeftBehindModel", "no", "()I"⟩ ⟨"LeftBehindModel", "no", "()I"⟩) ∈ lw_all := lw_g (lw_at lw_ms 34 rfl) rfl
theorem qs35 : (Cond.selects "LeftBehindModel" ⟨"LeftBehindModel", "save", "()V"⟩ ⟨"LeftBehindModel", "save", "()V"⟩) ∈ lw_all := lw_g (lw_at lw_ms 35 rfl) rfl
theorem qs36 : (Cond.selects "LeftBehindModel" ⟨"LeftBehindModel", "isMan", "(I)Z"⟩ ⟨"LeftBehindModel", "isMan", "(I)Z"⟩) ∈ lw_all := lw_g (lw_at lw_ms 36 rfl) rfl
theorem qs37 : (Cond.selects "LeftBehindModel" ⟨"LeftBehindModel", "crewOf", "(I)I"⟩ ⟨"LeftBehindModel", "crewOf", "(I)I"⟩) ∈ lw_all := lw_g (lw_at lw_ms 37 rfl) rfl
theorem qs38 : (Cond.selects "LeftBehindModel" ⟨"LeftBehindModel", "layHand", "()V"⟩ ⟨"LeftBehindModel", "layHand", "()V"⟩) ∈ lw_all := lw_g (lw_at lw_ms 38 rfl) rfl
theorem qs39 : (Cond.selects "LeftBehindModel" ⟨"LeftBehindModel", "ashoreBy", "(I)I"⟩ ⟨"LeftBehindModel", "ashoreBy", "(I)I"⟩) ∈ lw_all := lw_g (lw_at lw_ms 39 rfl) rfl
theorem qs40 : (Cond.selects "LeftBehindModel" ⟨"LeftBehindModel", "crewBy", "(II)I"⟩ ⟨"LeftBehindModel", "crewBy", "(II)I"⟩) ∈ lw_all := lw_g (lw_at lw_ms 40 rfl) rfl
theorem qs41 : (Cond.selects "LeftBehindModel" ⟨"LeftBehindModel", "layFour", "(IIIII)V"⟩ ⟨"LeftBehindModel", "layFour", "(IIIII)V"⟩) ∈ lw_all := lw_g (lw_at lw_ms 41 rfl) rfl
theorem qs42 : (Cond.selects "LeftBehindModel" ⟨"LeftBehindModel", "isSkilledBy", "(II)Z"⟩ ⟨"LeftBehindModel", "isSkilledBy", "(II)Z"⟩) ∈ lw_all := lw_g (lw_at lw_ms 42 rfl) rfl
theorem qs43 : (Cond.selects "LeftBehindModel" ⟨"LeftBehindModel", "kindsOfShip", "(I)I"⟩ ⟨"LeftBehindModel", "kindsOfShip", "(I)I"⟩) ∈ lw_all := lw_g (lw_at lw_ms 43 rfl) rfl
theorem qs44 : (Cond.selects "LeftBehindModel" ⟨"LeftBehindModel", "kindsBy", "(IIIZ)I"⟩ ⟨"LeftBehindModel", "kindsBy", "(IIIZ)I"⟩) ∈ lw_all := lw_g (lw_at lw_ms 44 rfl) rfl
theorem qs45 : (Cond.selects "LeftBehindModel" ⟨"LeftBehindModel", "mostAlike", "(I)I"⟩ ⟨"LeftBehindModel", "mostAlike", "(I)I"⟩) ∈ lw_all := lw_g (lw_at lw_ms 45 rfl) rfl
theorem qs46 : (Cond.selects "LeftBehindModel" ⟨"LeftBehindModel", "kindsOfMan", "(I)I"⟩ ⟨"LeftBehindModel", "kindsOfMan", "(I)I"⟩) ∈ lw_all := lw_g (lw_at lw_ms 46 rfl) rfl
theorem qs47 : (Cond.selects "LeftBehindModel" ⟨"LeftBehindModel", "canBehind", "(II)Z"⟩ ⟨"LeftBehindModel", "canBehind", "(II)Z"⟩) ∈ lw_all := lw_g (lw_at lw_ms 47 rfl) rfl
theorem qs48 : (Cond.selects "LeftBehindModel" ⟨"LeftBehindModel", "fraction", "(JJ)V"⟩ ⟨"LeftBehindModel", "fraction", "(JJ)V"⟩) ∈ lw_all := lw_g (lw_at lw_ms 48 rfl) rfl
theorem qs49 : (Cond.selects "LeftBehindModel" ⟨"LeftBehindModel", "lookAt", "(I)V"⟩ ⟨"LeftBehindModel", "lookAt", "(I)V"⟩) ∈ lw_all := lw_g (lw_at lw_ms 49 rfl) rfl
theorem qs50 : (Cond.selects "LeftBehindModel" ⟨"LeftBehindModel", "spells", "(IIIIIII)Z"⟩ ⟨"LeftBehindModel", "spells", "(IIIIIII)Z"⟩) ∈ lw_all := lw_g (lw_at lw_ms 50 rfl) rfl
theorem qs51 : (Cond.selects "LeftBehindModel" ⟨"LeftBehindModel", "goBehind", "()V"⟩ ⟨"LeftBehindModel", "goBehind", "()V"⟩) ∈ lw_all := lw_g (lw_at lw_ms 51 rfl) rfl
theorem qs52 : (Cond.selects "LeftBehindModel" ⟨"LeftBehindModel", "takesItem", "()Z"⟩ ⟨"LeftBehindModel", "takesItem", "()Z"⟩) ∈ lw_all := lw_g (lw_at lw_ms 52 rfl) rfl
theorem qs53 : (Cond.selects "LeftBehindModel" ⟨"LeftBehindModel", "takesShip", "()Z"⟩ ⟨"LeftBehindModel", "takesShip", "()Z"⟩) ∈ lw_all := lw_g (lw_at lw_ms 53 rfl) rfl
theorem qs54 : (Cond.selects "LeftBehindModel" ⟨"LeftBehindModel", "takes", "(III)Z"⟩ ⟨"LeftBehindModel", "takes", "(III)Z"⟩) ∈ lw_all := lw_g (lw_at lw_ms 54 rfl) rfl
theorem qs55 : (Cond.selects "LeftBehindModel" ⟨"LeftBehindModel", "takesMan", "()Z"⟩ ⟨"LeftBehindModel", "takesMan", "()Z"⟩) ∈ lw_all := lw_g (lw_at lw_ms 55 rfl) rfl
theorem qs56 : (Cond.selects "LeftBehindModel" ⟨"LeftBehindModel", "takesCall", "()Z"⟩ ⟨"LeftBehindModel", "takesCall", "()Z"⟩) ∈ lw_all := lw_g (lw_at lw_ms 56 rfl) rfl
theorem qs57 : (Cond.selects "LeftBehindModel" ⟨"LeftBehindModel", "takesBoard", "()Z"⟩ ⟨"LeftBehindModel", "takesBoard", "()Z"⟩) ∈ lw_all := lw_g (lw_at lw_ms 57 rfl) rfl
theorem qs58 : (Cond.selects "LeftBehindModel" ⟨"LeftBehindModel", "counted", "(I)I"⟩ ⟨"LeftBehindModel", "counted", "(I)I"⟩) ∈ lw_all := lw_g (lw_at lw_ms 58 rfl) rfl
theorem qs59 : (Cond.selects "LeftBehindModel" ⟨"LeftBehindModel", "sums", "(JII)J"⟩ ⟨"LeftBehindModel", "sums", "(JII)J"⟩) ∈ lw_all := lw_g (lw_at lw_ms 59 rfl) rfl
