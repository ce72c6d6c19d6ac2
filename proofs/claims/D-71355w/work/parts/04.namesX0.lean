/-! LeftBehind -/
set_option maxRecDepth 100000
def RX0 : String := "LeftBehind"
def TX0 : u_T := fun k => match k with
  | 0 => ("LeftBehind", "island", "LLeftBehind$Island;", true)
  | 1 => ("LeftBehind", "aside", "LLeftBehind$Island;", true)
  | 2 => ("LeftBehind", "images", "[LLeftBehind$Island;", true)
  | 3 => ("LeftBehind", "trial", "LLeftBehind$State;", true)
  | 4 => ("LeftBehind", "text", "[B", true)
  | 5 => ("LeftBehind", "typed", "I", false)
  | 6 => ("LeftBehind", "refused", "[I", true)
  | 7 => ("LeftBehind", "above", "J", false)
  | 8 => ("LeftBehind", "below", "J", false)
  | 9 => ("LeftBehind", "reader", "LLeftBehind$Reader;", true)
  | 10 => ("LeftBehind", "fews", "LLeftBehind$Fews;", true)
  | _ => ("LeftBehind", "crews", "LLeftBehind$Crews;", true)
def tyX0 : Nat → FieldType := fun k => match k with
  | 0 => .object "LeftBehind$Island"
  | 1 => .object "LeftBehind$Island"
  | 2 => .array (.object "LeftBehind$Island")
  | 3 => .object "LeftBehind$State"
  | 4 => .array .byte
  | 5 => .int
  | 6 => .array .int
  | 7 => .long
  | 8 => .long
  | 9 => .object "LeftBehind$Reader"
  | 10 => .object "LeftBehind$Fews"
  | _ => .object "LeftBehind$Crews"
abbrev wsX00 : List Cond := u_ws RX0 TX0 12
theorem nmX0 : ∀ a, a < 12 → ∀ b, b < 12 → a ≠ b → (TX0 a).2.1 ≠ (TX0 b).2.1 := by decide +kernel
theorem tyX0_ok : ∀ k, k < 12 → parseFieldDescriptor (TX0 k).2.2.1 = some (tyX0 k) := by decide +kernel
abbrev cX0_init : ByteArray := prog_1_method_2_code
def yX0_init : MethodName := ⟨RX0, "<init>", "()V"⟩
def dkwX0_init_4 : List UInt8 := [89, 42, 183, 0, 60, 181, 0, 61, 42, 180, 0, 10, 182, 0, 65, 177]
abbrev dktX0_init_4 : List UInt8 := dkwX0_init_4 ++ []
def dkwX0_init_3 : List UInt8 := [89, 42, 183, 0, 44, 181, 0, 47, 42, 187, 0, 51, 89, 42, 183, 0, 53, 181, 0, 54, 42, 187, 0, 58]
abbrev dktX0_init_3 : List UInt8 := dkwX0_init_3 ++ dktX0_init_4
def dkwX0_init_2 : List UInt8 := [17, 0, 150, 188, 8, 181, 0, 30, 42, 6, 188, 10, 181, 0, 34, 42, 10, 181, 0, 38, 42, 187, 0, 42]
abbrev dktX0_init_2 : List UInt8 := dkwX0_init_2 ++ dktX0_init_3
def dkwX0_init_1 : List UInt8 := [181, 0, 16, 42, 5, 189, 0, 7, 181, 0, 19, 42, 187, 0, 23, 89, 183, 0, 25, 181, 0, 26, 42]
abbrev dktX0_init_1 : List UInt8 := dkwX0_init_1 ++ dktX0_init_2
def dkwX0_init_0 : List UInt8 := [42, 183, 0, 1, 42, 187, 0, 7, 89, 183, 0, 9, 181, 0, 10, 42, 187, 0, 7, 89, 183, 0, 9]
abbrev dktX0_init_0 : List UInt8 := dkwX0_init_0 ++ dktX0_init_1
theorem dksX0_init_0 : cX0_init.data.toList.drop 0 = dktX0_init_0 := by decide +kernel
theorem dksX0_init_1 : cX0_init.data.toList.drop 23 = dktX0_init_1 := dk_seg dksX0_init_0 23 rfl rfl
theorem dksX0_init_2 : cX0_init.data.toList.drop 46 = dktX0_init_2 := dk_seg dksX0_init_1 23 rfl rfl
theorem dksX0_init_3 : cX0_init.data.toList.drop 70 = dktX0_init_3 := dk_seg dksX0_init_2 24 rfl rfl
theorem dksX0_init_4 : cX0_init.data.toList.drop 94 = dktX0_init_4 := dk_seg dksX0_init_3 24 rfl rfl
theorem dX0_init_0 : decode cX0_init 0 = .ok (.aload_n 0, 1) := dk_42 (dk_at dksX0_init_0 0 rfl rfl)
theorem dX0_init_1 : decode cX0_init 1 = .ok (.invokespecial 1, 3) := dk_183 0 1 (dk_at dksX0_init_0 1 rfl rfl)
theorem dX0_init_4 : decode cX0_init 4 = .ok (.aload_n 0, 1) := dk_42 (dk_at dksX0_init_0 4 rfl rfl)
theorem dX0_init_5 : decode cX0_init 5 = .ok (.new 7, 3) := dk_187 0 7 (dk_at dksX0_init_0 5 rfl rfl)
theorem dX0_init_8 : decode cX0_init 8 = .ok (.dup, 1) := dk_89 (dk_at dksX0_init_0 8 rfl rfl)
theorem dX0_init_9 : decode cX0_init 9 = .ok (.invokespecial 9, 3) := dk_183 0 9 (dk_at dksX0_init_0 9 rfl rfl)
theorem dX0_init_12 : decode cX0_init 12 = .ok (.putfield 10, 3) := dk_181 0 10 (dk_at dksX0_init_0 12 rfl rfl)
theorem dX0_init_15 : decode cX0_init 15 = .ok (.aload_n 0, 1) := dk_42 (dk_at dksX0_init_0 15 rfl rfl)
theorem dX0_init_16 : decode cX0_init 16 = .ok (.new 7, 3) := dk_187 0 7 (dk_at dksX0_init_0 16 rfl rfl)
theorem dX0_init_19 : decode cX0_init 19 = .ok (.dup, 1) := dk_89 (dk_at dksX0_init_0 19 rfl rfl)
theorem dX0_init_20 : decode cX0_init 20 = .ok (.invokespecial 9, 3) := dk_183 0 9 (dk_at dksX0_init_0 20 rfl rfl)
theorem dX0_init_23 : decode cX0_init 23 = .ok (.putfield 16, 3) := dk_181 0 16 (dk_at dksX0_init_1 0 rfl rfl)
theorem dX0_init_26 : decode cX0_init 26 = .ok (.aload_n 0, 1) := dk_42 (dk_at dksX0_init_1 3 rfl rfl)
theorem dX0_init_27 : decode cX0_init 27 = .ok (.iconst 2, 1) := dk_5 (dk_at dksX0_init_1 4 rfl rfl)
theorem dX0_init_28 : decode cX0_init 28 = .ok (.anewarray 7, 3) := dk_189 0 7 (dk_at dksX0_init_1 5 rfl rfl)
theorem dX0_init_31 : decode cX0_init 31 = .ok (.putfield 19, 3) := dk_181 0 19 (dk_at dksX0_init_1 8 rfl rfl)
theorem dX0_init_34 : decode cX0_init 34 = .ok (.aload_n 0, 1) := dk_42 (dk_at dksX0_init_1 11 rfl rfl)
theorem dX0_init_35 : decode cX0_init 35 = .ok (.new 23, 3) := dk_187 0 23 (dk_at dksX0_init_1 12 rfl rfl)
theorem dX0_init_38 : decode cX0_init 38 = .ok (.dup, 1) := dk_89 (dk_at dksX0_init_1 15 rfl rfl)
theorem dX0_init_39 : decode cX0_init 39 = .ok (.invokespecial 25, 3) := dk_183 0 25 (dk_at dksX0_init_1 16 rfl rfl)
theorem dX0_init_42 : decode cX0_init 42 = .ok (.putfield 26, 3) := dk_181 0 26 (dk_at dksX0_init_1 19 rfl rfl)
theorem dX0_init_45 : decode cX0_init 45 = .ok (.aload_n 0, 1) := dk_42 (dk_at dksX0_init_1 22 rfl rfl)
theorem dX0_init_46 : decode cX0_init 46 = .ok (.sipush 150, 3) := dk_17 0 150 (dk_at dksX0_init_2 0 rfl rfl)
theorem dX0_init_49 : decode cX0_init 49 = .ok (.newarray .byte, 2) := dk_188_8 (dk_at dksX0_init_2 3 rfl rfl)
theorem dX0_init_51 : decode cX0_init 51 = .ok (.putfield 30, 3) := dk_181 0 30 (dk_at dksX0_init_2 5 rfl rfl)
theorem dX0_init_54 : decode cX0_init 54 = .ok (.aload_n 0, 1) := dk_42 (dk_at dksX0_init_2 8 rfl rfl)
theorem dX0_init_55 : decode cX0_init 55 = .ok (.iconst 3, 1) := dk_6 (dk_at dksX0_init_2 9 rfl rfl)
theorem dX0_init_56 : decode cX0_init 56 = .ok (.newarray .int, 2) := dk_188_10 (dk_at dksX0_init_2 10 rfl rfl)
theorem dX0_init_58 : decode cX0_init 58 = .ok (.putfield 34, 3) := dk_181 0 34 (dk_at dksX0_init_2 12 rfl rfl)
theorem dX0_init_61 : decode cX0_init 61 = .ok (.aload_n 0, 1) := dk_42 (dk_at dksX0_init_2 15 rfl rfl)
theorem dX0_init_62 : decode cX0_init 62 = .ok (.lconst 1, 1) := dk_10 (dk_at dksX0_init_2 16 rfl rfl)
theorem dX0_init_63 : decode cX0_init 63 = .ok (.putfield 38, 3) := dk_181 0 38 (dk_at dksX0_init_2 17 rfl rfl)
theorem dX0_init_66 : decode cX0_init 66 = .ok (.aload_n 0, 1) := dk_42 (dk_at dksX0_init_2 20 rfl rfl)
theorem dX0_init_67 : decode cX0_init 67 = .ok (.new 42, 3) := dk_187 0 42 (dk_at dksX0_init_2 21 rfl rfl)
theorem dX0_init_70 : decode cX0_init 70 = .ok (.dup, 1) := dk_89 (dk_at dksX0_init_3 0 rfl rfl)
theorem dX0_init_71 : decode cX0_init 71 = .ok (.aload_n 0, 1) := dk_42 (dk_at dksX0_init_3 1 rfl rfl)
theorem dX0_init_72 : decode cX0_init 72 = .ok (.invokespecial 44, 3) := dk_183 0 44 (dk_at dksX0_init_3 2 rfl rfl)
theorem dX0_init_75 : decode cX0_init 75 = .ok (.putfield 47, 3) := dk_181 0 47 (dk_at dksX0_init_3 5 rfl rfl)
theorem dX0_init_78 : decode cX0_init 78 = .ok (.aload_n 0, 1) := dk_42 (dk_at dksX0_init_3 8 rfl rfl)
theorem dX0_init_79 : decode cX0_init 79 = .ok (.new 51, 3) := dk_187 0 51 (dk_at dksX0_init_3 9 rfl rfl)
theorem dX0_init_82 : decode cX0_init 82 = .ok (.dup, 1) := dk_89 (dk_at dksX0_init_3 12 rfl rfl)
theorem dX0_init_83 : decode cX0_init 83 = .ok (.aload_n 0, 1) := dk_42 (dk_at dksX0_init_3 13 rfl rfl)
theorem dX0_init_84 : decode cX0_init 84 = .ok (.invokespecial 53, 3) := dk_183 0 53 (dk_at dksX0_init_3 14 rfl rfl)
theorem dX0_init_87 : decode cX0_init 87 = .ok (.putfield 54, 3) := dk_181 0 54 (dk_at dksX0_init_3 17 rfl rfl)
theorem dX0_init_90 : decode cX0_init 90 = .ok (.aload_n 0, 1) := dk_42 (dk_at dksX0_init_3 20 rfl rfl)
theorem dX0_init_91 : decode cX0_init 91 = .ok (.new 58, 3) := dk_187 0 58 (dk_at dksX0_init_3 21 rfl rfl)
theorem dX0_init_94 : decode cX0_init 94 = .ok (.dup, 1) := dk_89 (dk_at dksX0_init_4 0 rfl rfl)
theorem dX0_init_95 : decode cX0_init 95 = .ok (.aload_n 0, 1) := dk_42 (dk_at dksX0_init_4 1 rfl rfl)
theorem dX0_init_96 : decode cX0_init 96 = .ok (.invokespecial 60, 3) := dk_183 0 60 (dk_at dksX0_init_4 2 rfl rfl)
theorem dX0_init_99 : decode cX0_init 99 = .ok (.putfield 61, 3) := dk_181 0 61 (dk_at dksX0_init_4 5 rfl rfl)
theorem dX0_init_102 : decode cX0_init 102 = .ok (.aload_n 0, 1) := dk_42 (dk_at dksX0_init_4 8 rfl rfl)
theorem dX0_init_103 : decode cX0_init 103 = .ok (.getfield 10, 3) := dk_180 0 10 (dk_at dksX0_init_4 9 rfl rfl)
theorem dX0_init_106 : decode cX0_init 106 = .ok (.invokevirtual 65, 3) := dk_182 0 65 (dk_at dksX0_init_4 12 rfl rfl)
theorem dX0_init_109 : decode cX0_init 109 = .ok (.return_, 1) := dk_177 (dk_at dksX0_init_4 15 rfl rfl)
abbrev cX0_island : ByteArray := prog_1_method_15_code
def yX0_island : MethodName := ⟨RX0, "island", "()I"⟩
def dkwX0_island_0 : List UInt8 := [42, 180, 0, 10, 180, 0, 88, 60, 42, 180, 0, 10, 182, 0, 65, 27, 172]
abbrev dktX0_island_0 : List UInt8 := dkwX0_island_0 ++ []
theorem dksX0_island_0 : cX0_island.data.toList.drop 0 = dktX0_island_0 := by decide +kernel
theorem dX0_island_0 : decode cX0_island 0 = .ok (.aload_n 0, 1) := dk_42 (dk_at dksX0_island_0 0 rfl rfl)
theorem dX0_island_1 : decode cX0_island 1 = .ok (.getfield 10, 3) := dk_180 0 10 (dk_at dksX0_island_0 1 rfl rfl)
theorem dX0_island_4 : decode cX0_island 4 = .ok (.getfield 88, 3) := dk_180 0 88 (dk_at dksX0_island_0 4 rfl rfl)
theorem dX0_island_7 : decode cX0_island 7 = .ok (.istore_n 1, 1) := dk_60 (dk_at dksX0_island_0 7 rfl rfl)
theorem dX0_island_8 : decode cX0_island 8 = .ok (.aload_n 0, 1) := dk_42 (dk_at dksX0_island_0 8 rfl rfl)
theorem dX0_island_9 : decode cX0_island 9 = .ok (.getfield 10, 3) := dk_180 0 10 (dk_at dksX0_island_0 9 rfl rfl)
theorem dX0_island_12 : decode cX0_island 12 = .ok (.invokevirtual 65, 3) := dk_182 0 65 (dk_at dksX0_island_0 12 rfl rfl)
theorem dX0_island_15 : decode cX0_island 15 = .ok (.iload_n 1, 1) := dk_27 (dk_at dksX0_island_0 15 rfl rfl)
theorem dX0_island_16 : decode cX0_island 16 = .ok (.ireturn, 1) := dk_172 (dk_at dksX0_island_0 16 rfl rfl)
abbrev cX0_ship : ByteArray := prog_1_method_16_code
def yX0_ship : MethodName := ⟨RX0, "ship", "(I)I"⟩
def dkwX0_ship_1 : List UInt8 := [182, 0, 106, 172, 42, 180, 0, 10, 27, 182, 0, 109, 42, 180, 0, 10, 180, 0, 84, 4, 100, 172]
abbrev dktX0_ship_1 : List UInt8 := dkwX0_ship_1 ++ []
def dkwX0_ship_0 : List UInt8 := [27, 184, 0, 98, 154, 0, 8, 42, 182, 0, 102, 172, 42, 180, 0, 10, 180, 0, 84, 6, 160, 0, 8, 42]
abbrev dktX0_ship_0 : List UInt8 := dkwX0_ship_0 ++ dktX0_ship_1
theorem dksX0_ship_0 : cX0_ship.data.toList.drop 0 = dktX0_ship_0 := by decide +kernel
theorem dksX0_ship_1 : cX0_ship.data.toList.drop 24 = dktX0_ship_1 := dk_seg dksX0_ship_0 24 rfl rfl
theorem dX0_ship_0 : decode cX0_ship 0 = .ok (.iload_n 1, 1) := dk_27 (dk_at dksX0_ship_0 0 rfl rfl)
theorem dX0_ship_1 : decode cX0_ship 1 = .ok (.invokestatic 98, 3) := dk_184 0 98 (dk_at dksX0_ship_0 1 rfl rfl)
theorem dX0_ship_4 : decode cX0_ship 4 = .ok (.ifCond .ne 8, 3) := dk_154 0 8 (dk_at dksX0_ship_0 4 rfl rfl)
theorem dX0_ship_7 : decode cX0_ship 7 = .ok (.aload_n 0, 1) := dk_42 (dk_at dksX0_ship_0 7 rfl rfl)
theorem dX0_ship_8 : decode cX0_ship 8 = .ok (.invokevirtual 102, 3) := dk_182 0 102 (dk_at dksX0_ship_0 8 rfl rfl)
theorem dX0_ship_11 : decode cX0_ship 11 = .ok (.ireturn, 1) := dk_172 (dk_at dksX0_ship_0 11 rfl rfl)
theorem dX0_ship_12 : decode cX0_ship 12 = .ok (.aload_n 0, 1) := dk_42 (dk_at dksX0_ship_0 12 rfl rfl)
theorem dX0_ship_13 : decode cX0_ship 13 = .ok (.getfield 10, 3) := dk_180 0 10 (dk_at dksX0_ship_0 13 rfl rfl)
theorem dX0_ship_16 : decode cX0_ship 16 = .ok (.getfield 84, 3) := dk_180 0 84 (dk_at dksX0_ship_0 16 rfl rfl)
theorem dX0_ship_19 : decode cX0_ship 19 = .ok (.iconst 3, 1) := dk_6 (dk_at dksX0_ship_0 19 rfl rfl)
theorem dX0_ship_20 : decode cX0_ship 20 = .ok (.if_icmp .ne 8, 3) := dk_160 0 8 (dk_at dksX0_ship_0 20 rfl rfl)
theorem dX0_ship_23 : decode cX0_ship 23 = .ok (.aload_n 0, 1) := dk_42 (dk_at dksX0_ship_0 23 rfl rfl)
theorem dX0_ship_24 : decode cX0_ship 24 = .ok (.invokevirtual 106, 3) := dk_182 0 106 (dk_at dksX0_ship_1 0 rfl rfl)
theorem dX0_ship_27 : decode cX0_ship 27 = .ok (.ireturn, 1) := dk_172 (dk_at dksX0_ship_1 3 rfl rfl)
theorem dX0_ship_28 : decode cX0_ship 28 = .ok (.aload_n 0, 1) := dk_42 (dk_at dksX0_ship_1 4 rfl rfl)
theorem dX0_ship_29 : decode cX0_ship 29 = .ok (.getfield 10, 3) := dk_180 0 10 (dk_at dksX0_ship_1 5 rfl rfl)
theorem dX0_ship_32 : decode cX0_ship 32 = .ok (.iload_n 1, 1) := dk_27 (dk_at dksX0_ship_1 8 rfl rfl)
theorem dX0_ship_33 : decode cX0_ship 33 = .ok (.invokevirtual 109, 3) := dk_182 0 109 (dk_at dksX0_ship_1 9 rfl rfl)
theorem dX0_ship_36 : decode cX0_ship 36 = .ok (.aload_n 0, 1) := dk_42 (dk_at dksX0_ship_1 12 rfl rfl)
theorem dX0_ship_37 : decode cX0_ship 37 = .ok (.getfield 10, 3) := dk_180 0 10 (dk_at dksX0_ship_1 13 rfl rfl)
theorem dX0_ship_40 : decode cX0_ship 40 = .ok (.getfield 84, 3) := dk_180 0 84 (dk_at dksX0_ship_1 16 rfl rfl)
theorem dX0_ship_43 : decode cX0_ship 43 = .ok (.iconst 1, 1) := dk_4 (dk_at dksX0_ship_1 19 rfl rfl)
theorem dX0_ship_44 : decode cX0_ship 44 = .ok (.isub, 1) := dk_100 (dk_at dksX0_ship_1 20 rfl rfl)
theorem dX0_ship_45 : decode cX0_ship 45 = .ok (.ireturn, 1) := dk_172 (dk_at dksX0_ship_1 21 rfl rfl)
abbrev cX0_isKind : ByteArray := prog_1_method_8_code
def yX0_isKind : MethodName := ⟨RX0, "isKind", "(I)Z"⟩
def dkwX0_isKind_0 : List UInt8 := [26, 133, 9, 20, 0, 72, 184, 0, 74, 172]
abbrev dktX0_isKind_0 : List UInt8 := dkwX0_isKind_0 ++ []
theorem dksX0_isKind_0 : cX0_isKind.data.toList.drop 0 = dktX0_isKind_0 := by decide +kernel
theorem dX0_isKind_0 : decode cX0_isKind 0 = .ok (.iload_n 0, 1) := dk_26 (dk_at dksX0_isKind_0 0 rfl rfl)
theorem dX0_isKind_1 : decode cX0_isKind 1 = .ok (.i2l, 1) := dk_133 (dk_at dksX0_isKind_0 1 rfl rfl)
theorem dX0_isKind_2 : decode cX0_isKind 2 = .ok (.lconst 0, 1) := dk_9 (dk_at dksX0_isKind_0 2 rfl rfl)
theorem dX0_isKind_3 : decode cX0_isKind 3 = .ok (.ldc2_w 72, 3) := dk_20 0 72 (dk_at dksX0_isKind_0 3 rfl rfl)
theorem dX0_isKind_6 : decode cX0_isKind 6 = .ok (.invokestatic 74, 3) := dk_184 0 74 (dk_at dksX0_isKind_0 6 rfl rfl)
theorem dX0_isKind_9 : decode cX0_isKind 9 = .ok (.ireturn, 1) := dk_172 (dk_at dksX0_isKind_0 9 rfl rfl)
abbrev cX0_in : ByteArray := prog_1_method_1_code
def yX0_in : MethodName := ⟨RX0, "in", "(JJJ)Z"⟩
def dkwX0_in_0 : List UInt8 := [30, 32, 148, 155, 0, 14, 30, 22, 4, 148, 157, 0, 7, 4, 167, 0, 4, 3, 172]
abbrev dktX0_in_0 : List UInt8 := dkwX0_in_0 ++ []
theorem dksX0_in_0 : cX0_in.data.toList.drop 0 = dktX0_in_0 := by decide +kernel
theorem dX0_in_0 : decode cX0_in 0 = .ok (.lload_n 0, 1) := dk_30 (dk_at dksX0_in_0 0 rfl rfl)
theorem dX0_in_1 : decode cX0_in 1 = .ok (.lload_n 2, 1) := dk_32 (dk_at dksX0_in_0 1 rfl rfl)
theorem dX0_in_2 : decode cX0_in 2 = .ok (.lcmp, 1) := dk_148 (dk_at dksX0_in_0 2 rfl rfl)
theorem dX0_in_3 : decode cX0_in 3 = .ok (.ifCond .lt 14, 3) := dk_155 0 14 (dk_at dksX0_in_0 3 rfl rfl)
theorem dX0_in_6 : decode cX0_in 6 = .ok (.lload_n 0, 1) := dk_30 (dk_at dksX0_in_0 6 rfl rfl)
theorem dX0_in_7 : decode cX0_in 7 = .ok (.lload 4, 2) := dk_22 4 (dk_at dksX0_in_0 7 rfl rfl)
theorem dX0_in_9 : decode cX0_in 9 = .ok (.lcmp, 1) := dk_148 (dk_at dksX0_in_0 9 rfl rfl)
theorem dX0_in_10 : decode cX0_in 10 = .ok (.ifCond .gt 7, 3) := dk_157 0 7 (dk_at dksX0_in_0 10 rfl rfl)
theorem dX0_in_13 : decode cX0_in 13 = .ok (.iconst 1, 1) := dk_4 (dk_at dksX0_in_0 13 rfl rfl)
theorem dX0_in_14 : decode cX0_in 14 = .ok (.goto 4, 3) := dk_167 0 4 (dk_at dksX0_in_0 14 rfl rfl)
theorem dX0_in_17 : decode cX0_in 17 = .ok (.iconst 0, 1) := dk_3 (dk_at dksX0_in_0 17 rfl rfl)
theorem dX0_in_18 : decode cX0_in 18 = .ok (.ireturn, 1) := dk_172 (dk_at dksX0_in_0 18 rfl rfl)
abbrev cX0_bad : ByteArray := prog_1_method_4_code
def yX0_bad : MethodName := ⟨RX0, "bad", "()I"⟩
def dkwX0_bad_0 : List UInt8 := [42, 3, 16, 254, 182, 0, 68, 172]
abbrev dktX0_bad_0 : List UInt8 := dkwX0_bad_0 ++ []
theorem dksX0_bad_0 : cX0_bad.data.toList.drop 0 = dktX0_bad_0 := by decide +kernel
theorem dX0_bad_0 : decode cX0_bad 0 = .ok (.aload_n 0, 1) := dk_42 (dk_at dksX0_bad_0 0 rfl rfl)
theorem dX0_bad_1 : decode cX0_bad 1 = .ok (.iconst 0, 1) := dk_3 (dk_at dksX0_bad_0 1 rfl rfl)
theorem dX0_bad_2 : decode cX0_bad 2 = .ok (.bipush (-2), 2) := dk_16 254 (dk_at dksX0_bad_0 2 rfl rfl)
theorem dX0_bad_4 : decode cX0_bad 4 = .ok (.invokevirtual 68, 3) := dk_182 0 68 (dk_at dksX0_bad_0 4 rfl rfl)
theorem dX0_bad_7 : decode cX0_bad 7 = .ok (.ireturn, 1) := dk_172 (dk_at dksX0_bad_0 7 rfl rfl)
abbrev cX0_refuses : ByteArray := prog_1_method_3_code
def yX0_refuses : MethodName := ⟨RX0, "refuses", "(II)I"⟩
def dkwX0_refuses_0 : List UInt8 := [42, 180, 0, 34, 27, 92, 46, 4, 96, 79, 28, 172]
abbrev dktX0_refuses_0 : List UInt8 := dkwX0_refuses_0 ++ []
theorem dksX0_refuses_0 : cX0_refuses.data.toList.drop 0 = dktX0_refuses_0 := by decide +kernel
theorem dX0_refuses_0 : decode cX0_refuses 0 = .ok (.aload_n 0, 1) := dk_42 (dk_at dksX0_refuses_0 0 rfl rfl)
theorem dX0_refuses_1 : decode cX0_refuses 1 = .ok (.getfield 34, 3) := dk_180 0 34 (dk_at dksX0_refuses_0 1 rfl rfl)
theorem dX0_refuses_4 : decode cX0_refuses 4 = .ok (.iload_n 1, 1) := dk_27 (dk_at dksX0_refuses_0 4 rfl rfl)
theorem dX0_refuses_5 : decode cX0_refuses 5 = .ok (.dup2, 1) := dk_92 (dk_at dksX0_refuses_0 5 rfl rfl)
theorem dX0_refuses_6 : decode cX0_refuses 6 = .ok (.iaload, 1) := dk_46 (dk_at dksX0_refuses_0 6 rfl rfl)
theorem dX0_refuses_7 : decode cX0_refuses 7 = .ok (.iconst 1, 1) := dk_4 (dk_at dksX0_refuses_0 7 rfl rfl)
theorem dX0_refuses_8 : decode cX0_refuses 8 = .ok (.iadd, 1) := dk_96 (dk_at dksX0_refuses_0 8 rfl rfl)
theorem dX0_refuses_9 : decode cX0_refuses 9 = .ok (.iastore, 1) := dk_79 (dk_at dksX0_refuses_0 9 rfl rfl)
theorem dX0_refuses_10 : decode cX0_refuses 10 = .ok (.iload_n 2, 1) := dk_28 (dk_at dksX0_refuses_0 10 rfl rfl)
theorem dX0_refuses_11 : decode cX0_refuses 11 = .ok (.ireturn, 1) := dk_172 (dk_at dksX0_refuses_0 11 rfl rfl)
abbrev cX0_full : ByteArray := prog_1_method_6_code
def yX0_full : MethodName := ⟨RX0, "full", "()I"⟩
def dkwX0_full_0 : List UInt8 := [42, 5, 16, 252, 182, 0, 68, 172]
abbrev dktX0_full_0 : List UInt8 := dkwX0_full_0 ++ []
theorem dksX0_full_0 : cX0_full.data.toList.drop 0 = dktX0_full_0 := by decide +kernel
theorem dX0_full_0 : decode cX0_full 0 = .ok (.aload_n 0, 1) := dk_42 (dk_at dksX0_full_0 0 rfl rfl)
theorem dX0_full_1 : decode cX0_full 1 = .ok (.iconst 2, 1) := dk_5 (dk_at dksX0_full_0 1 rfl rfl)
theorem dX0_full_2 : decode cX0_full 2 = .ok (.bipush (-4), 2) := dk_16 252 (dk_at dksX0_full_0 2 rfl rfl)
theorem dX0_full_4 : decode cX0_full 4 = .ok (.invokevirtual 68, 3) := dk_182 0 68 (dk_at dksX0_full_0 4 rfl rfl)
theorem dX0_full_7 : decode cX0_full 7 = .ok (.ireturn, 1) := dk_172 (dk_at dksX0_full_0 7 rfl rfl)
abbrev cX0_man : ByteArray := prog_1_method_17_code
def yX0_man : MethodName := ⟨RX0, "man", "(III)I"⟩
def dkwX0_man_2 : List UInt8 := [172, 42, 180, 0, 10, 27, 28, 29, 182, 0, 119, 42, 180, 0, 10, 180, 0, 88, 4, 100, 172]
abbrev dktX0_man_2 : List UInt8 := dkwX0_man_2 ++ []
def dkwX0_man_1 : List UInt8 := [154, 0, 8, 42, 182, 0, 102, 172, 42, 180, 0, 10, 180, 0, 88, 16, 8, 160, 0, 8, 42, 182, 0, 106]
abbrev dktX0_man_1 : List UInt8 := dkwX0_man_1 ++ dktX0_man_2
def dkwX0_man_0 : List UInt8 := [27, 184, 0, 98, 153, 0, 23, 28, 184, 0, 113, 153, 0, 16, 29, 2, 159, 0, 16, 42, 29, 182, 0, 116]
abbrev dktX0_man_0 : List UInt8 := dkwX0_man_0 ++ dktX0_man_1
theorem dksX0_man_0 : cX0_man.data.toList.drop 0 = dktX0_man_0 := by decide +kernel
theorem dksX0_man_1 : cX0_man.data.toList.drop 24 = dktX0_man_1 := dk_seg dksX0_man_0 24 rfl rfl
theorem dksX0_man_2 : cX0_man.data.toList.drop 48 = dktX0_man_2 := dk_seg dksX0_man_1 24 rfl rfl
theorem dX0_man_0 : decode cX0_man 0 = .ok (.iload_n 1, 1) := dk_27 (dk_at dksX0_man_0 0 rfl rfl)
theorem dX0_man_1 : decode cX0_man 1 = .ok (.invokestatic 98, 3) := dk_184 0 98 (dk_at dksX0_man_0 1 rfl rfl)
theorem dX0_man_4 : decode cX0_man 4 = .ok (.ifCond .eq 23, 3) := dk_153 0 23 (dk_at dksX0_man_0 4 rfl rfl)
theorem dX0_man_7 : decode cX0_man 7 = .ok (.iload_n 2, 1) := dk_28 (dk_at dksX0_man_0 7 rfl rfl)
theorem dX0_man_8 : decode cX0_man 8 = .ok (.invokestatic 113, 3) := dk_184 0 113 (dk_at dksX0_man_0 8 rfl rfl)
theorem dX0_man_11 : decode cX0_man 11 = .ok (.ifCond .eq 16, 3) := dk_153 0 16 (dk_at dksX0_man_0 11 rfl rfl)
theorem dX0_man_14 : decode cX0_man 14 = .ok (.iload_n 3, 1) := dk_29 (dk_at dksX0_man_0 14 rfl rfl)
theorem dX0_man_15 : decode cX0_man 15 = .ok (.iconst (-1), 1) := dk_2 (dk_at dksX0_man_0 15 rfl rfl)
theorem dX0_man_16 : decode cX0_man 16 = .ok (.if_icmp .eq 16, 3) := dk_159 0 16 (dk_at dksX0_man_0 16 rfl rfl)
theorem dX0_man_19 : decode cX0_man 19 = .ok (.aload_n 0, 1) := dk_42 (dk_at dksX0_man_0 19 rfl rfl)
theorem dX0_man_20 : decode cX0_man 20 = .ok (.iload_n 3, 1) := dk_29 (dk_at dksX0_man_0 20 rfl rfl)
theorem dX0_man_21 : decode cX0_man 21 = .ok (.invokevirtual 116, 3) := dk_182 0 116 (dk_at dksX0_man_0 21 rfl rfl)
theorem dX0_man_24 : decode cX0_man 24 = .ok (.ifCond .ne 8, 3) := dk_154 0 8 (dk_at dksX0_man_1 0 rfl rfl)
theorem dX0_man_27 : decode cX0_man 27 = .ok (.aload_n 0, 1) := dk_42 (dk_at dksX0_man_1 3 rfl rfl)
theorem dX0_man_28 : decode cX0_man 28 = .ok (.invokevirtual 102, 3) := dk_182 0 102 (dk_at dksX0_man_1 4 rfl rfl)
theorem dX0_man_31 : decode cX0_man 31 = .ok (.ireturn, 1) := dk_172 (dk_at dksX0_man_1 7 rfl rfl)
theorem dX0_man_32 : decode cX0_man 32 = .ok (.aload_n 0, 1) := dk_42 (dk_at dksX0_man_1 8 rfl rfl)
theorem dX0_man_33 : decode cX0_man 33 = .ok (.getfield 10, 3) := dk_180 0 10 (dk_at dksX0_man_1 9 rfl rfl)
theorem dX0_man_36 : decode cX0_man 36 = .ok (.getfield 88, 3) := dk_180 0 88 (dk_at dksX0_man_1 12 rfl rfl)
theorem dX0_man_39 : decode cX0_man 39 = .ok (.bipush 8, 2) := dk_16 8 (dk_at dksX0_man_1 15 rfl rfl)
theorem dX0_man_41 : decode cX0_man 41 = .ok (.if_icmp .ne 8, 3) := dk_160 0 8 (dk_at dksX0_man_1 17 rfl rfl)
theorem dX0_man_44 : decode cX0_man 44 = .ok (.aload_n 0, 1) := dk_42 (dk_at dksX0_man_1 20 rfl rfl)
theorem dX0_man_45 : decode cX0_man 45 = .ok (.invokevirtual 106, 3) := dk_182 0 106 (dk_at dksX0_man_1 21 rfl rfl)
theorem dX0_man_48 : decode cX0_man 48 = .ok (.ireturn, 1) := dk_172 (dk_at dksX0_man_2 0 rfl rfl)
theorem dX0_man_49 : decode cX0_man 49 = .ok (.aload_n 0, 1) := dk_42 (dk_at dksX0_man_2 1 rfl rfl)
theorem dX0_man_50 : decode cX0_man 50 = .ok (.getfield 10, 3) := dk_180 0 10 (dk_at dksX0_man_2 2 rfl rfl)
theorem dX0_man_53 : decode cX0_man 53 = .ok (.iload_n 1, 1) := dk_27 (dk_at dksX0_man_2 5 rfl rfl)
theorem dX0_man_54 : decode cX0_man 54 = .ok (.iload_n 2, 1) := dk_28 (dk_at dksX0_man_2 6 rfl rfl)
theorem dX0_man_55 : decode cX0_man 55 = .ok (.iload_n 3, 1) := dk_29 (dk_at dksX0_man_2 7 rfl rfl)
theorem dX0_man_56 : decode cX0_man 56 = .ok (.invokevirtual 119, 3) := dk_182 0 119 (dk_at dksX0_man_2 8 rfl rfl)
theorem dX0_man_59 : decode cX0_man 59 = .ok (.aload_n 0, 1) := dk_42 (dk_at dksX0_man_2 11 rfl rfl)
theorem dX0_man_60 : decode cX0_man 60 = .ok (.getfield 10, 3) := dk_180 0 10 (dk_at dksX0_man_2 12 rfl rfl)
theorem dX0_man_63 : decode cX0_man 63 = .ok (.getfield 88, 3) := dk_180 0 88 (dk_at dksX0_man_2 15 rfl rfl)
theorem dX0_man_66 : decode cX0_man 66 = .ok (.iconst 1, 1) := dk_4 (dk_at dksX0_man_2 18 rfl rfl)
theorem dX0_man_67 : decode cX0_man 67 = .ok (.isub, 1) := dk_100 (dk_at dksX0_man_2 19 rfl rfl)
theorem dX0_man_68 : decode cX0_man 68 = .ok (.ireturn, 1) := dk_172 (dk_at dksX0_man_2 20 rfl rfl)
abbrev cX0_isSkill : ByteArray := prog_1_method_9_code
def yX0_isSkill : MethodName := ⟨RX0, "isSkill", "(I)Z"⟩
def dkwX0_isSkill_0 : List UInt8 := [26, 133, 10, 20, 0, 78, 184, 0, 74, 172]
abbrev dktX0_isSkill_0 : List UInt8 := dkwX0_isSkill_0 ++ []
theorem dksX0_isSkill_0 : cX0_isSkill.data.toList.drop 0 = dktX0_isSkill_0 := by decide +kernel
theorem dX0_isSkill_0 : decode cX0_isSkill 0 = .ok (.iload_n 0, 1) := dk_26 (dk_at dksX0_isSkill_0 0 rfl rfl)
theorem dX0_isSkill_1 : decode cX0_isSkill 1 = .ok (.i2l, 1) := dk_133 (dk_at dksX0_isSkill_0 1 rfl rfl)
theorem dX0_isSkill_2 : decode cX0_isSkill 2 = .ok (.lconst 1, 1) := dk_10 (dk_at dksX0_isSkill_0 2 rfl rfl)
theorem dX0_isSkill_3 : decode cX0_isSkill 3 = .ok (.ldc2_w 78, 3) := dk_20 0 78 (dk_at dksX0_isSkill_0 3 rfl rfl)
theorem dX0_isSkill_6 : decode cX0_isSkill 6 = .ok (.invokestatic 74, 3) := dk_184 0 74 (dk_at dksX0_isSkill_0 6 rfl rfl)
theorem dX0_isSkill_9 : decode cX0_isSkill 9 = .ok (.ireturn, 1) := dk_172 (dk_at dksX0_isSkill_0 9 rfl rfl)
abbrev cX0_isShip : ByteArray := prog_1_method_12_code
def yX0_isShip : MethodName := ⟨RX0, "isShip", "(I)Z"⟩
def dkwX0_isShip_0 : List UInt8 := [27, 133, 9, 42, 180, 0, 10, 180, 0, 84, 4, 100, 133, 184, 0, 74, 172]
abbrev dktX0_isShip_0 : List UInt8 := dkwX0_isShip_0 ++ []
theorem dksX0_isShip_0 : cX0_isShip.data.toList.drop 0 = dktX0_isShip_0 := by decide +kernel
theorem dX0_isShip_0 : decode cX0_isShip 0 = .ok (.iload_n 1, 1) := dk_27 (dk_at dksX0_isShip_0 0 rfl rfl)
theorem dX0_isShip_1 : decode cX0_isShip 1 = .ok (.i2l, 1) := dk_133 (dk_at dksX0_isShip_0 1 rfl rfl)
theorem dX0_isShip_2 : decode cX0_isShip 2 = .ok (.lconst 0, 1) := dk_9 (dk_at dksX0_isShip_0 2 rfl rfl)
theorem dX0_isShip_3 : decode cX0_isShip 3 = .ok (.aload_n 0, 1) := dk_42 (dk_at dksX0_isShip_0 3 rfl rfl)
theorem dX0_isShip_4 : decode cX0_isShip 4 = .ok (.getfield 10, 3) := dk_180 0 10 (dk_at dksX0_isShip_0 4 rfl rfl)
theorem dX0_isShip_7 : decode cX0_isShip 7 = .ok (.getfield 84, 3) := dk_180 0 84 (dk_at dksX0_isShip_0 7 rfl rfl)
theorem dX0_isShip_10 : decode cX0_isShip 10 = .ok (.iconst 1, 1) := dk_4 (dk_at dksX0_isShip_0 10 rfl rfl)
theorem dX0_isShip_11 : decode cX0_isShip 11 = .ok (.isub, 1) := dk_100 (dk_at dksX0_isShip_0 11 rfl rfl)
theorem dX0_isShip_12 : decode cX0_isShip 12 = .ok (.i2l, 1) := dk_133 (dk_at dksX0_isShip_0 12 rfl rfl)
theorem dX0_isShip_13 : decode cX0_isShip 13 = .ok (.invokestatic 74, 3) := dk_184 0 74 (dk_at dksX0_isShip_0 13 rfl rfl)
theorem dX0_isShip_16 : decode cX0_isShip 16 = .ok (.ireturn, 1) := dk_172 (dk_at dksX0_isShip_0 16 rfl rfl)
abbrev cX0_type : ByteArray := prog_1_method_18_code
def yX0_type : MethodName := ⟨RX0, "type", "(I)I"⟩
def dkwX0_type_2 : List UInt8 := [4, 96, 181, 0, 125, 42, 180, 0, 125, 172]
abbrev dktX0_type_2 : List UInt8 := dkwX0_type_2 ++ []
def dkwX0_type_1 : List UInt8 := [160, 0, 8, 42, 182, 0, 106, 172, 42, 180, 0, 30, 42, 180, 0, 125, 27, 145, 84, 42, 89, 180, 0, 125]
abbrev dktX0_type_1 : List UInt8 := dkwX0_type_1 ++ dktX0_type_2
def dkwX0_type_0 : List UInt8 := [27, 133, 9, 20, 0, 123, 184, 0, 74, 154, 0, 8, 42, 182, 0, 102, 172, 42, 180, 0, 125, 17, 0, 150]
abbrev dktX0_type_0 : List UInt8 := dkwX0_type_0 ++ dktX0_type_1
theorem dksX0_type_0 : cX0_type.data.toList.drop 0 = dktX0_type_0 := by decide +kernel
theorem dksX0_type_1 : cX0_type.data.toList.drop 24 = dktX0_type_1 := dk_seg dksX0_type_0 24 rfl rfl
theorem dksX0_type_2 : cX0_type.data.toList.drop 48 = dktX0_type_2 := dk_seg dksX0_type_1 24 rfl rfl
theorem dX0_type_0 : decode cX0_type 0 = .ok (.iload_n 1, 1) := dk_27 (dk_at dksX0_type_0 0 rfl rfl)
theorem dX0_type_1 : decode cX0_type 1 = .ok (.i2l, 1) := dk_133 (dk_at dksX0_type_0 1 rfl rfl)
theorem dX0_type_2 : decode cX0_type 2 = .ok (.lconst 0, 1) := dk_9 (dk_at dksX0_type_0 2 rfl rfl)
theorem dX0_type_3 : decode cX0_type 3 = .ok (.ldc2_w 123, 3) := dk_20 0 123 (dk_at dksX0_type_0 3 rfl rfl)
theorem dX0_type_6 : decode cX0_type 6 = .ok (.invokestatic 74, 3) := dk_184 0 74 (dk_at dksX0_type_0 6 rfl rfl)
theorem dX0_type_9 : decode cX0_type 9 = .ok (.ifCond .ne 8, 3) := dk_154 0 8 (dk_at dksX0_type_0 9 rfl rfl)
theorem dX0_type_12 : decode cX0_type 12 = .ok (.aload_n 0, 1) := dk_42 (dk_at dksX0_type_0 12 rfl rfl)
theorem dX0_type_13 : decode cX0_type 13 = .ok (.invokevirtual 102, 3) := dk_182 0 102 (dk_at dksX0_type_0 13 rfl rfl)
theorem dX0_type_16 : decode cX0_type 16 = .ok (.ireturn, 1) := dk_172 (dk_at dksX0_type_0 16 rfl rfl)
theorem dX0_type_17 : decode cX0_type 17 = .ok (.aload_n 0, 1) := dk_42 (dk_at dksX0_type_0 17 rfl rfl)
theorem dX0_type_18 : decode cX0_type 18 = .ok (.getfield 125, 3) := dk_180 0 125 (dk_at dksX0_type_0 18 rfl rfl)
theorem dX0_type_21 : decode cX0_type 21 = .ok (.sipush 150, 3) := dk_17 0 150 (dk_at dksX0_type_0 21 rfl rfl)
theorem dX0_type_24 : decode cX0_type 24 = .ok (.if_icmp .ne 8, 3) := dk_160 0 8 (dk_at dksX0_type_1 0 rfl rfl)
theorem dX0_type_27 : decode cX0_type 27 = .ok (.aload_n 0, 1) := dk_42 (dk_at dksX0_type_1 3 rfl rfl)
theorem dX0_type_28 : decode cX0_type 28 = .ok (.invokevirtual 106, 3) := dk_182 0 106 (dk_at dksX0_type_1 4 rfl rfl)
theorem dX0_type_31 : decode cX0_type 31 = .ok (.ireturn, 1) := dk_172 (dk_at dksX0_type_1 7 rfl rfl)
theorem dX0_type_32 : decode cX0_type 32 = .ok (.aload_n 0, 1) := dk_42 (dk_at dksX0_type_1 8 rfl rfl)
theorem dX0_type_33 : decode cX0_type 33 = .ok (.getfield 30, 3) := dk_180 0 30 (dk_at dksX0_type_1 9 rfl rfl)
theorem dX0_type_36 : decode cX0_type 36 = .ok (.aload_n 0, 1) := dk_42 (dk_at dksX0_type_1 12 rfl rfl)
theorem dX0_type_37 : decode cX0_type 37 = .ok (.getfield 125, 3) := dk_180 0 125 (dk_at dksX0_type_1 13 rfl rfl)
theorem dX0_type_40 : decode cX0_type 40 = .ok (.iload_n 1, 1) := dk_27 (dk_at dksX0_type_1 16 rfl rfl)
theorem dX0_type_41 : decode cX0_type 41 = .ok (.i2b, 1) := dk_145 (dk_at dksX0_type_1 17 rfl rfl)
theorem dX0_type_42 : decode cX0_type 42 = .ok (.bastore, 1) := dk_84 (dk_at dksX0_type_1 18 rfl rfl)
theorem dX0_type_43 : decode cX0_type 43 = .ok (.aload_n 0, 1) := dk_42 (dk_at dksX0_type_1 19 rfl rfl)
theorem dX0_type_44 : decode cX0_type 44 = .ok (.dup, 1) := dk_89 (dk_at dksX0_type_1 20 rfl rfl)
theorem dX0_type_45 : decode cX0_type 45 = .ok (.getfield 125, 3) := dk_180 0 125 (dk_at dksX0_type_1 21 rfl rfl)
theorem dX0_type_48 : decode cX0_type 48 = .ok (.iconst 1, 1) := dk_4 (dk_at dksX0_type_2 0 rfl rfl)
theorem dX0_type_49 : decode cX0_type 49 = .ok (.iadd, 1) := dk_96 (dk_at dksX0_type_2 1 rfl rfl)
theorem dX0_type_50 : decode cX0_type 50 = .ok (.putfield 125, 3) := dk_181 0 125 (dk_at dksX0_type_2 2 rfl rfl)
theorem dX0_type_53 : decode cX0_type 53 = .ok (.aload_n 0, 1) := dk_42 (dk_at dksX0_type_2 5 rfl rfl)
theorem dX0_type_54 : decode cX0_type 54 = .ok (.getfield 125, 3) := dk_180 0 125 (dk_at dksX0_type_2 6 rfl rfl)
theorem dX0_type_57 : decode cX0_type 57 = .ok (.ireturn, 1) := dk_172 (dk_at dksX0_type_2 9 rfl rfl)
abbrev cX0_clear : ByteArray := prog_1_method_19_code
def yX0_clear : MethodName := ⟨RX0, "clear", "()I"⟩
def dkwX0_clear_0 : List UInt8 := [42, 180, 0, 125, 60, 42, 3, 181, 0, 125, 27, 172]
abbrev dktX0_clear_0 : List UInt8 := dkwX0_clear_0 ++ []
theorem dksX0_clear_0 : cX0_clear.data.toList.drop 0 = dktX0_clear_0 := by decide +kernel
theorem dX0_clear_0 : decode cX0_clear 0 = .ok (.aload_n 0, 1) := dk_42 (dk_at dksX0_clear_0 0 rfl rfl)
theorem dX0_clear_1 : decode cX0_clear 1 = .ok (.getfield 125, 3) := dk_180 0 125 (dk_at dksX0_clear_0 1 rfl rfl)
theorem dX0_clear_4 : decode cX0_clear 4 = .ok (.istore_n 1, 1) := dk_60 (dk_at dksX0_clear_0 4 rfl rfl)
theorem dX0_clear_5 : decode cX0_clear 5 = .ok (.aload_n 0, 1) := dk_42 (dk_at dksX0_clear_0 5 rfl rfl)
theorem dX0_clear_6 : decode cX0_clear 6 = .ok (.iconst 0, 1) := dk_3 (dk_at dksX0_clear_0 6 rfl rfl)
theorem dX0_clear_7 : decode cX0_clear 7 = .ok (.putfield 125, 3) := dk_181 0 125 (dk_at dksX0_clear_0 7 rfl rfl)
theorem dX0_clear_10 : decode cX0_clear 10 = .ok (.iload_n 1, 1) := dk_27 (dk_at dksX0_clear_0 10 rfl rfl)
theorem dX0_clear_11 : decode cX0_clear 11 = .ok (.ireturn, 1) := dk_172 (dk_at dksX0_clear_0 11 rfl rfl)
abbrev cX0_read : ByteArray := prog_1_method_20_code
def yX0_read : MethodName := ⟨RX0, "read", "()I"⟩
def dkwX0_read_1 : List UInt8 := [43, 180, 0, 137, 100, 172]
abbrev dktX0_read_1 : List UInt8 := dkwX0_read_1 ++ []
def dkwX0_read_0 : List UInt8 := [42, 180, 0, 47, 182, 0, 128, 60, 42, 180, 0, 10, 42, 180, 0, 16, 182, 0, 131, 27, 172, 76, 16, 246]
abbrev dktX0_read_0 : List UInt8 := dkwX0_read_0 ++ dktX0_read_1
theorem dksX0_read_0 : cX0_read.data.toList.drop 0 = dktX0_read_0 := by decide +kernel
theorem dksX0_read_1 : cX0_read.data.toList.drop 24 = dktX0_read_1 := dk_seg dksX0_read_0 24 rfl rfl
theorem dX0_read_0 : decode cX0_read 0 = .ok (.aload_n 0, 1) := dk_42 (dk_at dksX0_read_0 0 rfl rfl)
theorem dX0_read_1 : decode cX0_read 1 = .ok (.getfield 47, 3) := dk_180 0 47 (dk_at dksX0_read_0 1 rfl rfl)
theorem dX0_read_4 : decode cX0_read 4 = .ok (.invokevirtual 128, 3) := dk_182 0 128 (dk_at dksX0_read_0 4 rfl rfl)
theorem dX0_read_7 : decode cX0_read 7 = .ok (.istore_n 1, 1) := dk_60 (dk_at dksX0_read_0 7 rfl rfl)
theorem dX0_read_8 : decode cX0_read 8 = .ok (.aload_n 0, 1) := dk_42 (dk_at dksX0_read_0 8 rfl rfl)
theorem dX0_read_9 : decode cX0_read 9 = .ok (.getfield 10, 3) := dk_180 0 10 (dk_at dksX0_read_0 9 rfl rfl)
theorem dX0_read_12 : decode cX0_read 12 = .ok (.aload_n 0, 1) := dk_42 (dk_at dksX0_read_0 12 rfl rfl)
theorem dX0_read_13 : decode cX0_read 13 = .ok (.getfield 16, 3) := dk_180 0 16 (dk_at dksX0_read_0 13 rfl rfl)
theorem dX0_read_16 : decode cX0_read 16 = .ok (.invokevirtual 131, 3) := dk_182 0 131 (dk_at dksX0_read_0 16 rfl rfl)
theorem dX0_read_19 : decode cX0_read 19 = .ok (.iload_n 1, 1) := dk_27 (dk_at dksX0_read_0 19 rfl rfl)
theorem dX0_read_20 : decode cX0_read 20 = .ok (.ireturn, 1) := dk_172 (dk_at dksX0_read_0 20 rfl rfl)
theorem dX0_read_21 : decode cX0_read 21 = .ok (.astore_n 1, 1) := dk_76 (dk_at dksX0_read_0 21 rfl rfl)
theorem dX0_read_22 : decode cX0_read 22 = .ok (.bipush (-10), 2) := dk_16 246 (dk_at dksX0_read_0 22 rfl rfl)
theorem dX0_read_24 : decode cX0_read 24 = .ok (.aload_n 1, 1) := dk_43 (dk_at dksX0_read_1 0 rfl rfl)
theorem dX0_read_25 : decode cX0_read 25 = .ok (.getfield 137, 3) := dk_180 0 137 (dk_at dksX0_read_1 1 rfl rfl)
theorem dX0_read_28 : decode cX0_read 28 = .ok (.isub, 1) := dk_100 (dk_at dksX0_read_1 4 rfl rfl)
theorem dX0_read_29 : decode cX0_read 29 = .ok (.ireturn, 1) := dk_172 (dk_at dksX0_read_1 5 rfl rfl)
abbrev cX0_calls : ByteArray := prog_1_method_21_code
def yX0_calls : MethodName := ⟨RX0, "calls", "(I)I"⟩
def dkwX0_calls_2 : List UInt8 := [182, 0, 149, 172]
abbrev dktX0_calls_2 : List UInt8 := dkwX0_calls_2 ++ []
def dkwX0_calls_1 : List UInt8 := [182, 0, 143, 172, 42, 180, 0, 10, 182, 0, 146, 42, 180, 0, 10, 42, 180, 0, 10, 180, 0, 91, 27]
abbrev dktX0_calls_1 : List UInt8 := dkwX0_calls_1 ++ dktX0_calls_2
def dkwX0_calls_0 : List UInt8 := [42, 27, 182, 0, 116, 154, 0, 8, 42, 182, 0, 102, 172, 42, 27, 182, 0, 140, 154, 0, 8, 42]
abbrev dktX0_calls_0 : List UInt8 := dkwX0_calls_0 ++ dktX0_calls_1
theorem dksX0_calls_0 : cX0_calls.data.toList.drop 0 = dktX0_calls_0 := by decide +kernel
theorem dksX0_calls_1 : cX0_calls.data.toList.drop 22 = dktX0_calls_1 := dk_seg dksX0_calls_0 22 rfl rfl
theorem dksX0_calls_2 : cX0_calls.data.toList.drop 45 = dktX0_calls_2 := dk_seg dksX0_calls_1 23 rfl rfl
theorem dX0_calls_0 : decode cX0_calls 0 = .ok (.aload_n 0, 1) := dk_42 (dk_at dksX0_calls_0 0 rfl rfl)
theorem dX0_calls_1 : decode cX0_calls 1 = .ok (.iload_n 1, 1) := dk_27 (dk_at dksX0_calls_0 1 rfl rfl)
theorem dX0_calls_2 : decode cX0_calls 2 = .ok (.invokevirtual 116, 3) := dk_182 0 116 (dk_at dksX0_calls_0 2 rfl rfl)
theorem dX0_calls_5 : decode cX0_calls 5 = .ok (.ifCond .ne 8, 3) := dk_154 0 8 (dk_at dksX0_calls_0 5 rfl rfl)
theorem dX0_calls_8 : decode cX0_calls 8 = .ok (.aload_n 0, 1) := dk_42 (dk_at dksX0_calls_0 8 rfl rfl)
theorem dX0_calls_9 : decode cX0_calls 9 = .ok (.invokevirtual 102, 3) := dk_182 0 102 (dk_at dksX0_calls_0 9 rfl rfl)
theorem dX0_calls_12 : decode cX0_calls 12 = .ok (.ireturn, 1) := dk_172 (dk_at dksX0_calls_0 12 rfl rfl)
theorem dX0_calls_13 : decode cX0_calls 13 = .ok (.aload_n 0, 1) := dk_42 (dk_at dksX0_calls_0 13 rfl rfl)
theorem dX0_calls_14 : decode cX0_calls 14 = .ok (.iload_n 1, 1) := dk_27 (dk_at dksX0_calls_0 14 rfl rfl)
theorem dX0_calls_15 : decode cX0_calls 15 = .ok (.invokevirtual 140, 3) := dk_182 0 140 (dk_at dksX0_calls_0 15 rfl rfl)
theorem dX0_calls_18 : decode cX0_calls 18 = .ok (.ifCond .ne 8, 3) := dk_154 0 8 (dk_at dksX0_calls_0 18 rfl rfl)
theorem dX0_calls_21 : decode cX0_calls 21 = .ok (.aload_n 0, 1) := dk_42 (dk_at dksX0_calls_0 21 rfl rfl)
theorem dX0_calls_22 : decode cX0_calls 22 = .ok (.invokevirtual 143, 3) := dk_182 0 143 (dk_at dksX0_calls_1 0 rfl rfl)
theorem dX0_calls_25 : decode cX0_calls 25 = .ok (.ireturn, 1) := dk_172 (dk_at dksX0_calls_1 3 rfl rfl)
theorem dX0_calls_26 : decode cX0_calls 26 = .ok (.aload_n 0, 1) := dk_42 (dk_at dksX0_calls_1 4 rfl rfl)
theorem dX0_calls_27 : decode cX0_calls 27 = .ok (.getfield 10, 3) := dk_180 0 10 (dk_at dksX0_calls_1 5 rfl rfl)
theorem dX0_calls_30 : decode cX0_calls 30 = .ok (.invokevirtual 146, 3) := dk_182 0 146 (dk_at dksX0_calls_1 8 rfl rfl)
theorem dX0_calls_33 : decode cX0_calls 33 = .ok (.aload_n 0, 1) := dk_42 (dk_at dksX0_calls_1 11 rfl rfl)
theorem dX0_calls_34 : decode cX0_calls 34 = .ok (.getfield 10, 3) := dk_180 0 10 (dk_at dksX0_calls_1 12 rfl rfl)
theorem dX0_calls_37 : decode cX0_calls 37 = .ok (.aload_n 0, 1) := dk_42 (dk_at dksX0_calls_1 15 rfl rfl)
theorem dX0_calls_38 : decode cX0_calls 38 = .ok (.getfield 10, 3) := dk_180 0 10 (dk_at dksX0_calls_1 16 rfl rfl)
theorem dX0_calls_41 : decode cX0_calls 41 = .ok (.getfield 91, 3) := dk_180 0 91 (dk_at dksX0_calls_1 19 rfl rfl)
theorem dX0_calls_44 : decode cX0_calls 44 = .ok (.iload_n 1, 1) := dk_27 (dk_at dksX0_calls_1 22 rfl rfl)
theorem dX0_calls_45 : decode cX0_calls 45 = .ok (.invokevirtual 149, 3) := dk_182 0 149 (dk_at dksX0_calls_2 0 rfl rfl)
theorem dX0_calls_48 : decode cX0_calls 48 = .ok (.ireturn, 1) := dk_172 (dk_at dksX0_calls_2 3 rfl rfl)
abbrev cX0_isManned : ByteArray := prog_1_method_14_code
def yX0_isManned : MethodName := ⟨RX0, "isManned", "(I)Z"⟩
def dkwX0_isManned_0 : List UInt8 := [42, 180, 0, 10, 42, 180, 0, 10, 180, 0, 91, 27, 182, 0, 94, 153, 0, 7, 4, 167, 0, 4, 3, 172]
abbrev dktX0_isManned_0 : List UInt8 := dkwX0_isManned_0 ++ []
theorem dksX0_isManned_0 : cX0_isManned.data.toList.drop 0 = dktX0_isManned_0 := by decide +kernel
theorem dX0_isManned_0 : decode cX0_isManned 0 = .ok (.aload_n 0, 1) := dk_42 (dk_at dksX0_isManned_0 0 rfl rfl)
theorem dX0_isManned_1 : decode cX0_isManned 1 = .ok (.getfield 10, 3) := dk_180 0 10 (dk_at dksX0_isManned_0 1 rfl rfl)
theorem dX0_isManned_4 : decode cX0_isManned 4 = .ok (.aload_n 0, 1) := dk_42 (dk_at dksX0_isManned_0 4 rfl rfl)
theorem dX0_isManned_5 : decode cX0_isManned 5 = .ok (.getfield 10, 3) := dk_180 0 10 (dk_at dksX0_isManned_0 5 rfl rfl)
theorem dX0_isManned_8 : decode cX0_isManned 8 = .ok (.getfield 91, 3) := dk_180 0 91 (dk_at dksX0_isManned_0 8 rfl rfl)
theorem dX0_isManned_11 : decode cX0_isManned 11 = .ok (.iload_n 1, 1) := dk_27 (dk_at dksX0_isManned_0 11 rfl rfl)
theorem dX0_isManned_12 : decode cX0_isManned 12 = .ok (.invokevirtual 94, 3) := dk_182 0 94 (dk_at dksX0_isManned_0 12 rfl rfl)
theorem dX0_isManned_15 : decode cX0_isManned 15 = .ok (.ifCond .eq 7, 3) := dk_153 0 7 (dk_at dksX0_isManned_0 15 rfl rfl)
theorem dX0_isManned_18 : decode cX0_isManned 18 = .ok (.iconst 1, 1) := dk_4 (dk_at dksX0_isManned_0 18 rfl rfl)
theorem dX0_isManned_19 : decode cX0_isManned 19 = .ok (.goto 4, 3) := dk_167 0 4 (dk_at dksX0_isManned_0 19 rfl rfl)
theorem dX0_isManned_22 : decode cX0_isManned 22 = .ok (.iconst 0, 1) := dk_3 (dk_at dksX0_isManned_0 22 rfl rfl)
theorem dX0_isManned_23 : decode cX0_isManned 23 = .ok (.ireturn, 1) := dk_172 (dk_at dksX0_isManned_0 23 rfl rfl)
abbrev cX0_no : ByteArray := prog_1_method_5_code
def yX0_no : MethodName := ⟨RX0, "no", "()I"⟩
def dkwX0_no_0 : List UInt8 := [42, 4, 16, 253, 182, 0, 68, 172]
abbrev dktX0_no_0 : List UInt8 := dkwX0_no_0 ++ []
theorem dksX0_no_0 : cX0_no.data.toList.drop 0 = dktX0_no_0 := by decide +kernel
theorem dX0_no_0 : decode cX0_no 0 = .ok (.aload_n 0, 1) := dk_42 (dk_at dksX0_no_0 0 rfl rfl)
theorem dX0_no_1 : decode cX0_no 1 = .ok (.iconst 1, 1) := dk_4 (dk_at dksX0_no_0 1 rfl rfl)
theorem dX0_no_2 : decode cX0_no 2 = .ok (.bipush (-3), 2) := dk_16 253 (dk_at dksX0_no_0 2 rfl rfl)
theorem dX0_no_4 : decode cX0_no 4 = .ok (.invokevirtual 68, 3) := dk_182 0 68 (dk_at dksX0_no_0 4 rfl rfl)
theorem dX0_no_7 : decode cX0_no 7 = .ok (.ireturn, 1) := dk_172 (dk_at dksX0_no_0 7 rfl rfl)
abbrev cX0_boards : ByteArray := prog_1_method_22_code
def yX0_boards : MethodName := ⟨RX0, "boards", "(II)I"⟩
def dkwX0_boards_3 : List UInt8 := [180, 0, 91, 27, 182, 0, 94, 184, 0, 158, 172]
abbrev dktX0_boards_3 : List UInt8 := dkwX0_boards_3 ++ []
def dkwX0_boards_2 : List UInt8 := [182, 0, 146, 42, 180, 0, 10, 180, 0, 91, 180, 0, 155, 28, 27, 79, 42, 180, 0, 10, 42, 180, 0, 10]
abbrev dktX0_boards_2 : List UInt8 := dkwX0_boards_2 ++ dktX0_boards_3
def dkwX0_boards_1 : List UInt8 := [180, 0, 10, 180, 0, 91, 180, 0, 155, 28, 46, 2, 159, 0, 8, 42, 182, 0, 143, 172, 42, 180, 0, 10]
abbrev dktX0_boards_1 : List UInt8 := dkwX0_boards_1 ++ dktX0_boards_2
def dkwX0_boards_0 : List UInt8 := [42, 27, 182, 0, 116, 153, 0, 11, 42, 28, 182, 0, 152, 154, 0, 8, 42, 182, 0, 102, 172, 42]
abbrev dktX0_boards_0 : List UInt8 := dkwX0_boards_0 ++ dktX0_boards_1
theorem dksX0_boards_0 : cX0_boards.data.toList.drop 0 = dktX0_boards_0 := by decide +kernel
theorem dksX0_boards_1 : cX0_boards.data.toList.drop 22 = dktX0_boards_1 := dk_seg dksX0_boards_0 22 rfl rfl
theorem dksX0_boards_2 : cX0_boards.data.toList.drop 46 = dktX0_boards_2 := dk_seg dksX0_boards_1 24 rfl rfl
theorem dksX0_boards_3 : cX0_boards.data.toList.drop 70 = dktX0_boards_3 := dk_seg dksX0_boards_2 24 rfl rfl
theorem dX0_boards_0 : decode cX0_boards 0 = .ok (.aload_n 0, 1) := dk_42 (dk_at dksX0_boards_0 0 rfl rfl)
theorem dX0_boards_1 : decode cX0_boards 1 = .ok (.iload_n 1, 1) := dk_27 (dk_at dksX0_boards_0 1 rfl rfl)
theorem dX0_boards_2 : decode cX0_boards 2 = .ok (.invokevirtual 116, 3) := dk_182 0 116 (dk_at dksX0_boards_0 2 rfl rfl)
theorem dX0_boards_5 : decode cX0_boards 5 = .ok (.ifCond .eq 11, 3) := dk_153 0 11 (dk_at dksX0_boards_0 5 rfl rfl)
theorem dX0_boards_8 : decode cX0_boards 8 = .ok (.aload_n 0, 1) := dk_42 (dk_at dksX0_boards_0 8 rfl rfl)
theorem dX0_boards_9 : decode cX0_boards 9 = .ok (.iload_n 2, 1) := dk_28 (dk_at dksX0_boards_0 9 rfl rfl)
theorem dX0_boards_10 : decode cX0_boards 10 = .ok (.invokevirtual 152, 3) := dk_182 0 152 (dk_at dksX0_boards_0 10 rfl rfl)
theorem dX0_boards_13 : decode cX0_boards 13 = .ok (.ifCond .ne 8, 3) := dk_154 0 8 (dk_at dksX0_boards_0 13 rfl rfl)
theorem dX0_boards_16 : decode cX0_boards 16 = .ok (.aload_n 0, 1) := dk_42 (dk_at dksX0_boards_0 16 rfl rfl)
theorem dX0_boards_17 : decode cX0_boards 17 = .ok (.invokevirtual 102, 3) := dk_182 0 102 (dk_at dksX0_boards_0 17 rfl rfl)
theorem dX0_boards_20 : decode cX0_boards 20 = .ok (.ireturn, 1) := dk_172 (dk_at dksX0_boards_0 20 rfl rfl)
theorem dX0_boards_21 : decode cX0_boards 21 = .ok (.aload_n 0, 1) := dk_42 (dk_at dksX0_boards_0 21 rfl rfl)
theorem dX0_boards_22 : decode cX0_boards 22 = .ok (.getfield 10, 3) := dk_180 0 10 (dk_at dksX0_boards_1 0 rfl rfl)
theorem dX0_boards_25 : decode cX0_boards 25 = .ok (.getfield 91, 3) := dk_180 0 91 (dk_at dksX0_boards_1 3 rfl rfl)
theorem dX0_boards_28 : decode cX0_boards 28 = .ok (.getfield 155, 3) := dk_180 0 155 (dk_at dksX0_boards_1 6 rfl rfl)
theorem dX0_boards_31 : decode cX0_boards 31 = .ok (.iload_n 2, 1) := dk_28 (dk_at dksX0_boards_1 9 rfl rfl)
theorem dX0_boards_32 : decode cX0_boards 32 = .ok (.iaload, 1) := dk_46 (dk_at dksX0_boards_1 10 rfl rfl)
theorem dX0_boards_33 : decode cX0_boards 33 = .ok (.iconst (-1), 1) := dk_2 (dk_at dksX0_boards_1 11 rfl rfl)
theorem dX0_boards_34 : decode cX0_boards 34 = .ok (.if_icmp .eq 8, 3) := dk_159 0 8 (dk_at dksX0_boards_1 12 rfl rfl)
theorem dX0_boards_37 : decode cX0_boards 37 = .ok (.aload_n 0, 1) := dk_42 (dk_at dksX0_boards_1 15 rfl rfl)
theorem dX0_boards_38 : decode cX0_boards 38 = .ok (.invokevirtual 143, 3) := dk_182 0 143 (dk_at dksX0_boards_1 16 rfl rfl)
theorem dX0_boards_41 : decode cX0_boards 41 = .ok (.ireturn, 1) := dk_172 (dk_at dksX0_boards_1 19 rfl rfl)
theorem dX0_boards_42 : decode cX0_boards 42 = .ok (.aload_n 0, 1) := dk_42 (dk_at dksX0_boards_1 20 rfl rfl)
theorem dX0_boards_43 : decode cX0_boards 43 = .ok (.getfield 10, 3) := dk_180 0 10 (dk_at dksX0_boards_1 21 rfl rfl)
theorem dX0_boards_46 : decode cX0_boards 46 = .ok (.invokevirtual 146, 3) := dk_182 0 146 (dk_at dksX0_boards_2 0 rfl rfl)
theorem dX0_boards_49 : decode cX0_boards 49 = .ok (.aload_n 0, 1) := dk_42 (dk_at dksX0_boards_2 3 rfl rfl)
theorem dX0_boards_50 : decode cX0_boards 50 = .ok (.getfield 10, 3) := dk_180 0 10 (dk_at dksX0_boards_2 4 rfl rfl)
theorem dX0_boards_53 : decode cX0_boards 53 = .ok (.getfield 91, 3) := dk_180 0 91 (dk_at dksX0_boards_2 7 rfl rfl)
theorem dX0_boards_56 : decode cX0_boards 56 = .ok (.getfield 155, 3) := dk_180 0 155 (dk_at dksX0_boards_2 10 rfl rfl)
theorem dX0_boards_59 : decode cX0_boards 59 = .ok (.iload_n 2, 1) := dk_28 (dk_at dksX0_boards_2 13 rfl rfl)
theorem dX0_boards_60 : decode cX0_boards 60 = .ok (.iload_n 1, 1) := dk_27 (dk_at dksX0_boards_2 14 rfl rfl)
theorem dX0_boards_61 : decode cX0_boards 61 = .ok (.iastore, 1) := dk_79 (dk_at dksX0_boards_2 15 rfl rfl)
theorem dX0_boards_62 : decode cX0_boards 62 = .ok (.aload_n 0, 1) := dk_42 (dk_at dksX0_boards_2 16 rfl rfl)
theorem dX0_boards_63 : decode cX0_boards 63 = .ok (.getfield 10, 3) := dk_180 0 10 (dk_at dksX0_boards_2 17 rfl rfl)
theorem dX0_boards_66 : decode cX0_boards 66 = .ok (.aload_n 0, 1) := dk_42 (dk_at dksX0_boards_2 20 rfl rfl)
theorem dX0_boards_67 : decode cX0_boards 67 = .ok (.getfield 10, 3) := dk_180 0 10 (dk_at dksX0_boards_2 21 rfl rfl)
theorem dX0_boards_70 : decode cX0_boards 70 = .ok (.getfield 91, 3) := dk_180 0 91 (dk_at dksX0_boards_3 0 rfl rfl)
theorem dX0_boards_73 : decode cX0_boards 73 = .ok (.iload_n 1, 1) := dk_27 (dk_at dksX0_boards_3 3 rfl rfl)
theorem dX0_boards_74 : decode cX0_boards 74 = .ok (.invokevirtual 94, 3) := dk_182 0 94 (dk_at dksX0_boards_3 4 rfl rfl)
theorem dX0_boards_77 : decode cX0_boards 77 = .ok (.invokestatic 158, 3) := dk_184 0 158 (dk_at dksX0_boards_3 7 rfl rfl)
theorem dX0_boards_80 : decode cX0_boards 80 = .ok (.ireturn, 1) := dk_172 (dk_at dksX0_boards_3 10 rfl rfl)
abbrev cX0_isMan : ByteArray := prog_1_method_13_code
def yX0_isMan : MethodName := ⟨RX0, "isMan", "(I)Z"⟩
def dkwX0_isMan_0 : List UInt8 := [27, 133, 9, 42, 180, 0, 10, 180, 0, 88, 4, 100, 133, 184, 0, 74, 172]
abbrev dktX0_isMan_0 : List UInt8 := dkwX0_isMan_0 ++ []
theorem dksX0_isMan_0 : cX0_isMan.data.toList.drop 0 = dktX0_isMan_0 := by decide +kernel
theorem dX0_isMan_0 : decode cX0_isMan 0 = .ok (.iload_n 1, 1) := dk_27 (dk_at dksX0_isMan_0 0 rfl rfl)
theorem dX0_isMan_1 : decode cX0_isMan 1 = .ok (.i2l, 1) := dk_133 (dk_at dksX0_isMan_0 1 rfl rfl)
theorem dX0_isMan_2 : decode cX0_isMan 2 = .ok (.lconst 0, 1) := dk_9 (dk_at dksX0_isMan_0 2 rfl rfl)
theorem dX0_isMan_3 : decode cX0_isMan 3 = .ok (.aload_n 0, 1) := dk_42 (dk_at dksX0_isMan_0 3 rfl rfl)
theorem dX0_isMan_4 : decode cX0_isMan 4 = .ok (.getfield 10, 3) := dk_180 0 10 (dk_at dksX0_isMan_0 4 rfl rfl)
theorem dX0_isMan_7 : decode cX0_isMan 7 = .ok (.getfield 88, 3) := dk_180 0 88 (dk_at dksX0_isMan_0 7 rfl rfl)
theorem dX0_isMan_10 : decode cX0_isMan 10 = .ok (.iconst 1, 1) := dk_4 (dk_at dksX0_isMan_0 10 rfl rfl)
theorem dX0_isMan_11 : decode cX0_isMan 11 = .ok (.isub, 1) := dk_100 (dk_at dksX0_isMan_0 11 rfl rfl)
theorem dX0_isMan_12 : decode cX0_isMan 12 = .ok (.i2l, 1) := dk_133 (dk_at dksX0_isMan_0 12 rfl rfl)
theorem dX0_isMan_13 : decode cX0_isMan 13 = .ok (.invokestatic 74, 3) := dk_184 0 74 (dk_at dksX0_isMan_0 13 rfl rfl)
theorem dX0_isMan_16 : decode cX0_isMan 16 = .ok (.ireturn, 1) := dk_172 (dk_at dksX0_isMan_0 16 rfl rfl)
abbrev cX0_undo : ByteArray := prog_1_method_24_code
def yX0_undo : MethodName := ⟨RX0, "undo", "()I"⟩
def dkwX0_undo_2 : List UInt8 := [180, 0, 164, 50, 182, 0, 171, 42, 182, 0, 174, 184, 0, 158, 172]
abbrev dktX0_undo_2 : List UInt8 := dkwX0_undo_2 ++ []
def dkwX0_undo_1 : List UInt8 := [100, 181, 0, 164, 42, 180, 0, 10, 180, 0, 91, 42, 180, 0, 10, 180, 0, 167, 42, 180, 0, 10]
abbrev dktX0_undo_1 : List UInt8 := dkwX0_undo_1 ++ dktX0_undo_2
def dkwX0_undo_0 : List UInt8 := [42, 180, 0, 10, 180, 0, 164, 154, 0, 8, 42, 182, 0, 143, 172, 42, 180, 0, 10, 89, 180, 0, 164, 4]
abbrev dktX0_undo_0 : List UInt8 := dkwX0_undo_0 ++ dktX0_undo_1
theorem dksX0_undo_0 : cX0_undo.data.toList.drop 0 = dktX0_undo_0 := by decide +kernel
theorem dksX0_undo_1 : cX0_undo.data.toList.drop 24 = dktX0_undo_1 := dk_seg dksX0_undo_0 24 rfl rfl
theorem dksX0_undo_2 : cX0_undo.data.toList.drop 46 = dktX0_undo_2 := dk_seg dksX0_undo_1 22 rfl rfl
theorem dX0_undo_0 : decode cX0_undo 0 = .ok (.aload_n 0, 1) := dk_42 (dk_at dksX0_undo_0 0 rfl rfl)
theorem dX0_undo_1 : decode cX0_undo 1 = .ok (.getfield 10, 3) := dk_180 0 10 (dk_at dksX0_undo_0 1 rfl rfl)
theorem dX0_undo_4 : decode cX0_undo 4 = .ok (.getfield 164, 3) := dk_180 0 164 (dk_at dksX0_undo_0 4 rfl rfl)
theorem dX0_undo_7 : decode cX0_undo 7 = .ok (.ifCond .ne 8, 3) := dk_154 0 8 (dk_at dksX0_undo_0 7 rfl rfl)
theorem dX0_undo_10 : decode cX0_undo 10 = .ok (.aload_n 0, 1) := dk_42 (dk_at dksX0_undo_0 10 rfl rfl)
theorem dX0_undo_11 : decode cX0_undo 11 = .ok (.invokevirtual 143, 3) := dk_182 0 143 (dk_at dksX0_undo_0 11 rfl rfl)
theorem dX0_undo_14 : decode cX0_undo 14 = .ok (.ireturn, 1) := dk_172 (dk_at dksX0_undo_0 14 rfl rfl)
theorem dX0_undo_15 : decode cX0_undo 15 = .ok (.aload_n 0, 1) := dk_42 (dk_at dksX0_undo_0 15 rfl rfl)
theorem dX0_undo_16 : decode cX0_undo 16 = .ok (.getfield 10, 3) := dk_180 0 10 (dk_at dksX0_undo_0 16 rfl rfl)
theorem dX0_undo_19 : decode cX0_undo 19 = .ok (.dup, 1) := dk_89 (dk_at dksX0_undo_0 19 rfl rfl)
theorem dX0_undo_20 : decode cX0_undo 20 = .ok (.getfield 164, 3) := dk_180 0 164 (dk_at dksX0_undo_0 20 rfl rfl)
theorem dX0_undo_23 : decode cX0_undo 23 = .ok (.iconst 1, 1) := dk_4 (dk_at dksX0_undo_0 23 rfl rfl)
theorem dX0_undo_24 : decode cX0_undo 24 = .ok (.isub, 1) := dk_100 (dk_at dksX0_undo_1 0 rfl rfl)
theorem dX0_undo_25 : decode cX0_undo 25 = .ok (.putfield 164, 3) := dk_181 0 164 (dk_at dksX0_undo_1 1 rfl rfl)
theorem dX0_undo_28 : decode cX0_undo 28 = .ok (.aload_n 0, 1) := dk_42 (dk_at dksX0_undo_1 4 rfl rfl)
theorem dX0_undo_29 : decode cX0_undo 29 = .ok (.getfield 10, 3) := dk_180 0 10 (dk_at dksX0_undo_1 5 rfl rfl)
theorem dX0_undo_32 : decode cX0_undo 32 = .ok (.getfield 91, 3) := dk_180 0 91 (dk_at dksX0_undo_1 8 rfl rfl)
theorem dX0_undo_35 : decode cX0_undo 35 = .ok (.aload_n 0, 1) := dk_42 (dk_at dksX0_undo_1 11 rfl rfl)
theorem dX0_undo_36 : decode cX0_undo 36 = .ok (.getfield 10, 3) := dk_180 0 10 (dk_at dksX0_undo_1 12 rfl rfl)
theorem dX0_undo_39 : decode cX0_undo 39 = .ok (.getfield 167, 3) := dk_180 0 167 (dk_at dksX0_undo_1 15 rfl rfl)
theorem dX0_undo_42 : decode cX0_undo 42 = .ok (.aload_n 0, 1) := dk_42 (dk_at dksX0_undo_1 18 rfl rfl)
theorem dX0_undo_43 : decode cX0_undo 43 = .ok (.getfield 10, 3) := dk_180 0 10 (dk_at dksX0_undo_1 19 rfl rfl)
theorem dX0_undo_46 : decode cX0_undo 46 = .ok (.getfield 164, 3) := dk_180 0 164 (dk_at dksX0_undo_2 0 rfl rfl)
theorem dX0_undo_49 : decode cX0_undo 49 = .ok (.aaload, 1) := dk_50 (dk_at dksX0_undo_2 3 rfl rfl)
theorem dX0_undo_50 : decode cX0_undo 50 = .ok (.invokevirtual 171, 3) := dk_182 0 171 (dk_at dksX0_undo_2 4 rfl rfl)
theorem dX0_undo_53 : decode cX0_undo 53 = .ok (.aload_n 0, 1) := dk_42 (dk_at dksX0_undo_2 7 rfl rfl)
theorem dX0_undo_54 : decode cX0_undo 54 = .ok (.invokevirtual 174, 3) := dk_182 0 174 (dk_at dksX0_undo_2 8 rfl rfl)
theorem dX0_undo_57 : decode cX0_undo 57 = .ok (.invokestatic 158, 3) := dk_184 0 158 (dk_at dksX0_undo_2 11 rfl rfl)
theorem dX0_undo_60 : decode cX0_undo 60 = .ok (.ireturn, 1) := dk_172 (dk_at dksX0_undo_2 14 rfl rfl)
abbrev cX0_ashore : ByteArray := prog_1_method_23_code
def yX0_ashore : MethodName := ⟨RX0, "ashore", "()I"⟩
def dkwX0_ashore_0 : List UInt8 := [42, 180, 0, 10, 42, 180, 0, 10, 180, 0, 91, 2, 182, 0, 94, 172]
abbrev dktX0_ashore_0 : List UInt8 := dkwX0_ashore_0 ++ []
theorem dksX0_ashore_0 : cX0_ashore.data.toList.drop 0 = dktX0_ashore_0 := by decide +kernel
theorem dX0_ashore_0 : decode cX0_ashore 0 = .ok (.aload_n 0, 1) := dk_42 (dk_at dksX0_ashore_0 0 rfl rfl)
theorem dX0_ashore_1 : decode cX0_ashore 1 = .ok (.getfield 10, 3) := dk_180 0 10 (dk_at dksX0_ashore_0 1 rfl rfl)
theorem dX0_ashore_4 : decode cX0_ashore 4 = .ok (.aload_n 0, 1) := dk_42 (dk_at dksX0_ashore_0 4 rfl rfl)
theorem dX0_ashore_5 : decode cX0_ashore 5 = .ok (.getfield 10, 3) := dk_180 0 10 (dk_at dksX0_ashore_0 5 rfl rfl)
theorem dX0_ashore_8 : decode cX0_ashore 8 = .ok (.getfield 91, 3) := dk_180 0 91 (dk_at dksX0_ashore_0 8 rfl rfl)
theorem dX0_ashore_11 : decode cX0_ashore 11 = .ok (.iconst (-1), 1) := dk_2 (dk_at dksX0_ashore_0 11 rfl rfl)
theorem dX0_ashore_12 : decode cX0_ashore 12 = .ok (.invokevirtual 94, 3) := dk_182 0 94 (dk_at dksX0_ashore_0 12 rfl rfl)
theorem dX0_ashore_15 : decode cX0_ashore 15 = .ok (.ireturn, 1) := dk_172 (dk_at dksX0_ashore_0 15 rfl rfl)
abbrev cX0_of : ByteArray := prog_1_method_26_code
def yX0_of : MethodName := ⟨RX0, "of", "(II)I"⟩
def dkwX0_of_3 : List UInt8 := [180, 0, 10, 180, 0, 91, 180, 0, 155, 27, 46, 172, 42, 27, 182, 0, 194, 172, 42, 182, 0, 102, 172]
abbrev dktX0_of_3 : List UInt8 := dkwX0_of_3 ++ []
def dkwX0_of_2 : List UInt8 := [42, 180, 0, 10, 180, 0, 177, 27, 50, 182, 0, 191, 172, 42, 180, 0, 10, 180, 0, 181, 27, 46, 172, 42]
abbrev dktX0_of_2 : List UInt8 := dkwX0_of_2 ++ dktX0_of_3
def dkwX0_of_1 : List UInt8 := [170, 0, 0, 0, 0, 72, 0, 0, 0, 0, 0, 0, 0, 3, 0, 0, 0, 30, 0, 0, 0, 43, 0, 0, 0, 53, 0, 0, 0, 66]
abbrev dktX0_of_1 : List UInt8 := dkwX0_of_1 ++ dktX0_of_2
def dkwX0_of_0 : List UInt8 := [42, 27, 182, 0, 152, 154, 0, 8, 42, 182, 0, 102, 172, 28]
abbrev dktX0_of_0 : List UInt8 := dkwX0_of_0 ++ dktX0_of_1
theorem dksX0_of_0 : cX0_of.data.toList.drop 0 = dktX0_of_0 := by decide +kernel
theorem dksX0_of_1 : cX0_of.data.toList.drop 14 = dktX0_of_1 := dk_seg dksX0_of_0 14 rfl rfl
theorem dksX0_of_2 : cX0_of.data.toList.drop 44 = dktX0_of_2 := dk_seg dksX0_of_1 30 rfl rfl
theorem dksX0_of_3 : cX0_of.data.toList.drop 68 = dktX0_of_3 := dk_seg dksX0_of_2 24 rfl rfl
theorem dX0_of_0 : decode cX0_of 0 = .ok (.aload_n 0, 1) := dk_42 (dk_at dksX0_of_0 0 rfl rfl)
theorem dX0_of_1 : decode cX0_of 1 = .ok (.iload_n 1, 1) := dk_27 (dk_at dksX0_of_0 1 rfl rfl)
theorem dX0_of_2 : decode cX0_of 2 = .ok (.invokevirtual 152, 3) := dk_182 0 152 (dk_at dksX0_of_0 2 rfl rfl)
theorem dX0_of_5 : decode cX0_of 5 = .ok (.ifCond .ne 8, 3) := dk_154 0 8 (dk_at dksX0_of_0 5 rfl rfl)
theorem dX0_of_8 : decode cX0_of 8 = .ok (.aload_n 0, 1) := dk_42 (dk_at dksX0_of_0 8 rfl rfl)
theorem dX0_of_9 : decode cX0_of 9 = .ok (.invokevirtual 102, 3) := dk_182 0 102 (dk_at dksX0_of_0 9 rfl rfl)
theorem dX0_of_12 : decode cX0_of 12 = .ok (.ireturn, 1) := dk_172 (dk_at dksX0_of_0 12 rfl rfl)
theorem dX0_of_13 : decode cX0_of 13 = .ok (.iload_n 2, 1) := dk_28 (dk_at dksX0_of_0 13 rfl rfl)
theorem dX0_of_14 : decode cX0_of 14 = .ok (.tableswitch 72 0 3 #[30, 43, 53, 66], 30) := by decide +kernel
theorem dX0_of_44 : decode cX0_of 44 = .ok (.aload_n 0, 1) := dk_42 (dk_at dksX0_of_2 0 rfl rfl)
theorem dX0_of_45 : decode cX0_of 45 = .ok (.getfield 10, 3) := dk_180 0 10 (dk_at dksX0_of_2 1 rfl rfl)
theorem dX0_of_48 : decode cX0_of 48 = .ok (.getfield 177, 3) := dk_180 0 177 (dk_at dksX0_of_2 4 rfl rfl)
theorem dX0_of_51 : decode cX0_of 51 = .ok (.iload_n 1, 1) := dk_27 (dk_at dksX0_of_2 7 rfl rfl)
theorem dX0_of_52 : decode cX0_of 52 = .ok (.aaload, 1) := dk_50 (dk_at dksX0_of_2 8 rfl rfl)
theorem dX0_of_53 : decode cX0_of 53 = .ok (.invokevirtual 191, 3) := dk_182 0 191 (dk_at dksX0_of_2 9 rfl rfl)
theorem dX0_of_56 : decode cX0_of 56 = .ok (.ireturn, 1) := dk_172 (dk_at dksX0_of_2 12 rfl rfl)
theorem dX0_of_57 : decode cX0_of 57 = .ok (.aload_n 0, 1) := dk_42 (dk_at dksX0_of_2 13 rfl rfl)
theorem dX0_of_58 : decode cX0_of 58 = .ok (.getfield 10, 3) := dk_180 0 10 (dk_at dksX0_of_2 14 rfl rfl)
theorem dX0_of_61 : decode cX0_of 61 = .ok (.getfield 181, 3) := dk_180 0 181 (dk_at dksX0_of_2 17 rfl rfl)
theorem dX0_of_64 : decode cX0_of 64 = .ok (.iload_n 1, 1) := dk_27 (dk_at dksX0_of_2 20 rfl rfl)
theorem dX0_of_65 : decode cX0_of 65 = .ok (.iaload, 1) := dk_46 (dk_at dksX0_of_2 21 rfl rfl)
theorem dX0_of_66 : decode cX0_of 66 = .ok (.ireturn, 1) := dk_172 (dk_at dksX0_of_2 22 rfl rfl)
theorem dX0_of_67 : decode cX0_of 67 = .ok (.aload_n 0, 1) := dk_42 (dk_at dksX0_of_2 23 rfl rfl)
theorem dX0_of_68 : decode cX0_of 68 = .ok (.getfield 10, 3) := dk_180 0 10 (dk_at dksX0_of_3 0 rfl rfl)
theorem dX0_of_71 : decode cX0_of 71 = .ok (.getfield 91, 3) := dk_180 0 91 (dk_at dksX0_of_3 3 rfl rfl)
theorem dX0_of_74 : decode cX0_of 74 = .ok (.getfield 155, 3) := dk_180 0 155 (dk_at dksX0_of_3 6 rfl rfl)
theorem dX0_of_77 : decode cX0_of 77 = .ok (.iload_n 1, 1) := dk_27 (dk_at dksX0_of_3 9 rfl rfl)
theorem dX0_of_78 : decode cX0_of 78 = .ok (.iaload, 1) := dk_46 (dk_at dksX0_of_3 10 rfl rfl)
theorem dX0_of_79 : decode cX0_of 79 = .ok (.ireturn, 1) := dk_172 (dk_at dksX0_of_3 11 rfl rfl)
theorem dX0_of_80 : decode cX0_of 80 = .ok (.aload_n 0, 1) := dk_42 (dk_at dksX0_of_3 12 rfl rfl)
theorem dX0_of_81 : decode cX0_of 81 = .ok (.iload_n 1, 1) := dk_27 (dk_at dksX0_of_3 13 rfl rfl)
theorem dX0_of_82 : decode cX0_of 82 = .ok (.invokevirtual 194, 3) := dk_182 0 194 (dk_at dksX0_of_3 14 rfl rfl)
theorem dX0_of_85 : decode cX0_of 85 = .ok (.ireturn, 1) := dk_172 (dk_at dksX0_of_3 17 rfl rfl)
theorem dX0_of_86 : decode cX0_of 86 = .ok (.aload_n 0, 1) := dk_42 (dk_at dksX0_of_3 18 rfl rfl)
theorem dX0_of_87 : decode cX0_of 87 = .ok (.invokevirtual 102, 3) := dk_182 0 102 (dk_at dksX0_of_3 19 rfl rfl)
theorem dX0_of_90 : decode cX0_of 90 = .ok (.ireturn, 1) := dk_172 (dk_at dksX0_of_3 22 rfl rfl)
abbrev cX0_likedNow : ByteArray := prog_1_method_25_code
def yX0_likedNow : MethodName := ⟨RX0, "likedNow", "(I)I"⟩
def dkwX0_likedNow_2 : List UInt8 := [180, 0, 184, 28, 46, 182, 0, 186, 172]
abbrev dktX0_likedNow_2 : List UInt8 := dkwX0_likedNow_2 ++ []
def dkwX0_likedNow_1 : List UInt8 := [180, 0, 10, 180, 0, 177, 27, 50, 42, 180, 0, 10, 180, 0, 181, 27, 46, 42, 180, 0, 10, 180, 0, 91]
abbrev dktX0_likedNow_1 : List UInt8 := dkwX0_likedNow_1 ++ dktX0_likedNow_2
def dkwX0_likedNow_0 : List UInt8 := [42, 180, 0, 10, 180, 0, 91, 180, 0, 155, 27, 46, 61, 28, 2, 160, 0, 7, 2, 167, 0, 36, 42]
abbrev dktX0_likedNow_0 : List UInt8 := dkwX0_likedNow_0 ++ dktX0_likedNow_1
theorem dksX0_likedNow_0 : cX0_likedNow.data.toList.drop 0 = dktX0_likedNow_0 := by decide +kernel
theorem dksX0_likedNow_1 : cX0_likedNow.data.toList.drop 23 = dktX0_likedNow_1 := dk_seg dksX0_likedNow_0 23 rfl rfl
theorem dksX0_likedNow_2 : cX0_likedNow.data.toList.drop 47 = dktX0_likedNow_2 := dk_seg dksX0_likedNow_1 24 rfl rfl
theorem dX0_likedNow_0 : decode cX0_likedNow 0 = .ok (.aload_n 0, 1) := dk_42 (dk_at dksX0_likedNow_0 0 rfl rfl)
theorem dX0_likedNow_1 : decode cX0_likedNow 1 = .ok (.getfield 10, 3) := dk_180 0 10 (dk_at dksX0_likedNow_0 1 rfl rfl)
theorem dX0_likedNow_4 : decode cX0_likedNow 4 = .ok (.getfield 91, 3) := dk_180 0 91 (dk_at dksX0_likedNow_0 4 rfl rfl)
theorem dX0_likedNow_7 : decode cX0_likedNow 7 = .ok (.getfield 155, 3) := dk_180 0 155 (dk_at dksX0_likedNow_0 7 rfl rfl)
theorem dX0_likedNow_10 : decode cX0_likedNow 10 = .ok (.iload_n 1, 1) := dk_27 (dk_at dksX0_likedNow_0 10 rfl rfl)
theorem dX0_likedNow_11 : decode cX0_likedNow 11 = .ok (.iaload, 1) := dk_46 (dk_at dksX0_likedNow_0 11 rfl rfl)
theorem dX0_likedNow_12 : decode cX0_likedNow 12 = .ok (.istore_n 2, 1) := dk_61 (dk_at dksX0_likedNow_0 12 rfl rfl)
theorem dX0_likedNow_13 : decode cX0_likedNow 13 = .ok (.iload_n 2, 1) := dk_28 (dk_at dksX0_likedNow_0 13 rfl rfl)
theorem dX0_likedNow_14 : decode cX0_likedNow 14 = .ok (.iconst (-1), 1) := dk_2 (dk_at dksX0_likedNow_0 14 rfl rfl)
theorem dX0_likedNow_15 : decode cX0_likedNow 15 = .ok (.if_icmp .ne 7, 3) := dk_160 0 7 (dk_at dksX0_likedNow_0 15 rfl rfl)
theorem dX0_likedNow_18 : decode cX0_likedNow 18 = .ok (.iconst (-1), 1) := dk_2 (dk_at dksX0_likedNow_0 18 rfl rfl)
theorem dX0_likedNow_19 : decode cX0_likedNow 19 = .ok (.goto 36, 3) := dk_167 0 36 (dk_at dksX0_likedNow_0 19 rfl rfl)
theorem dX0_likedNow_22 : decode cX0_likedNow 22 = .ok (.aload_n 0, 1) := dk_42 (dk_at dksX0_likedNow_0 22 rfl rfl)
theorem dX0_likedNow_23 : decode cX0_likedNow 23 = .ok (.getfield 10, 3) := dk_180 0 10 (dk_at dksX0_likedNow_1 0 rfl rfl)
theorem dX0_likedNow_26 : decode cX0_likedNow 26 = .ok (.getfield 177, 3) := dk_180 0 177 (dk_at dksX0_likedNow_1 3 rfl rfl)
theorem dX0_likedNow_29 : decode cX0_likedNow 29 = .ok (.iload_n 1, 1) := dk_27 (dk_at dksX0_likedNow_1 6 rfl rfl)
theorem dX0_likedNow_30 : decode cX0_likedNow 30 = .ok (.aaload, 1) := dk_50 (dk_at dksX0_likedNow_1 7 rfl rfl)
theorem dX0_likedNow_31 : decode cX0_likedNow 31 = .ok (.aload_n 0, 1) := dk_42 (dk_at dksX0_likedNow_1 8 rfl rfl)
theorem dX0_likedNow_32 : decode cX0_likedNow 32 = .ok (.getfield 10, 3) := dk_180 0 10 (dk_at dksX0_likedNow_1 9 rfl rfl)
theorem dX0_likedNow_35 : decode cX0_likedNow 35 = .ok (.getfield 181, 3) := dk_180 0 181 (dk_at dksX0_likedNow_1 12 rfl rfl)
theorem dX0_likedNow_38 : decode cX0_likedNow 38 = .ok (.iload_n 1, 1) := dk_27 (dk_at dksX0_likedNow_1 15 rfl rfl)
theorem dX0_likedNow_39 : decode cX0_likedNow 39 = .ok (.iaload, 1) := dk_46 (dk_at dksX0_likedNow_1 16 rfl rfl)
theorem dX0_likedNow_40 : decode cX0_likedNow 40 = .ok (.aload_n 0, 1) := dk_42 (dk_at dksX0_likedNow_1 17 rfl rfl)
theorem dX0_likedNow_41 : decode cX0_likedNow 41 = .ok (.getfield 10, 3) := dk_180 0 10 (dk_at dksX0_likedNow_1 18 rfl rfl)
theorem dX0_likedNow_44 : decode cX0_likedNow 44 = .ok (.getfield 91, 3) := dk_180 0 91 (dk_at dksX0_likedNow_1 21 rfl rfl)
theorem dX0_likedNow_47 : decode cX0_likedNow 47 = .ok (.getfield 184, 3) := dk_180 0 184 (dk_at dksX0_likedNow_2 0 rfl rfl)
theorem dX0_likedNow_50 : decode cX0_likedNow 50 = .ok (.iload_n 2, 1) := dk_28 (dk_at dksX0_likedNow_2 3 rfl rfl)
theorem dX0_likedNow_51 : decode cX0_likedNow 51 = .ok (.iaload, 1) := dk_46 (dk_at dksX0_likedNow_2 4 rfl rfl)
theorem dX0_likedNow_52 : decode cX0_likedNow 52 = .ok (.invokevirtual 186, 3) := dk_182 0 186 (dk_at dksX0_likedNow_2 5 rfl rfl)
theorem dX0_likedNow_55 : decode cX0_likedNow 55 = .ok (.ireturn, 1) := dk_172 (dk_at dksX0_likedNow_2 8 rfl rfl)
abbrev cX0_about : ByteArray := prog_1_method_27_code
def yX0_about : MethodName := ⟨RX0, "about", "(II)I"⟩
def dkwX0_about_4 : List UInt8 := [180, 0, 10, 42, 180, 0, 10, 180, 0, 91, 27, 182, 0, 94, 182, 0, 204, 172, 42, 182, 0, 102, 172]
abbrev dktX0_about_4 : List UInt8 := dkwX0_about_4 ++ []
def dkwX0_about_3 : List UInt8 := [46, 172, 42, 180, 0, 10, 42, 180, 0, 10, 180, 0, 91, 27, 182, 0, 94, 172, 42, 180, 0, 10, 42]
abbrev dktX0_about_3 : List UInt8 := dkwX0_about_3 ++ dktX0_about_4
def dkwX0_about_2 : List UInt8 := [42, 180, 0, 10, 180, 0, 197, 27, 50, 182, 0, 201, 172, 42, 180, 0, 10, 180, 0, 91, 180, 0, 184, 27]
abbrev dktX0_about_2 : List UInt8 := dkwX0_about_2 ++ dktX0_about_3
def dkwX0_about_1 : List UInt8 := [170, 0, 0, 0, 0, 95, 0, 0, 0, 0, 0, 0, 0, 3, 0, 0, 0, 30, 0, 0, 0, 43, 0, 0, 0, 56, 0, 0, 0, 72]
abbrev dktX0_about_1 : List UInt8 := dkwX0_about_1 ++ dktX0_about_2
def dkwX0_about_0 : List UInt8 := [42, 27, 182, 0, 116, 154, 0, 8, 42, 182, 0, 102, 172, 28]
abbrev dktX0_about_0 : List UInt8 := dkwX0_about_0 ++ dktX0_about_1
theorem dksX0_about_0 : cX0_about.data.toList.drop 0 = dktX0_about_0 := by decide +kernel
theorem dksX0_about_1 : cX0_about.data.toList.drop 14 = dktX0_about_1 := dk_seg dksX0_about_0 14 rfl rfl
theorem dksX0_about_2 : cX0_about.data.toList.drop 44 = dktX0_about_2 := dk_seg dksX0_about_1 30 rfl rfl
theorem dksX0_about_3 : cX0_about.data.toList.drop 68 = dktX0_about_3 := dk_seg dksX0_about_2 24 rfl rfl
theorem dksX0_about_4 : cX0_about.data.toList.drop 91 = dktX0_about_4 := dk_seg dksX0_about_3 23 rfl rfl
theorem dX0_about_0 : decode cX0_about 0 = .ok (.aload_n 0, 1) := dk_42 (dk_at dksX0_about_0 0 rfl rfl)
theorem dX0_about_1 : decode cX0_about 1 = .ok (.iload_n 1, 1) := dk_27 (dk_at dksX0_about_0 1 rfl rfl)
theorem dX0_about_2 : decode cX0_about 2 = .ok (.invokevirtual 116, 3) := dk_182 0 116 (dk_at dksX0_about_0 2 rfl rfl)
theorem dX0_about_5 : decode cX0_about 5 = .ok (.ifCond .ne 8, 3) := dk_154 0 8 (dk_at dksX0_about_0 5 rfl rfl)
theorem dX0_about_8 : decode cX0_about 8 = .ok (.aload_n 0, 1) := dk_42 (dk_at dksX0_about_0 8 rfl rfl)
theorem dX0_about_9 : decode cX0_about 9 = .ok (.invokevirtual 102, 3) := dk_182 0 102 (dk_at dksX0_about_0 9 rfl rfl)
theorem dX0_about_12 : decode cX0_about 12 = .ok (.ireturn, 1) := dk_172 (dk_at dksX0_about_0 12 rfl rfl)
theorem dX0_about_13 : decode cX0_about 13 = .ok (.iload_n 2, 1) := dk_28 (dk_at dksX0_about_0 13 rfl rfl)
theorem dX0_about_14 : decode cX0_about 14 = .ok (.tableswitch 95 0 3 #[30, 43, 56, 72], 30) := by decide +kernel
theorem dX0_about_44 : decode cX0_about 44 = .ok (.aload_n 0, 1) := dk_42 (dk_at dksX0_about_2 0 rfl rfl)
theorem dX0_about_45 : decode cX0_about 45 = .ok (.getfield 10, 3) := dk_180 0 10 (dk_at dksX0_about_2 1 rfl rfl)
theorem dX0_about_48 : decode cX0_about 48 = .ok (.getfield 197, 3) := dk_180 0 197 (dk_at dksX0_about_2 4 rfl rfl)
theorem dX0_about_51 : decode cX0_about 51 = .ok (.iload_n 1, 1) := dk_27 (dk_at dksX0_about_2 7 rfl rfl)
theorem dX0_about_52 : decode cX0_about 52 = .ok (.aaload, 1) := dk_50 (dk_at dksX0_about_2 8 rfl rfl)
theorem dX0_about_53 : decode cX0_about 53 = .ok (.invokevirtual 201, 3) := dk_182 0 201 (dk_at dksX0_about_2 9 rfl rfl)
theorem dX0_about_56 : decode cX0_about 56 = .ok (.ireturn, 1) := dk_172 (dk_at dksX0_about_2 12 rfl rfl)
theorem dX0_about_57 : decode cX0_about 57 = .ok (.aload_n 0, 1) := dk_42 (dk_at dksX0_about_2 13 rfl rfl)
theorem dX0_about_58 : decode cX0_about 58 = .ok (.getfield 10, 3) := dk_180 0 10 (dk_at dksX0_about_2 14 rfl rfl)
theorem dX0_about_61 : decode cX0_about 61 = .ok (.getfield 91, 3) := dk_180 0 91 (dk_at dksX0_about_2 17 rfl rfl)
theorem dX0_about_64 : decode cX0_about 64 = .ok (.getfield 184, 3) := dk_180 0 184 (dk_at dksX0_about_2 20 rfl rfl)
theorem dX0_about_67 : decode cX0_about 67 = .ok (.iload_n 1, 1) := dk_27 (dk_at dksX0_about_2 23 rfl rfl)
theorem dX0_about_68 : decode cX0_about 68 = .ok (.iaload, 1) := dk_46 (dk_at dksX0_about_3 0 rfl rfl)
theorem dX0_about_69 : decode cX0_about 69 = .ok (.ireturn, 1) := dk_172 (dk_at dksX0_about_3 1 rfl rfl)
theorem dX0_about_70 : decode cX0_about 70 = .ok (.aload_n 0, 1) := dk_42 (dk_at dksX0_about_3 2 rfl rfl)
theorem dX0_about_71 : decode cX0_about 71 = .ok (.getfield 10, 3) := dk_180 0 10 (dk_at dksX0_about_3 3 rfl rfl)
theorem dX0_about_74 : decode cX0_about 74 = .ok (.aload_n 0, 1) := dk_42 (dk_at dksX0_about_3 6 rfl rfl)
theorem dX0_about_75 : decode cX0_about 75 = .ok (.getfield 10, 3) := dk_180 0 10 (dk_at dksX0_about_3 7 rfl rfl)
theorem dX0_about_78 : decode cX0_about 78 = .ok (.getfield 91, 3) := dk_180 0 91 (dk_at dksX0_about_3 10 rfl rfl)
theorem dX0_about_81 : decode cX0_about 81 = .ok (.iload_n 1, 1) := dk_27 (dk_at dksX0_about_3 13 rfl rfl)
theorem dX0_about_82 : decode cX0_about 82 = .ok (.invokevirtual 94, 3) := dk_182 0 94 (dk_at dksX0_about_3 14 rfl rfl)
theorem dX0_about_85 : decode cX0_about 85 = .ok (.ireturn, 1) := dk_172 (dk_at dksX0_about_3 17 rfl rfl)
theorem dX0_about_86 : decode cX0_about 86 = .ok (.aload_n 0, 1) := dk_42 (dk_at dksX0_about_3 18 rfl rfl)
theorem dX0_about_87 : decode cX0_about 87 = .ok (.getfield 10, 3) := dk_180 0 10 (dk_at dksX0_about_3 19 rfl rfl)
theorem dX0_about_90 : decode cX0_about 90 = .ok (.aload_n 0, 1) := dk_42 (dk_at dksX0_about_3 22 rfl rfl)
theorem dX0_about_91 : decode cX0_about 91 = .ok (.getfield 10, 3) := dk_180 0 10 (dk_at dksX0_about_4 0 rfl rfl)
theorem dX0_about_94 : decode cX0_about 94 = .ok (.aload_n 0, 1) := dk_42 (dk_at dksX0_about_4 3 rfl rfl)
theorem dX0_about_95 : decode cX0_about 95 = .ok (.getfield 10, 3) := dk_180 0 10 (dk_at dksX0_about_4 4 rfl rfl)
theorem dX0_about_98 : decode cX0_about 98 = .ok (.getfield 91, 3) := dk_180 0 91 (dk_at dksX0_about_4 7 rfl rfl)
theorem dX0_about_101 : decode cX0_about 101 = .ok (.iload_n 1, 1) := dk_27 (dk_at dksX0_about_4 10 rfl rfl)
theorem dX0_about_102 : decode cX0_about 102 = .ok (.invokevirtual 94, 3) := dk_182 0 94 (dk_at dksX0_about_4 11 rfl rfl)
theorem dX0_about_105 : decode cX0_about 105 = .ok (.invokevirtual 204, 3) := dk_182 0 204 (dk_at dksX0_about_4 14 rfl rfl)
theorem dX0_about_108 : decode cX0_about 108 = .ok (.ireturn, 1) := dk_172 (dk_at dksX0_about_4 17 rfl rfl)
theorem dX0_about_109 : decode cX0_about 109 = .ok (.aload_n 0, 1) := dk_42 (dk_at dksX0_about_4 18 rfl rfl)
theorem dX0_about_110 : decode cX0_about 110 = .ok (.invokevirtual 102, 3) := dk_182 0 102 (dk_at dksX0_about_4 19 rfl rfl)
theorem dX0_about_113 : decode cX0_about 113 = .ok (.ireturn, 1) := dk_172 (dk_at dksX0_about_4 22 rfl rfl)
abbrev cX0_left : ByteArray := prog_1_method_28_code
def yX0_left : MethodName := ⟨RX0, "left", "(I)I"⟩
def dkwX0_left_1 : List UInt8 := [167, 0, 7, 42, 182, 0, 102, 172]
abbrev dktX0_left_1 : List UInt8 := dkwX0_left_1 ++ []
def dkwX0_left_0 : List UInt8 := [42, 27, 182, 0, 116, 153, 0, 21, 42, 180, 0, 10, 42, 180, 0, 10, 180, 0, 91, 27, 182, 0, 207]
abbrev dktX0_left_0 : List UInt8 := dkwX0_left_0 ++ dktX0_left_1
theorem dksX0_left_0 : cX0_left.data.toList.drop 0 = dktX0_left_0 := by decide +kernel
theorem dksX0_left_1 : cX0_left.data.toList.drop 23 = dktX0_left_1 := dk_seg dksX0_left_0 23 rfl rfl
theorem dX0_left_0 : decode cX0_left 0 = .ok (.aload_n 0, 1) := dk_42 (dk_at dksX0_left_0 0 rfl rfl)
theorem dX0_left_1 : decode cX0_left 1 = .ok (.iload_n 1, 1) := dk_27 (dk_at dksX0_left_0 1 rfl rfl)
theorem dX0_left_2 : decode cX0_left 2 = .ok (.invokevirtual 116, 3) := dk_182 0 116 (dk_at dksX0_left_0 2 rfl rfl)
theorem dX0_left_5 : decode cX0_left 5 = .ok (.ifCond .eq 21, 3) := dk_153 0 21 (dk_at dksX0_left_0 5 rfl rfl)
theorem dX0_left_8 : decode cX0_left 8 = .ok (.aload_n 0, 1) := dk_42 (dk_at dksX0_left_0 8 rfl rfl)
theorem dX0_left_9 : decode cX0_left 9 = .ok (.getfield 10, 3) := dk_180 0 10 (dk_at dksX0_left_0 9 rfl rfl)
theorem dX0_left_12 : decode cX0_left 12 = .ok (.aload_n 0, 1) := dk_42 (dk_at dksX0_left_0 12 rfl rfl)
theorem dX0_left_13 : decode cX0_left 13 = .ok (.getfield 10, 3) := dk_180 0 10 (dk_at dksX0_left_0 13 rfl rfl)
theorem dX0_left_16 : decode cX0_left 16 = .ok (.getfield 91, 3) := dk_180 0 91 (dk_at dksX0_left_0 16 rfl rfl)
theorem dX0_left_19 : decode cX0_left 19 = .ok (.iload_n 1, 1) := dk_27 (dk_at dksX0_left_0 19 rfl rfl)
theorem dX0_left_20 : decode cX0_left 20 = .ok (.invokevirtual 207, 3) := dk_182 0 207 (dk_at dksX0_left_0 20 rfl rfl)
theorem dX0_left_23 : decode cX0_left 23 = .ok (.goto 7, 3) := dk_167 0 7 (dk_at dksX0_left_1 0 rfl rfl)
theorem dX0_left_26 : decode cX0_left 26 = .ok (.aload_n 0, 1) := dk_42 (dk_at dksX0_left_1 3 rfl rfl)
theorem dX0_left_27 : decode cX0_left 27 = .ok (.invokevirtual 102, 3) := dk_182 0 102 (dk_at dksX0_left_1 4 rfl rfl)
theorem dX0_left_30 : decode cX0_left 30 = .ok (.ireturn, 1) := dk_172 (dk_at dksX0_left_1 7 rfl rfl)
abbrev cX0_needs : ByteArray := prog_1_method_29_code
def yX0_needs : MethodName := ⟨RX0, "needs", "(II)I"⟩
def dkwX0_needs_1 : List UInt8 := [180, 0, 91, 27, 28, 182, 0, 213, 167, 0, 7, 42, 182, 0, 102, 172]
abbrev dktX0_needs_1 : List UInt8 := dkwX0_needs_1 ++ []
def dkwX0_needs_0 : List UInt8 := [42, 27, 182, 0, 116, 153, 0, 29, 28, 184, 0, 210, 153, 0, 22, 42, 180, 0, 10, 42, 180, 0, 10]
abbrev dktX0_needs_0 : List UInt8 := dkwX0_needs_0 ++ dktX0_needs_1
theorem dksX0_needs_0 : cX0_needs.data.toList.drop 0 = dktX0_needs_0 := by decide +kernel
theorem dksX0_needs_1 : cX0_needs.data.toList.drop 23 = dktX0_needs_1 := dk_seg dksX0_needs_0 23 rfl rfl
theorem dX0_needs_0 : decode cX0_needs 0 = .ok (.aload_n 0, 1) := dk_42 (dk_at dksX0_needs_0 0 rfl rfl)
theorem dX0_needs_1 : decode cX0_needs 1 = .ok (.iload_n 1, 1) := dk_27 (dk_at dksX0_needs_0 1 rfl rfl)
theorem dX0_needs_2 : decode cX0_needs 2 = .ok (.invokevirtual 116, 3) := dk_182 0 116 (dk_at dksX0_needs_0 2 rfl rfl)
theorem dX0_needs_5 : decode cX0_needs 5 = .ok (.ifCond .eq 29, 3) := dk_153 0 29 (dk_at dksX0_needs_0 5 rfl rfl)
theorem dX0_needs_8 : decode cX0_needs 8 = .ok (.iload_n 2, 1) := dk_28 (dk_at dksX0_needs_0 8 rfl rfl)
theorem dX0_needs_9 : decode cX0_needs 9 = .ok (.invokestatic 210, 3) := dk_184 0 210 (dk_at dksX0_needs_0 9 rfl rfl)
theorem dX0_needs_12 : decode cX0_needs 12 = .ok (.ifCond .eq 22, 3) := dk_153 0 22 (dk_at dksX0_needs_0 12 rfl rfl)
theorem dX0_needs_15 : decode cX0_needs 15 = .ok (.aload_n 0, 1) := dk_42 (dk_at dksX0_needs_0 15 rfl rfl)
theorem dX0_needs_16 : decode cX0_needs 16 = .ok (.getfield 10, 3) := dk_180 0 10 (dk_at dksX0_needs_0 16 rfl rfl)
theorem dX0_needs_19 : decode cX0_needs 19 = .ok (.aload_n 0, 1) := dk_42 (dk_at dksX0_needs_0 19 rfl rfl)
theorem dX0_needs_20 : decode cX0_needs 20 = .ok (.getfield 10, 3) := dk_180 0 10 (dk_at dksX0_needs_0 20 rfl rfl)
theorem dX0_needs_23 : decode cX0_needs 23 = .ok (.getfield 91, 3) := dk_180 0 91 (dk_at dksX0_needs_1 0 rfl rfl)
theorem dX0_needs_26 : decode cX0_needs 26 = .ok (.iload_n 1, 1) := dk_27 (dk_at dksX0_needs_1 3 rfl rfl)
theorem dX0_needs_27 : decode cX0_needs 27 = .ok (.iload_n 2, 1) := dk_28 (dk_at dksX0_needs_1 4 rfl rfl)
theorem dX0_needs_28 : decode cX0_needs 28 = .ok (.invokevirtual 213, 3) := dk_182 0 213 (dk_at dksX0_needs_1 5 rfl rfl)
theorem dX0_needs_31 : decode cX0_needs 31 = .ok (.goto 7, 3) := dk_167 0 7 (dk_at dksX0_needs_1 8 rfl rfl)
theorem dX0_needs_34 : decode cX0_needs 34 = .ok (.aload_n 0, 1) := dk_42 (dk_at dksX0_needs_1 11 rfl rfl)
theorem dX0_needs_35 : decode cX0_needs 35 = .ok (.invokevirtual 102, 3) := dk_182 0 102 (dk_at dksX0_needs_1 12 rfl rfl)
theorem dX0_needs_38 : decode cX0_needs 38 = .ok (.ireturn, 1) := dk_172 (dk_at dksX0_needs_1 15 rfl rfl)
abbrev cX0_isFar : ByteArray := prog_1_method_10_code
def yX0_isFar : MethodName := ⟨RX0, "isFar", "(I)Z"⟩
def dkwX0_isFar_0 : List UInt8 := [26, 133, 10, 20, 0, 80, 184, 0, 74, 172]
abbrev dktX0_isFar_0 : List UInt8 := dkwX0_isFar_0 ++ []
theorem dksX0_isFar_0 : cX0_isFar.data.toList.drop 0 = dktX0_isFar_0 := by decide +kernel
theorem dX0_isFar_0 : decode cX0_isFar 0 = .ok (.iload_n 0, 1) := dk_26 (dk_at dksX0_isFar_0 0 rfl rfl)
theorem dX0_isFar_1 : decode cX0_isFar 1 = .ok (.i2l, 1) := dk_133 (dk_at dksX0_isFar_0 1 rfl rfl)
theorem dX0_isFar_2 : decode cX0_isFar 2 = .ok (.lconst 1, 1) := dk_10 (dk_at dksX0_isFar_0 2 rfl rfl)
theorem dX0_isFar_3 : decode cX0_isFar 3 = .ok (.ldc2_w 80, 3) := dk_20 0 80 (dk_at dksX0_isFar_0 3 rfl rfl)
theorem dX0_isFar_6 : decode cX0_isFar 6 = .ok (.invokestatic 74, 3) := dk_184 0 74 (dk_at dksX0_isFar_0 6 rfl rfl)
theorem dX0_isFar_9 : decode cX0_isFar 9 = .ok (.ireturn, 1) := dk_172 (dk_at dksX0_isFar_0 9 rfl rfl)
abbrev cX0_far : ByteArray := prog_1_method_30_code
def yX0_far : MethodName := ⟨RX0, "far", "(I)I"⟩
def dkwX0_far_2 : List UInt8 := [132, 3, 1, 167, 255, 222, 28, 172]
abbrev dktX0_far_2 : List UInt8 := dkwX0_far_2 ++ []
def dkwX0_far_1 : List UInt8 := [180, 0, 10, 42, 180, 0, 10, 180, 0, 91, 27, 29, 182, 0, 217, 153, 0, 7, 29, 167, 0, 4, 28, 61]
abbrev dktX0_far_1 : List UInt8 := dkwX0_far_1 ++ dktX0_far_2
def dkwX0_far_0 : List UInt8 := [42, 27, 182, 0, 116, 154, 0, 8, 42, 182, 0, 102, 172, 3, 61, 4, 62, 29, 16, 30, 163, 0, 34, 42]
abbrev dktX0_far_0 : List UInt8 := dkwX0_far_0 ++ dktX0_far_1
theorem dksX0_far_0 : cX0_far.data.toList.drop 0 = dktX0_far_0 := by decide +kernel
theorem dksX0_far_1 : cX0_far.data.toList.drop 24 = dktX0_far_1 := dk_seg dksX0_far_0 24 rfl rfl
theorem dksX0_far_2 : cX0_far.data.toList.drop 48 = dktX0_far_2 := dk_seg dksX0_far_1 24 rfl rfl
theorem dX0_far_0 : decode cX0_far 0 = .ok (.aload_n 0, 1) := dk_42 (dk_at dksX0_far_0 0 rfl rfl)
theorem dX0_far_1 : decode cX0_far 1 = .ok (.iload_n 1, 1) := dk_27 (dk_at dksX0_far_0 1 rfl rfl)
theorem dX0_far_2 : decode cX0_far 2 = .ok (.invokevirtual 116, 3) := dk_182 0 116 (dk_at dksX0_far_0 2 rfl rfl)
theorem dX0_far_5 : decode cX0_far 5 = .ok (.ifCond .ne 8, 3) := dk_154 0 8 (dk_at dksX0_far_0 5 rfl rfl)
theorem dX0_far_8 : decode cX0_far 8 = .ok (.aload_n 0, 1) := dk_42 (dk_at dksX0_far_0 8 rfl rfl)
theorem dX0_far_9 : decode cX0_far 9 = .ok (.invokevirtual 102, 3) := dk_182 0 102 (dk_at dksX0_far_0 9 rfl rfl)
theorem dX0_far_12 : decode cX0_far 12 = .ok (.ireturn, 1) := dk_172 (dk_at dksX0_far_0 12 rfl rfl)
theorem dX0_far_13 : decode cX0_far 13 = .ok (.iconst 0, 1) := dk_3 (dk_at dksX0_far_0 13 rfl rfl)
theorem dX0_far_14 : decode cX0_far 14 = .ok (.istore_n 2, 1) := dk_61 (dk_at dksX0_far_0 14 rfl rfl)
theorem dX0_far_15 : decode cX0_far 15 = .ok (.iconst 1, 1) := dk_4 (dk_at dksX0_far_0 15 rfl rfl)
theorem dX0_far_16 : decode cX0_far 16 = .ok (.istore_n 3, 1) := dk_62 (dk_at dksX0_far_0 16 rfl rfl)
theorem dX0_far_17 : decode cX0_far 17 = .ok (.iload_n 3, 1) := dk_29 (dk_at dksX0_far_0 17 rfl rfl)
theorem dX0_far_18 : decode cX0_far 18 = .ok (.bipush 30, 2) := dk_16 30 (dk_at dksX0_far_0 18 rfl rfl)
theorem dX0_far_20 : decode cX0_far 20 = .ok (.if_icmp .gt 34, 3) := dk_163 0 34 (dk_at dksX0_far_0 20 rfl rfl)
theorem dX0_far_23 : decode cX0_far 23 = .ok (.aload_n 0, 1) := dk_42 (dk_at dksX0_far_0 23 rfl rfl)
theorem dX0_far_24 : decode cX0_far 24 = .ok (.getfield 10, 3) := dk_180 0 10 (dk_at dksX0_far_1 0 rfl rfl)
theorem dX0_far_27 : decode cX0_far 27 = .ok (.aload_n 0, 1) := dk_42 (dk_at dksX0_far_1 3 rfl rfl)
theorem dX0_far_28 : decode cX0_far 28 = .ok (.getfield 10, 3) := dk_180 0 10 (dk_at dksX0_far_1 4 rfl rfl)
theorem dX0_far_31 : decode cX0_far 31 = .ok (.getfield 91, 3) := dk_180 0 91 (dk_at dksX0_far_1 7 rfl rfl)
theorem dX0_far_34 : decode cX0_far 34 = .ok (.iload_n 1, 1) := dk_27 (dk_at dksX0_far_1 10 rfl rfl)
theorem dX0_far_35 : decode cX0_far 35 = .ok (.iload_n 3, 1) := dk_29 (dk_at dksX0_far_1 11 rfl rfl)
theorem dX0_far_36 : decode cX0_far 36 = .ok (.invokevirtual 217, 3) := dk_182 0 217 (dk_at dksX0_far_1 12 rfl rfl)
theorem dX0_far_39 : decode cX0_far 39 = .ok (.ifCond .eq 7, 3) := dk_153 0 7 (dk_at dksX0_far_1 15 rfl rfl)
theorem dX0_far_42 : decode cX0_far 42 = .ok (.iload_n 3, 1) := dk_29 (dk_at dksX0_far_1 18 rfl rfl)
theorem dX0_far_43 : decode cX0_far 43 = .ok (.goto 4, 3) := dk_167 0 4 (dk_at dksX0_far_1 19 rfl rfl)
theorem dX0_far_46 : decode cX0_far 46 = .ok (.iload_n 2, 1) := dk_28 (dk_at dksX0_far_1 22 rfl rfl)
theorem dX0_far_47 : decode cX0_far 47 = .ok (.istore_n 2, 1) := dk_61 (dk_at dksX0_far_1 23 rfl rfl)
theorem dX0_far_48 : decode cX0_far 48 = .ok (.iinc 3 1, 3) := dk_132 3 1 (dk_at dksX0_far_2 0 rfl rfl)
theorem dX0_far_51 : decode cX0_far 51 = .ok (.goto (-34), 3) := dk_167 255 222 (dk_at dksX0_far_2 3 rfl rfl)
theorem dX0_far_54 : decode cX0_far 54 = .ok (.iload_n 2, 1) := dk_28 (dk_at dksX0_far_2 6 rfl rfl)
theorem dX0_far_55 : decode cX0_far 55 = .ok (.ireturn, 1) := dk_172 (dk_at dksX0_far_2 7 rfl rfl)
abbrev cX0_behind : ByteArray := prog_1_method_31_code
def yX0_behind : MethodName := ⟨RX0, "behind", "(II)I"⟩
def dkwX0_behind_3 : List UInt8 := [180, 0, 10, 42, 180, 0, 26, 27, 182, 0, 149, 62, 132, 4, 1, 167, 255, 215, 29, 172]
abbrev dktX0_behind_3 : List UInt8 := dkwX0_behind_3 ++ []
def dkwX0_behind_2 : List UInt8 := [162, 0, 41, 42, 180, 0, 10, 42, 180, 0, 26, 27, 182, 0, 94, 154, 0, 7, 2, 167, 0, 15, 42]
abbrev dktX0_behind_2 : List UInt8 := dkwX0_behind_2 ++ dktX0_behind_3
def dkwX0_behind_1 : List UInt8 := [172, 42, 180, 0, 26, 42, 180, 0, 10, 180, 0, 91, 182, 0, 171, 2, 62, 3, 54, 4, 21, 4, 28]
abbrev dktX0_behind_1 : List UInt8 := dkwX0_behind_1 ++ dktX0_behind_2
def dkwX0_behind_0 : List UInt8 := [42, 27, 182, 0, 116, 153, 0, 15, 28, 133, 10, 20, 0, 221, 184, 0, 74, 154, 0, 8, 42, 182, 0, 102]
abbrev dktX0_behind_0 : List UInt8 := dkwX0_behind_0 ++ dktX0_behind_1
theorem dksX0_behind_0 : cX0_behind.data.toList.drop 0 = dktX0_behind_0 := by decide +kernel
theorem dksX0_behind_1 : cX0_behind.data.toList.drop 24 = dktX0_behind_1 := dk_seg dksX0_behind_0 24 rfl rfl
theorem dksX0_behind_2 : cX0_behind.data.toList.drop 47 = dktX0_behind_2 := dk_seg dksX0_behind_1 23 rfl rfl
theorem dksX0_behind_3 : cX0_behind.data.toList.drop 70 = dktX0_behind_3 := dk_seg dksX0_behind_2 23 rfl rfl
theorem dX0_behind_0 : decode cX0_behind 0 = .ok (.aload_n 0, 1) := dk_42 (dk_at dksX0_behind_0 0 rfl rfl)
theorem dX0_behind_1 : decode cX0_behind 1 = .ok (.iload_n 1, 1) := dk_27 (dk_at dksX0_behind_0 1 rfl rfl)
theorem dX0_behind_2 : decode cX0_behind 2 = .ok (.invokevirtual 116, 3) := dk_182 0 116 (dk_at dksX0_behind_0 2 rfl rfl)
theorem dX0_behind_5 : decode cX0_behind 5 = .ok (.ifCond .eq 15, 3) := dk_153 0 15 (dk_at dksX0_behind_0 5 rfl rfl)
theorem dX0_behind_8 : decode cX0_behind 8 = .ok (.iload_n 2, 1) := dk_28 (dk_at dksX0_behind_0 8 rfl rfl)
theorem dX0_behind_9 : decode cX0_behind 9 = .ok (.i2l, 1) := dk_133 (dk_at dksX0_behind_0 9 rfl rfl)
theorem dX0_behind_10 : decode cX0_behind 10 = .ok (.lconst 1, 1) := dk_10 (dk_at dksX0_behind_0 10 rfl rfl)
theorem dX0_behind_11 : decode cX0_behind 11 = .ok (.ldc2_w 221, 3) := dk_20 0 221 (dk_at dksX0_behind_0 11 rfl rfl)
theorem dX0_behind_14 : decode cX0_behind 14 = .ok (.invokestatic 74, 3) := dk_184 0 74 (dk_at dksX0_behind_0 14 rfl rfl)
theorem dX0_behind_17 : decode cX0_behind 17 = .ok (.ifCond .ne 8, 3) := dk_154 0 8 (dk_at dksX0_behind_0 17 rfl rfl)
theorem dX0_behind_20 : decode cX0_behind 20 = .ok (.aload_n 0, 1) := dk_42 (dk_at dksX0_behind_0 20 rfl rfl)
theorem dX0_behind_21 : decode cX0_behind 21 = .ok (.invokevirtual 102, 3) := dk_182 0 102 (dk_at dksX0_behind_0 21 rfl rfl)
theorem dX0_behind_24 : decode cX0_behind 24 = .ok (.ireturn, 1) := dk_172 (dk_at dksX0_behind_1 0 rfl rfl)
theorem dX0_behind_25 : decode cX0_behind 25 = .ok (.aload_n 0, 1) := dk_42 (dk_at dksX0_behind_1 1 rfl rfl)
theorem dX0_behind_26 : decode cX0_behind 26 = .ok (.getfield 26, 3) := dk_180 0 26 (dk_at dksX0_behind_1 2 rfl rfl)
theorem dX0_behind_29 : decode cX0_behind 29 = .ok (.aload_n 0, 1) := dk_42 (dk_at dksX0_behind_1 5 rfl rfl)
theorem dX0_behind_30 : decode cX0_behind 30 = .ok (.getfield 10, 3) := dk_180 0 10 (dk_at dksX0_behind_1 6 rfl rfl)
theorem dX0_behind_33 : decode cX0_behind 33 = .ok (.getfield 91, 3) := dk_180 0 91 (dk_at dksX0_behind_1 9 rfl rfl)
theorem dX0_behind_36 : decode cX0_behind 36 = .ok (.invokevirtual 171, 3) := dk_182 0 171 (dk_at dksX0_behind_1 12 rfl rfl)
theorem dX0_behind_39 : decode cX0_behind 39 = .ok (.iconst (-1), 1) := dk_2 (dk_at dksX0_behind_1 15 rfl rfl)
theorem dX0_behind_40 : decode cX0_behind 40 = .ok (.istore_n 3, 1) := dk_62 (dk_at dksX0_behind_1 16 rfl rfl)
theorem dX0_behind_41 : decode cX0_behind 41 = .ok (.iconst 0, 1) := dk_3 (dk_at dksX0_behind_1 17 rfl rfl)
theorem dX0_behind_42 : decode cX0_behind 42 = .ok (.istore 4, 2) := dk_54 4 (dk_at dksX0_behind_1 18 rfl rfl)
theorem dX0_behind_44 : decode cX0_behind 44 = .ok (.iload 4, 2) := dk_21 4 (dk_at dksX0_behind_1 20 rfl rfl)
theorem dX0_behind_46 : decode cX0_behind 46 = .ok (.iload_n 2, 1) := dk_28 (dk_at dksX0_behind_1 22 rfl rfl)
theorem dX0_behind_47 : decode cX0_behind 47 = .ok (.if_icmp .ge 41, 3) := dk_162 0 41 (dk_at dksX0_behind_2 0 rfl rfl)
theorem dX0_behind_50 : decode cX0_behind 50 = .ok (.aload_n 0, 1) := dk_42 (dk_at dksX0_behind_2 3 rfl rfl)
theorem dX0_behind_51 : decode cX0_behind 51 = .ok (.getfield 10, 3) := dk_180 0 10 (dk_at dksX0_behind_2 4 rfl rfl)
theorem dX0_behind_54 : decode cX0_behind 54 = .ok (.aload_n 0, 1) := dk_42 (dk_at dksX0_behind_2 7 rfl rfl)
theorem dX0_behind_55 : decode cX0_behind 55 = .ok (.getfield 26, 3) := dk_180 0 26 (dk_at dksX0_behind_2 8 rfl rfl)
theorem dX0_behind_58 : decode cX0_behind 58 = .ok (.iload_n 1, 1) := dk_27 (dk_at dksX0_behind_2 11 rfl rfl)
theorem dX0_behind_59 : decode cX0_behind 59 = .ok (.invokevirtual 94, 3) := dk_182 0 94 (dk_at dksX0_behind_2 12 rfl rfl)
theorem dX0_behind_62 : decode cX0_behind 62 = .ok (.ifCond .ne 7, 3) := dk_154 0 7 (dk_at dksX0_behind_2 15 rfl rfl)
theorem dX0_behind_65 : decode cX0_behind 65 = .ok (.iconst (-1), 1) := dk_2 (dk_at dksX0_behind_2 18 rfl rfl)
theorem dX0_behind_66 : decode cX0_behind 66 = .ok (.goto 15, 3) := dk_167 0 15 (dk_at dksX0_behind_2 19 rfl rfl)
theorem dX0_behind_69 : decode cX0_behind 69 = .ok (.aload_n 0, 1) := dk_42 (dk_at dksX0_behind_2 22 rfl rfl)
theorem dX0_behind_70 : decode cX0_behind 70 = .ok (.getfield 10, 3) := dk_180 0 10 (dk_at dksX0_behind_3 0 rfl rfl)
theorem dX0_behind_73 : decode cX0_behind 73 = .ok (.aload_n 0, 1) := dk_42 (dk_at dksX0_behind_3 3 rfl rfl)
theorem dX0_behind_74 : decode cX0_behind 74 = .ok (.getfield 26, 3) := dk_180 0 26 (dk_at dksX0_behind_3 4 rfl rfl)
theorem dX0_behind_77 : decode cX0_behind 77 = .ok (.iload_n 1, 1) := dk_27 (dk_at dksX0_behind_3 7 rfl rfl)
theorem dX0_behind_78 : decode cX0_behind 78 = .ok (.invokevirtual 149, 3) := dk_182 0 149 (dk_at dksX0_behind_3 8 rfl rfl)
theorem dX0_behind_81 : decode cX0_behind 81 = .ok (.istore_n 3, 1) := dk_62 (dk_at dksX0_behind_3 11 rfl rfl)
theorem dX0_behind_82 : decode cX0_behind 82 = .ok (.iinc 4 1, 3) := dk_132 4 1 (dk_at dksX0_behind_3 12 rfl rfl)
theorem dX0_behind_85 : decode cX0_behind 85 = .ok (.goto (-41), 3) := dk_167 255 215 (dk_at dksX0_behind_3 15 rfl rfl)
theorem dX0_behind_88 : decode cX0_behind 88 = .ok (.iload_n 3, 1) := dk_29 (dk_at dksX0_behind_3 18 rfl rfl)
theorem dX0_behind_89 : decode cX0_behind 89 = .ok (.ireturn, 1) := dk_172 (dk_at dksX0_behind_3 19 rfl rfl)
abbrev cX0_lasts : ByteArray := prog_1_method_32_code
def yX0_lasts : MethodName := ⟨RX0, "lasts", "(II)I"⟩
def dkwX0_lasts_3 : List UInt8 := [167, 255, 224, 29, 172]
abbrev dktX0_lasts_3 : List UInt8 := dkwX0_lasts_3 ++ []
def dkwX0_lasts_2 : List UInt8 := [182, 0, 217, 153, 0, 22, 42, 180, 0, 10, 42, 180, 0, 26, 27, 182, 0, 149, 87, 132, 3, 1]
abbrev dktX0_lasts_2 : List UInt8 := dkwX0_lasts_2 ++ dktX0_lasts_3
def dkwX0_lasts_1 : List UInt8 := [42, 180, 0, 10, 180, 0, 91, 182, 0, 171, 3, 62, 42, 180, 0, 10, 42, 180, 0, 26, 27, 28]
abbrev dktX0_lasts_1 : List UInt8 := dkwX0_lasts_1 ++ dktX0_lasts_2
def dkwX0_lasts_0 : List UInt8 := [42, 27, 182, 0, 116, 153, 0, 10, 28, 184, 0, 210, 154, 0, 8, 42, 182, 0, 102, 172, 42, 180, 0, 26]
abbrev dktX0_lasts_0 : List UInt8 := dkwX0_lasts_0 ++ dktX0_lasts_1
theorem dksX0_lasts_0 : cX0_lasts.data.toList.drop 0 = dktX0_lasts_0 := by decide +kernel
theorem dksX0_lasts_1 : cX0_lasts.data.toList.drop 24 = dktX0_lasts_1 := dk_seg dksX0_lasts_0 24 rfl rfl
theorem dksX0_lasts_2 : cX0_lasts.data.toList.drop 46 = dktX0_lasts_2 := dk_seg dksX0_lasts_1 22 rfl rfl
theorem dksX0_lasts_3 : cX0_lasts.data.toList.drop 68 = dktX0_lasts_3 := dk_seg dksX0_lasts_2 22 rfl rfl
theorem dX0_lasts_0 : decode cX0_lasts 0 = .ok (.aload_n 0, 1) := dk_42 (dk_at dksX0_lasts_0 0 rfl rfl)
theorem dX0_lasts_1 : decode cX0_lasts 1 = .ok (.iload_n 1, 1) := dk_27 (dk_at dksX0_lasts_0 1 rfl rfl)
theorem dX0_lasts_2 : decode cX0_lasts 2 = .ok (.invokevirtual 116, 3) := dk_182 0 116 (dk_at dksX0_lasts_0 2 rfl rfl)
theorem dX0_lasts_5 : decode cX0_lasts 5 = .ok (.ifCond .eq 10, 3) := dk_153 0 10 (dk_at dksX0_lasts_0 5 rfl rfl)
theorem dX0_lasts_8 : decode cX0_lasts 8 = .ok (.iload_n 2, 1) := dk_28 (dk_at dksX0_lasts_0 8 rfl rfl)
theorem dX0_lasts_9 : decode cX0_lasts 9 = .ok (.invokestatic 210, 3) := dk_184 0 210 (dk_at dksX0_lasts_0 9 rfl rfl)
theorem dX0_lasts_12 : decode cX0_lasts 12 = .ok (.ifCond .ne 8, 3) := dk_154 0 8 (dk_at dksX0_lasts_0 12 rfl rfl)
theorem dX0_lasts_15 : decode cX0_lasts 15 = .ok (.aload_n 0, 1) := dk_42 (dk_at dksX0_lasts_0 15 rfl rfl)
theorem dX0_lasts_16 : decode cX0_lasts 16 = .ok (.invokevirtual 102, 3) := dk_182 0 102 (dk_at dksX0_lasts_0 16 rfl rfl)
theorem dX0_lasts_19 : decode cX0_lasts 19 = .ok (.ireturn, 1) := dk_172 (dk_at dksX0_lasts_0 19 rfl rfl)
theorem dX0_lasts_20 : decode cX0_lasts 20 = .ok (.aload_n 0, 1) := dk_42 (dk_at dksX0_lasts_0 20 rfl rfl)
theorem dX0_lasts_21 : decode cX0_lasts 21 = .ok (.getfield 26, 3) := dk_180 0 26 (dk_at dksX0_lasts_0 21 rfl rfl)
theorem dX0_lasts_24 : decode cX0_lasts 24 = .ok (.aload_n 0, 1) := dk_42 (dk_at dksX0_lasts_1 0 rfl rfl)
theorem dX0_lasts_25 : decode cX0_lasts 25 = .ok (.getfield 10, 3) := dk_180 0 10 (dk_at dksX0_lasts_1 1 rfl rfl)
theorem dX0_lasts_28 : decode cX0_lasts 28 = .ok (.getfield 91, 3) := dk_180 0 91 (dk_at dksX0_lasts_1 4 rfl rfl)
theorem dX0_lasts_31 : decode cX0_lasts 31 = .ok (.invokevirtual 171, 3) := dk_182 0 171 (dk_at dksX0_lasts_1 7 rfl rfl)
theorem dX0_lasts_34 : decode cX0_lasts 34 = .ok (.iconst 0, 1) := dk_3 (dk_at dksX0_lasts_1 10 rfl rfl)
theorem dX0_lasts_35 : decode cX0_lasts 35 = .ok (.istore_n 3, 1) := dk_62 (dk_at dksX0_lasts_1 11 rfl rfl)
theorem dX0_lasts_36 : decode cX0_lasts 36 = .ok (.aload_n 0, 1) := dk_42 (dk_at dksX0_lasts_1 12 rfl rfl)
theorem dX0_lasts_37 : decode cX0_lasts 37 = .ok (.getfield 10, 3) := dk_180 0 10 (dk_at dksX0_lasts_1 13 rfl rfl)
theorem dX0_lasts_40 : decode cX0_lasts 40 = .ok (.aload_n 0, 1) := dk_42 (dk_at dksX0_lasts_1 16 rfl rfl)
theorem dX0_lasts_41 : decode cX0_lasts 41 = .ok (.getfield 26, 3) := dk_180 0 26 (dk_at dksX0_lasts_1 17 rfl rfl)
theorem dX0_lasts_44 : decode cX0_lasts 44 = .ok (.iload_n 1, 1) := dk_27 (dk_at dksX0_lasts_1 20 rfl rfl)
theorem dX0_lasts_45 : decode cX0_lasts 45 = .ok (.iload_n 2, 1) := dk_28 (dk_at dksX0_lasts_1 21 rfl rfl)
theorem dX0_lasts_46 : decode cX0_lasts 46 = .ok (.invokevirtual 217, 3) := dk_182 0 217 (dk_at dksX0_lasts_2 0 rfl rfl)
theorem dX0_lasts_49 : decode cX0_lasts 49 = .ok (.ifCond .eq 22, 3) := dk_153 0 22 (dk_at dksX0_lasts_2 3 rfl rfl)
theorem dX0_lasts_52 : decode cX0_lasts 52 = .ok (.aload_n 0, 1) := dk_42 (dk_at dksX0_lasts_2 6 rfl rfl)
theorem dX0_lasts_53 : decode cX0_lasts 53 = .ok (.getfield 10, 3) := dk_180 0 10 (dk_at dksX0_lasts_2 7 rfl rfl)
theorem dX0_lasts_56 : decode cX0_lasts 56 = .ok (.aload_n 0, 1) := dk_42 (dk_at dksX0_lasts_2 10 rfl rfl)
theorem dX0_lasts_57 : decode cX0_lasts 57 = .ok (.getfield 26, 3) := dk_180 0 26 (dk_at dksX0_lasts_2 11 rfl rfl)
theorem dX0_lasts_60 : decode cX0_lasts 60 = .ok (.iload_n 1, 1) := dk_27 (dk_at dksX0_lasts_2 14 rfl rfl)
theorem dX0_lasts_61 : decode cX0_lasts 61 = .ok (.invokevirtual 149, 3) := dk_182 0 149 (dk_at dksX0_lasts_2 15 rfl rfl)
theorem dX0_lasts_64 : decode cX0_lasts 64 = .ok (.pop, 1) := dk_87 (dk_at dksX0_lasts_2 18 rfl rfl)
theorem dX0_lasts_65 : decode cX0_lasts 65 = .ok (.iinc 3 1, 3) := dk_132 3 1 (dk_at dksX0_lasts_2 19 rfl rfl)
theorem dX0_lasts_68 : decode cX0_lasts 68 = .ok (.goto (-32), 3) := dk_167 255 224 (dk_at dksX0_lasts_3 0 rfl rfl)
theorem dX0_lasts_71 : decode cX0_lasts 71 = .ok (.iload_n 3, 1) := dk_29 (dk_at dksX0_lasts_3 3 rfl rfl)
theorem dX0_lasts_72 : decode cX0_lasts 72 = .ok (.ireturn, 1) := dk_172 (dk_at dksX0_lasts_3 4 rfl rfl)
abbrev cX0_few : ByteArray := prog_1_method_33_code
def yX0_few : MethodName := ⟨RX0, "few", "(II)I"⟩
def dkwX0_few_3 : List UInt8 := [167, 0, 12, 42, 180, 0, 54, 180, 0, 235, 28, 46, 172]
abbrev dktX0_few_3 : List UInt8 := dkwX0_few_3 ++ []
def dkwX0_few_2 : List UInt8 := [18, 234, 160, 0, 8, 16, 250, 167, 0, 27, 28, 2, 160, 0, 13, 42, 180, 0, 54, 180, 0, 231]
abbrev dktX0_few_2 : List UInt8 := dkwX0_few_2 ++ dktX0_few_3
def dkwX0_few_1 : List UInt8 := [154, 0, 8, 42, 182, 0, 225, 172, 42, 180, 0, 54, 27, 182, 0, 228, 42, 180, 0, 54, 180, 0, 231]
abbrev dktX0_few_1 : List UInt8 := dkwX0_few_1 ++ dktX0_few_2
def dkwX0_few_0 : List UInt8 := [27, 133, 10, 20, 0, 223, 184, 0, 74, 153, 0, 16, 28, 2, 159, 0, 16, 42, 28, 182, 0, 116]
abbrev dktX0_few_0 : List UInt8 := dkwX0_few_0 ++ dktX0_few_1
theorem dksX0_few_0 : cX0_few.data.toList.drop 0 = dktX0_few_0 := by decide +kernel
theorem dksX0_few_1 : cX0_few.data.toList.drop 22 = dktX0_few_1 := dk_seg dksX0_few_0 22 rfl rfl
theorem dksX0_few_2 : cX0_few.data.toList.drop 45 = dktX0_few_2 := dk_seg dksX0_few_1 23 rfl rfl
theorem dksX0_few_3 : cX0_few.data.toList.drop 67 = dktX0_few_3 := dk_seg dksX0_few_2 22 rfl rfl
theorem dX0_few_0 : decode cX0_few 0 = .ok (.iload_n 1, 1) := dk_27 (dk_at dksX0_few_0 0 rfl rfl)
theorem dX0_few_1 : decode cX0_few 1 = .ok (.i2l, 1) := dk_133 (dk_at dksX0_few_0 1 rfl rfl)
theorem dX0_few_2 : decode cX0_few 2 = .ok (.lconst 1, 1) := dk_10 (dk_at dksX0_few_0 2 rfl rfl)
theorem dX0_few_3 : decode cX0_few 3 = .ok (.ldc2_w 223, 3) := dk_20 0 223 (dk_at dksX0_few_0 3 rfl rfl)
theorem dX0_few_6 : decode cX0_few 6 = .ok (.invokestatic 74, 3) := dk_184 0 74 (dk_at dksX0_few_0 6 rfl rfl)
theorem dX0_few_9 : decode cX0_few 9 = .ok (.ifCond .eq 16, 3) := dk_153 0 16 (dk_at dksX0_few_0 9 rfl rfl)
theorem dX0_few_12 : decode cX0_few 12 = .ok (.iload_n 2, 1) := dk_28 (dk_at dksX0_few_0 12 rfl rfl)
theorem dX0_few_13 : decode cX0_few 13 = .ok (.iconst (-1), 1) := dk_2 (dk_at dksX0_few_0 13 rfl rfl)
theorem dX0_few_14 : decode cX0_few 14 = .ok (.if_icmp .eq 16, 3) := dk_159 0 16 (dk_at dksX0_few_0 14 rfl rfl)
theorem dX0_few_17 : decode cX0_few 17 = .ok (.aload_n 0, 1) := dk_42 (dk_at dksX0_few_0 17 rfl rfl)
theorem dX0_few_18 : decode cX0_few 18 = .ok (.iload_n 2, 1) := dk_28 (dk_at dksX0_few_0 18 rfl rfl)
theorem dX0_few_19 : decode cX0_few 19 = .ok (.invokevirtual 116, 3) := dk_182 0 116 (dk_at dksX0_few_0 19 rfl rfl)
theorem dX0_few_22 : decode cX0_few 22 = .ok (.ifCond .ne 8, 3) := dk_154 0 8 (dk_at dksX0_few_1 0 rfl rfl)
theorem dX0_few_25 : decode cX0_few 25 = .ok (.aload_n 0, 1) := dk_42 (dk_at dksX0_few_1 3 rfl rfl)
theorem dX0_few_26 : decode cX0_few 26 = .ok (.invokevirtual 225, 3) := dk_182 0 225 (dk_at dksX0_few_1 4 rfl rfl)
theorem dX0_few_29 : decode cX0_few 29 = .ok (.ireturn, 1) := dk_172 (dk_at dksX0_few_1 7 rfl rfl)
theorem dX0_few_30 : decode cX0_few 30 = .ok (.aload_n 0, 1) := dk_42 (dk_at dksX0_few_1 8 rfl rfl)
theorem dX0_few_31 : decode cX0_few 31 = .ok (.getfield 54, 3) := dk_180 0 54 (dk_at dksX0_few_1 9 rfl rfl)
theorem dX0_few_34 : decode cX0_few 34 = .ok (.iload_n 1, 1) := dk_27 (dk_at dksX0_few_1 12 rfl rfl)
theorem dX0_few_35 : decode cX0_few 35 = .ok (.invokevirtual 228, 3) := dk_182 0 228 (dk_at dksX0_few_1 13 rfl rfl)
theorem dX0_few_38 : decode cX0_few 38 = .ok (.aload_n 0, 1) := dk_42 (dk_at dksX0_few_1 16 rfl rfl)
theorem dX0_few_39 : decode cX0_few 39 = .ok (.getfield 54, 3) := dk_180 0 54 (dk_at dksX0_few_1 17 rfl rfl)
theorem dX0_few_42 : decode cX0_few 42 = .ok (.getfield 231, 3) := dk_180 0 231 (dk_at dksX0_few_1 20 rfl rfl)
theorem dX0_few_45 : decode cX0_few 45 = .ok (.ldc 234, 2) := dk_18 234 (dk_at dksX0_few_2 0 rfl rfl)
theorem dX0_few_47 : decode cX0_few 47 = .ok (.if_icmp .ne 8, 3) := dk_160 0 8 (dk_at dksX0_few_2 2 rfl rfl)
theorem dX0_few_50 : decode cX0_few 50 = .ok (.bipush (-6), 2) := dk_16 250 (dk_at dksX0_few_2 5 rfl rfl)
theorem dX0_few_52 : decode cX0_few 52 = .ok (.goto 27, 3) := dk_167 0 27 (dk_at dksX0_few_2 7 rfl rfl)
theorem dX0_few_55 : decode cX0_few 55 = .ok (.iload_n 2, 1) := dk_28 (dk_at dksX0_few_2 10 rfl rfl)
theorem dX0_few_56 : decode cX0_few 56 = .ok (.iconst (-1), 1) := dk_2 (dk_at dksX0_few_2 11 rfl rfl)
theorem dX0_few_57 : decode cX0_few 57 = .ok (.if_icmp .ne 13, 3) := dk_160 0 13 (dk_at dksX0_few_2 12 rfl rfl)
theorem dX0_few_60 : decode cX0_few 60 = .ok (.aload_n 0, 1) := dk_42 (dk_at dksX0_few_2 15 rfl rfl)
theorem dX0_few_61 : decode cX0_few 61 = .ok (.getfield 54, 3) := dk_180 0 54 (dk_at dksX0_few_2 16 rfl rfl)
theorem dX0_few_64 : decode cX0_few 64 = .ok (.getfield 231, 3) := dk_180 0 231 (dk_at dksX0_few_2 19 rfl rfl)
theorem dX0_few_67 : decode cX0_few 67 = .ok (.goto 12, 3) := dk_167 0 12 (dk_at dksX0_few_3 0 rfl rfl)
theorem dX0_few_70 : decode cX0_few 70 = .ok (.aload_n 0, 1) := dk_42 (dk_at dksX0_few_3 3 rfl rfl)
theorem dX0_few_71 : decode cX0_few 71 = .ok (.getfield 54, 3) := dk_180 0 54 (dk_at dksX0_few_3 4 rfl rfl)
theorem dX0_few_74 : decode cX0_few 74 = .ok (.getfield 235, 3) := dk_180 0 235 (dk_at dksX0_few_3 7 rfl rfl)
theorem dX0_few_77 : decode cX0_few 77 = .ok (.iload_n 2, 1) := dk_28 (dk_at dksX0_few_3 10 rfl rfl)
theorem dX0_few_78 : decode cX0_few 78 = .ok (.iaload, 1) := dk_46 (dk_at dksX0_few_3 11 rfl rfl)
theorem dX0_few_79 : decode cX0_few 79 = .ok (.ireturn, 1) := dk_172 (dk_at dksX0_few_3 12 rfl rfl)
abbrev cX0_badAsk : ByteArray := prog_1_method_7_code
def yX0_badAsk : MethodName := ⟨RX0, "badAsk", "()I"⟩
def dkwX0_badAsk_0 : List UInt8 := [42, 3, 16, 246, 182, 0, 68, 172]
abbrev dktX0_badAsk_0 : List UInt8 := dkwX0_badAsk_0 ++ []
theorem dksX0_badAsk_0 : cX0_badAsk.data.toList.drop 0 = dktX0_badAsk_0 := by decide +kernel
theorem dX0_badAsk_0 : decode cX0_badAsk 0 = .ok (.aload_n 0, 1) := dk_42 (dk_at dksX0_badAsk_0 0 rfl rfl)
theorem dX0_badAsk_1 : decode cX0_badAsk 1 = .ok (.iconst 0, 1) := dk_3 (dk_at dksX0_badAsk_0 1 rfl rfl)
theorem dX0_badAsk_2 : decode cX0_badAsk 2 = .ok (.bipush (-10), 2) := dk_16 246 (dk_at dksX0_badAsk_0 2 rfl rfl)
theorem dX0_badAsk_4 : decode cX0_badAsk 4 = .ok (.invokevirtual 68, 3) := dk_182 0 68 (dk_at dksX0_badAsk_0 4 rfl rfl)
theorem dX0_badAsk_7 : decode cX0_badAsk 7 = .ok (.ireturn, 1) := dk_172 (dk_at dksX0_badAsk_0 7 rfl rfl)
abbrev cX0_crew : ByteArray := prog_1_method_34_code
def yX0_crew : MethodName := ⟨RX0, "crew", "(II)I"⟩
def dkwX0_crew_3 : List UInt8 := [167, 0, 4, 2, 172]
abbrev dktX0_crew_3 : List UInt8 := dkwX0_crew_3 ++ []
def dkwX0_crew_2 : List UInt8 := [180, 0, 10, 180, 0, 91, 180, 0, 155, 28, 46, 2, 160, 0, 15, 42, 180, 0, 61, 180, 0, 242, 28, 46]
abbrev dktX0_crew_2 : List UInt8 := dkwX0_crew_2 ++ dktX0_crew_3
def dkwX0_crew_1 : List UInt8 := [172, 42, 180, 0, 61, 27, 182, 0, 238, 28, 2, 160, 0, 11, 42, 180, 0, 61, 180, 0, 239, 172, 42]
abbrev dktX0_crew_1 : List UInt8 := dkwX0_crew_1 ++ dktX0_crew_2
def dkwX0_crew_0 : List UInt8 := [27, 184, 0, 210, 153, 0, 16, 28, 2, 159, 0, 16, 42, 28, 182, 0, 152, 154, 0, 8, 42, 182, 0, 225]
abbrev dktX0_crew_0 : List UInt8 := dkwX0_crew_0 ++ dktX0_crew_1
theorem dksX0_crew_0 : cX0_crew.data.toList.drop 0 = dktX0_crew_0 := by decide +kernel
theorem dksX0_crew_1 : cX0_crew.data.toList.drop 24 = dktX0_crew_1 := dk_seg dksX0_crew_0 24 rfl rfl
theorem dksX0_crew_2 : cX0_crew.data.toList.drop 47 = dktX0_crew_2 := dk_seg dksX0_crew_1 23 rfl rfl
theorem dksX0_crew_3 : cX0_crew.data.toList.drop 71 = dktX0_crew_3 := dk_seg dksX0_crew_2 24 rfl rfl
theorem dX0_crew_0 : decode cX0_crew 0 = .ok (.iload_n 1, 1) := dk_27 (dk_at dksX0_crew_0 0 rfl rfl)
theorem dX0_crew_1 : decode cX0_crew 1 = .ok (.invokestatic 210, 3) := dk_184 0 210 (dk_at dksX0_crew_0 1 rfl rfl)
theorem dX0_crew_4 : decode cX0_crew 4 = .ok (.ifCond .eq 16, 3) := dk_153 0 16 (dk_at dksX0_crew_0 4 rfl rfl)
theorem dX0_crew_7 : decode cX0_crew 7 = .ok (.iload_n 2, 1) := dk_28 (dk_at dksX0_crew_0 7 rfl rfl)
theorem dX0_crew_8 : decode cX0_crew 8 = .ok (.iconst (-1), 1) := dk_2 (dk_at dksX0_crew_0 8 rfl rfl)
theorem dX0_crew_9 : decode cX0_crew 9 = .ok (.if_icmp .eq 16, 3) := dk_159 0 16 (dk_at dksX0_crew_0 9 rfl rfl)
theorem dX0_crew_12 : decode cX0_crew 12 = .ok (.aload_n 0, 1) := dk_42 (dk_at dksX0_crew_0 12 rfl rfl)
theorem dX0_crew_13 : decode cX0_crew 13 = .ok (.iload_n 2, 1) := dk_28 (dk_at dksX0_crew_0 13 rfl rfl)
theorem dX0_crew_14 : decode cX0_crew 14 = .ok (.invokevirtual 152, 3) := dk_182 0 152 (dk_at dksX0_crew_0 14 rfl rfl)
theorem dX0_crew_17 : decode cX0_crew 17 = .ok (.ifCond .ne 8, 3) := dk_154 0 8 (dk_at dksX0_crew_0 17 rfl rfl)
theorem dX0_crew_20 : decode cX0_crew 20 = .ok (.aload_n 0, 1) := dk_42 (dk_at dksX0_crew_0 20 rfl rfl)
theorem dX0_crew_21 : decode cX0_crew 21 = .ok (.invokevirtual 225, 3) := dk_182 0 225 (dk_at dksX0_crew_0 21 rfl rfl)
theorem dX0_crew_24 : decode cX0_crew 24 = .ok (.ireturn, 1) := dk_172 (dk_at dksX0_crew_1 0 rfl rfl)
theorem dX0_crew_25 : decode cX0_crew 25 = .ok (.aload_n 0, 1) := dk_42 (dk_at dksX0_crew_1 1 rfl rfl)
theorem dX0_crew_26 : decode cX0_crew 26 = .ok (.getfield 61, 3) := dk_180 0 61 (dk_at dksX0_crew_1 2 rfl rfl)
theorem dX0_crew_29 : decode cX0_crew 29 = .ok (.iload_n 1, 1) := dk_27 (dk_at dksX0_crew_1 5 rfl rfl)
theorem dX0_crew_30 : decode cX0_crew 30 = .ok (.invokevirtual 238, 3) := dk_182 0 238 (dk_at dksX0_crew_1 6 rfl rfl)
theorem dX0_crew_33 : decode cX0_crew 33 = .ok (.iload_n 2, 1) := dk_28 (dk_at dksX0_crew_1 9 rfl rfl)
theorem dX0_crew_34 : decode cX0_crew 34 = .ok (.iconst (-1), 1) := dk_2 (dk_at dksX0_crew_1 10 rfl rfl)
theorem dX0_crew_35 : decode cX0_crew 35 = .ok (.if_icmp .ne 11, 3) := dk_160 0 11 (dk_at dksX0_crew_1 11 rfl rfl)
theorem dX0_crew_38 : decode cX0_crew 38 = .ok (.aload_n 0, 1) := dk_42 (dk_at dksX0_crew_1 14 rfl rfl)
theorem dX0_crew_39 : decode cX0_crew 39 = .ok (.getfield 61, 3) := dk_180 0 61 (dk_at dksX0_crew_1 15 rfl rfl)
theorem dX0_crew_42 : decode cX0_crew 42 = .ok (.getfield 239, 3) := dk_180 0 239 (dk_at dksX0_crew_1 18 rfl rfl)
theorem dX0_crew_45 : decode cX0_crew 45 = .ok (.ireturn, 1) := dk_172 (dk_at dksX0_crew_1 21 rfl rfl)
theorem dX0_crew_46 : decode cX0_crew 46 = .ok (.aload_n 0, 1) := dk_42 (dk_at dksX0_crew_1 22 rfl rfl)
theorem dX0_crew_47 : decode cX0_crew 47 = .ok (.getfield 10, 3) := dk_180 0 10 (dk_at dksX0_crew_2 0 rfl rfl)
theorem dX0_crew_50 : decode cX0_crew 50 = .ok (.getfield 91, 3) := dk_180 0 91 (dk_at dksX0_crew_2 3 rfl rfl)
theorem dX0_crew_53 : decode cX0_crew 53 = .ok (.getfield 155, 3) := dk_180 0 155 (dk_at dksX0_crew_2 6 rfl rfl)
theorem dX0_crew_56 : decode cX0_crew 56 = .ok (.iload_n 2, 1) := dk_28 (dk_at dksX0_crew_2 9 rfl rfl)
theorem dX0_crew_57 : decode cX0_crew 57 = .ok (.iaload, 1) := dk_46 (dk_at dksX0_crew_2 10 rfl rfl)
theorem dX0_crew_58 : decode cX0_crew 58 = .ok (.iconst (-1), 1) := dk_2 (dk_at dksX0_crew_2 11 rfl rfl)
theorem dX0_crew_59 : decode cX0_crew 59 = .ok (.if_icmp .ne 15, 3) := dk_160 0 15 (dk_at dksX0_crew_2 12 rfl rfl)
theorem dX0_crew_62 : decode cX0_crew 62 = .ok (.aload_n 0, 1) := dk_42 (dk_at dksX0_crew_2 15 rfl rfl)
theorem dX0_crew_63 : decode cX0_crew 63 = .ok (.getfield 61, 3) := dk_180 0 61 (dk_at dksX0_crew_2 16 rfl rfl)
theorem dX0_crew_66 : decode cX0_crew 66 = .ok (.getfield 242, 3) := dk_180 0 242 (dk_at dksX0_crew_2 19 rfl rfl)
theorem dX0_crew_69 : decode cX0_crew 69 = .ok (.iload_n 2, 1) := dk_28 (dk_at dksX0_crew_2 22 rfl rfl)
theorem dX0_crew_70 : decode cX0_crew 70 = .ok (.iaload, 1) := dk_46 (dk_at dksX0_crew_2 23 rfl rfl)
theorem dX0_crew_71 : decode cX0_crew 71 = .ok (.goto 4, 3) := dk_167 0 4 (dk_at dksX0_crew_3 0 rfl rfl)
theorem dX0_crew_74 : decode cX0_crew 74 = .ok (.iconst (-1), 1) := dk_2 (dk_at dksX0_crew_3 3 rfl rfl)
theorem dX0_crew_75 : decode cX0_crew 75 = .ok (.ireturn, 1) := dk_172 (dk_at dksX0_crew_3 4 rfl rfl)
abbrev cX0_seen : ByteArray := prog_1_method_35_code
def yX0_seen : MethodName := ⟨RX0, "seen", "(IIII)I"⟩
def dkwX0_seen_5 : List UInt8 := [21, 4, 79, 42, 180, 0, 10, 89, 180, 0, 246, 4, 96, 181, 0, 246, 42, 180, 0, 10, 180, 0, 246, 172]
abbrev dktX0_seen_5 : List UInt8 := dkwX0_seen_5 ++ []
def dkwX0_seen_4 : List UInt8 := [180, 0, 10, 180, 0, 249, 21, 5, 5, 96, 29, 79, 42, 180, 0, 10, 180, 0, 249, 21, 5, 6, 96]
abbrev dktX0_seen_4 : List UInt8 := dkwX0_seen_4 ++ dktX0_seen_5
def dkwX0_seen_3 : List UInt8 := [180, 0, 10, 180, 0, 249, 21, 5, 27, 79, 42, 180, 0, 10, 180, 0, 249, 21, 5, 4, 96, 28, 79, 42]
abbrev dktX0_seen_3 : List UInt8 := dkwX0_seen_3 ++ dktX0_seen_4
def dkwX0_seen_2 : List UInt8 := [180, 0, 246, 8, 160, 0, 8, 42, 182, 0, 106, 172, 7, 42, 180, 0, 10, 180, 0, 246, 104, 54, 5, 42]
abbrev dktX0_seen_2 : List UInt8 := dkwX0_seen_2 ++ dktX0_seen_3
def dkwX0_seen_1 : List UInt8 := [153, 0, 14, 21, 4, 133, 9, 10, 184, 0, 74, 154, 0, 8, 42, 182, 0, 102, 172, 42, 180, 0, 10]
abbrev dktX0_seen_1 : List UInt8 := dkwX0_seen_1 ++ dktX0_seen_2
def dkwX0_seen_0 : List UInt8 := [42, 27, 182, 0, 152, 153, 0, 33, 28, 184, 0, 243, 153, 0, 26, 29, 133, 9, 20, 0, 80, 184, 0, 74]
abbrev dktX0_seen_0 : List UInt8 := dkwX0_seen_0 ++ dktX0_seen_1
theorem dksX0_seen_0 : cX0_seen.data.toList.drop 0 = dktX0_seen_0 := by decide +kernel
theorem dksX0_seen_1 : cX0_seen.data.toList.drop 24 = dktX0_seen_1 := dk_seg dksX0_seen_0 24 rfl rfl
theorem dksX0_seen_2 : cX0_seen.data.toList.drop 47 = dktX0_seen_2 := dk_seg dksX0_seen_1 23 rfl rfl
theorem dksX0_seen_3 : cX0_seen.data.toList.drop 71 = dktX0_seen_3 := dk_seg dksX0_seen_2 24 rfl rfl
theorem dksX0_seen_4 : cX0_seen.data.toList.drop 95 = dktX0_seen_4 := dk_seg dksX0_seen_3 24 rfl rfl
theorem dksX0_seen_5 : cX0_seen.data.toList.drop 118 = dktX0_seen_5 := dk_seg dksX0_seen_4 23 rfl rfl
theorem dX0_seen_0 : decode cX0_seen 0 = .ok (.aload_n 0, 1) := dk_42 (dk_at dksX0_seen_0 0 rfl rfl)
theorem dX0_seen_1 : decode cX0_seen 1 = .ok (.iload_n 1, 1) := dk_27 (dk_at dksX0_seen_0 1 rfl rfl)
theorem dX0_seen_2 : decode cX0_seen 2 = .ok (.invokevirtual 152, 3) := dk_182 0 152 (dk_at dksX0_seen_0 2 rfl rfl)
theorem dX0_seen_5 : decode cX0_seen 5 = .ok (.ifCond .eq 33, 3) := dk_153 0 33 (dk_at dksX0_seen_0 5 rfl rfl)
theorem dX0_seen_8 : decode cX0_seen 8 = .ok (.iload_n 2, 1) := dk_28 (dk_at dksX0_seen_0 8 rfl rfl)
theorem dX0_seen_9 : decode cX0_seen 9 = .ok (.invokestatic 243, 3) := dk_184 0 243 (dk_at dksX0_seen_0 9 rfl rfl)
theorem dX0_seen_12 : decode cX0_seen 12 = .ok (.ifCond .eq 26, 3) := dk_153 0 26 (dk_at dksX0_seen_0 12 rfl rfl)
theorem dX0_seen_15 : decode cX0_seen 15 = .ok (.iload_n 3, 1) := dk_29 (dk_at dksX0_seen_0 15 rfl rfl)
theorem dX0_seen_16 : decode cX0_seen 16 = .ok (.i2l, 1) := dk_133 (dk_at dksX0_seen_0 16 rfl rfl)
theorem dX0_seen_17 : decode cX0_seen 17 = .ok (.lconst 0, 1) := dk_9 (dk_at dksX0_seen_0 17 rfl rfl)
theorem dX0_seen_18 : decode cX0_seen 18 = .ok (.ldc2_w 80, 3) := dk_20 0 80 (dk_at dksX0_seen_0 18 rfl rfl)
theorem dX0_seen_21 : decode cX0_seen 21 = .ok (.invokestatic 74, 3) := dk_184 0 74 (dk_at dksX0_seen_0 21 rfl rfl)
theorem dX0_seen_24 : decode cX0_seen 24 = .ok (.ifCond .eq 14, 3) := dk_153 0 14 (dk_at dksX0_seen_1 0 rfl rfl)
theorem dX0_seen_27 : decode cX0_seen 27 = .ok (.iload 4, 2) := dk_21 4 (dk_at dksX0_seen_1 3 rfl rfl)
theorem dX0_seen_29 : decode cX0_seen 29 = .ok (.i2l, 1) := dk_133 (dk_at dksX0_seen_1 5 rfl rfl)
theorem dX0_seen_30 : decode cX0_seen 30 = .ok (.lconst 0, 1) := dk_9 (dk_at dksX0_seen_1 6 rfl rfl)
theorem dX0_seen_31 : decode cX0_seen 31 = .ok (.lconst 1, 1) := dk_10 (dk_at dksX0_seen_1 7 rfl rfl)
theorem dX0_seen_32 : decode cX0_seen 32 = .ok (.invokestatic 74, 3) := dk_184 0 74 (dk_at dksX0_seen_1 8 rfl rfl)
theorem dX0_seen_35 : decode cX0_seen 35 = .ok (.ifCond .ne 8, 3) := dk_154 0 8 (dk_at dksX0_seen_1 11 rfl rfl)
theorem dX0_seen_38 : decode cX0_seen 38 = .ok (.aload_n 0, 1) := dk_42 (dk_at dksX0_seen_1 14 rfl rfl)
theorem dX0_seen_39 : decode cX0_seen 39 = .ok (.invokevirtual 102, 3) := dk_182 0 102 (dk_at dksX0_seen_1 15 rfl rfl)
theorem dX0_seen_42 : decode cX0_seen 42 = .ok (.ireturn, 1) := dk_172 (dk_at dksX0_seen_1 18 rfl rfl)
theorem dX0_seen_43 : decode cX0_seen 43 = .ok (.aload_n 0, 1) := dk_42 (dk_at dksX0_seen_1 19 rfl rfl)
theorem dX0_seen_44 : decode cX0_seen 44 = .ok (.getfield 10, 3) := dk_180 0 10 (dk_at dksX0_seen_1 20 rfl rfl)
theorem dX0_seen_47 : decode cX0_seen 47 = .ok (.getfield 246, 3) := dk_180 0 246 (dk_at dksX0_seen_2 0 rfl rfl)
theorem dX0_seen_50 : decode cX0_seen 50 = .ok (.iconst 5, 1) := dk_8 (dk_at dksX0_seen_2 3 rfl rfl)
theorem dX0_seen_51 : decode cX0_seen 51 = .ok (.if_icmp .ne 8, 3) := dk_160 0 8 (dk_at dksX0_seen_2 4 rfl rfl)
theorem dX0_seen_54 : decode cX0_seen 54 = .ok (.aload_n 0, 1) := dk_42 (dk_at dksX0_seen_2 7 rfl rfl)
theorem dX0_seen_55 : decode cX0_seen 55 = .ok (.invokevirtual 106, 3) := dk_182 0 106 (dk_at dksX0_seen_2 8 rfl rfl)
theorem dX0_seen_58 : decode cX0_seen 58 = .ok (.ireturn, 1) := dk_172 (dk_at dksX0_seen_2 11 rfl rfl)
theorem dX0_seen_59 : decode cX0_seen 59 = .ok (.iconst 4, 1) := dk_7 (dk_at dksX0_seen_2 12 rfl rfl)
theorem dX0_seen_60 : decode cX0_seen 60 = .ok (.aload_n 0, 1) := dk_42 (dk_at dksX0_seen_2 13 rfl rfl)
theorem dX0_seen_61 : decode cX0_seen 61 = .ok (.getfield 10, 3) := dk_180 0 10 (dk_at dksX0_seen_2 14 rfl rfl)
theorem dX0_seen_64 : decode cX0_seen 64 = .ok (.getfield 246, 3) := dk_180 0 246 (dk_at dksX0_seen_2 17 rfl rfl)
theorem dX0_seen_67 : decode cX0_seen 67 = .ok (.imul, 1) := dk_104 (dk_at dksX0_seen_2 20 rfl rfl)
theorem dX0_seen_68 : decode cX0_seen 68 = .ok (.istore 5, 2) := dk_54 5 (dk_at dksX0_seen_2 21 rfl rfl)
theorem dX0_seen_70 : decode cX0_seen 70 = .ok (.aload_n 0, 1) := dk_42 (dk_at dksX0_seen_2 23 rfl rfl)
theorem dX0_seen_71 : decode cX0_seen 71 = .ok (.getfield 10, 3) := dk_180 0 10 (dk_at dksX0_seen_3 0 rfl rfl)
theorem dX0_seen_74 : decode cX0_seen 74 = .ok (.getfield 249, 3) := dk_180 0 249 (dk_at dksX0_seen_3 3 rfl rfl)
theorem dX0_seen_77 : decode cX0_seen 77 = .ok (.iload 5, 2) := dk_21 5 (dk_at dksX0_seen_3 6 rfl rfl)
theorem dX0_seen_79 : decode cX0_seen 79 = .ok (.iload_n 1, 1) := dk_27 (dk_at dksX0_seen_3 8 rfl rfl)
theorem dX0_seen_80 : decode cX0_seen 80 = .ok (.iastore, 1) := dk_79 (dk_at dksX0_seen_3 9 rfl rfl)
theorem dX0_seen_81 : decode cX0_seen 81 = .ok (.aload_n 0, 1) := dk_42 (dk_at dksX0_seen_3 10 rfl rfl)
theorem dX0_seen_82 : decode cX0_seen 82 = .ok (.getfield 10, 3) := dk_180 0 10 (dk_at dksX0_seen_3 11 rfl rfl)
theorem dX0_seen_85 : decode cX0_seen 85 = .ok (.getfield 249, 3) := dk_180 0 249 (dk_at dksX0_seen_3 14 rfl rfl)
theorem dX0_seen_88 : decode cX0_seen 88 = .ok (.iload 5, 2) := dk_21 5 (dk_at dksX0_seen_3 17 rfl rfl)
theorem dX0_seen_90 : decode cX0_seen 90 = .ok (.iconst 1, 1) := dk_4 (dk_at dksX0_seen_3 19 rfl rfl)
theorem dX0_seen_91 : decode cX0_seen 91 = .ok (.iadd, 1) := dk_96 (dk_at dksX0_seen_3 20 rfl rfl)
theorem dX0_seen_92 : decode cX0_seen 92 = .ok (.iload_n 2, 1) := dk_28 (dk_at dksX0_seen_3 21 rfl rfl)
theorem dX0_seen_93 : decode cX0_seen 93 = .ok (.iastore, 1) := dk_79 (dk_at dksX0_seen_3 22 rfl rfl)
theorem dX0_seen_94 : decode cX0_seen 94 = .ok (.aload_n 0, 1) := dk_42 (dk_at dksX0_seen_3 23 rfl rfl)
theorem dX0_seen_95 : decode cX0_seen 95 = .ok (.getfield 10, 3) := dk_180 0 10 (dk_at dksX0_seen_4 0 rfl rfl)
theorem dX0_seen_98 : decode cX0_seen 98 = .ok (.getfield 249, 3) := dk_180 0 249 (dk_at dksX0_seen_4 3 rfl rfl)
theorem dX0_seen_101 : decode cX0_seen 101 = .ok (.iload 5, 2) := dk_21 5 (dk_at dksX0_seen_4 6 rfl rfl)
theorem dX0_seen_103 : decode cX0_seen 103 = .ok (.iconst 2, 1) := dk_5 (dk_at dksX0_seen_4 8 rfl rfl)
theorem dX0_seen_104 : decode cX0_seen 104 = .ok (.iadd, 1) := dk_96 (dk_at dksX0_seen_4 9 rfl rfl)
theorem dX0_seen_105 : decode cX0_seen 105 = .ok (.iload_n 3, 1) := dk_29 (dk_at dksX0_seen_4 10 rfl rfl)
theorem dX0_seen_106 : decode cX0_seen 106 = .ok (.iastore, 1) := dk_79 (dk_at dksX0_seen_4 11 rfl rfl)
theorem dX0_seen_107 : decode cX0_seen 107 = .ok (.aload_n 0, 1) := dk_42 (dk_at dksX0_seen_4 12 rfl rfl)
theorem dX0_seen_108 : decode cX0_seen 108 = .ok (.getfield 10, 3) := dk_180 0 10 (dk_at dksX0_seen_4 13 rfl rfl)
theorem dX0_seen_111 : decode cX0_seen 111 = .ok (.getfield 249, 3) := dk_180 0 249 (dk_at dksX0_seen_4 16 rfl rfl)
theorem dX0_seen_114 : decode cX0_seen 114 = .ok (.iload 5, 2) := dk_21 5 (dk_at dksX0_seen_4 19 rfl rfl)
theorem dX0_seen_116 : decode cX0_seen 116 = .ok (.iconst 3, 1) := dk_6 (dk_at dksX0_seen_4 21 rfl rfl)
theorem dX0_seen_117 : decode cX0_seen 117 = .ok (.iadd, 1) := dk_96 (dk_at dksX0_seen_4 22 rfl rfl)
theorem dX0_seen_118 : decode cX0_seen 118 = .ok (.iload 4, 2) := dk_21 4 (dk_at dksX0_seen_5 0 rfl rfl)
theorem dX0_seen_120 : decode cX0_seen 120 = .ok (.iastore, 1) := dk_79 (dk_at dksX0_seen_5 2 rfl rfl)
theorem dX0_seen_121 : decode cX0_seen 121 = .ok (.aload_n 0, 1) := dk_42 (dk_at dksX0_seen_5 3 rfl rfl)
theorem dX0_seen_122 : decode cX0_seen 122 = .ok (.getfield 10, 3) := dk_180 0 10 (dk_at dksX0_seen_5 4 rfl rfl)
theorem dX0_seen_125 : decode cX0_seen 125 = .ok (.dup, 1) := dk_89 (dk_at dksX0_seen_5 7 rfl rfl)
theorem dX0_seen_126 : decode cX0_seen 126 = .ok (.getfield 246, 3) := dk_180 0 246 (dk_at dksX0_seen_5 8 rfl rfl)
theorem dX0_seen_129 : decode cX0_seen 129 = .ok (.iconst 1, 1) := dk_4 (dk_at dksX0_seen_5 11 rfl rfl)
theorem dX0_seen_130 : decode cX0_seen 130 = .ok (.iadd, 1) := dk_96 (dk_at dksX0_seen_5 12 rfl rfl)
theorem dX0_seen_131 : decode cX0_seen 131 = .ok (.putfield 246, 3) := dk_181 0 246 (dk_at dksX0_seen_5 13 rfl rfl)
theorem dX0_seen_134 : decode cX0_seen 134 = .ok (.aload_n 0, 1) := dk_42 (dk_at dksX0_seen_5 16 rfl rfl)
theorem dX0_seen_135 : decode cX0_seen 135 = .ok (.getfield 10, 3) := dk_180 0 10 (dk_at dksX0_seen_5 17 rfl rfl)
theorem dX0_seen_138 : decode cX0_seen 138 = .ok (.getfield 246, 3) := dk_180 0 246 (dk_at dksX0_seen_5 20 rfl rfl)
theorem dX0_seen_141 : decode cX0_seen 141 = .ok (.ireturn, 1) := dk_172 (dk_at dksX0_seen_5 23 rfl rfl)
abbrev cX0_isLong : ByteArray := prog_1_method_11_code
def yX0_isLong : MethodName := ⟨RX0, "isLong", "(I)Z"⟩
def dkwX0_isLong_0 : List UInt8 := [26, 133, 9, 20, 0, 82, 184, 0, 74, 172]
abbrev dktX0_isLong_0 : List UInt8 := dkwX0_isLong_0 ++ []
theorem dksX0_isLong_0 : cX0_isLong.data.toList.drop 0 = dktX0_isLong_0 := by decide +kernel
theorem dX0_isLong_0 : decode cX0_isLong 0 = .ok (.iload_n 0, 1) := dk_26 (dk_at dksX0_isLong_0 0 rfl rfl)
theorem dX0_isLong_1 : decode cX0_isLong 1 = .ok (.i2l, 1) := dk_133 (dk_at dksX0_isLong_0 1 rfl rfl)
theorem dX0_isLong_2 : decode cX0_isLong 2 = .ok (.lconst 0, 1) := dk_9 (dk_at dksX0_isLong_0 2 rfl rfl)
theorem dX0_isLong_3 : decode cX0_isLong 3 = .ok (.ldc2_w 82, 3) := dk_20 0 82 (dk_at dksX0_isLong_0 3 rfl rfl)
theorem dX0_isLong_6 : decode cX0_isLong 6 = .ok (.invokestatic 74, 3) := dk_184 0 74 (dk_at dksX0_isLong_0 6 rfl rfl)
theorem dX0_isLong_9 : decode cX0_isLong 9 = .ok (.ireturn, 1) := dk_172 (dk_at dksX0_isLong_0 9 rfl rfl)
abbrev cX0_skilled : ByteArray := prog_1_method_37_code
def yX0_skilled : MethodName := ⟨RX0, "skilled", "(II)I"⟩
def dkwX0_skilled_4 : List UInt8 := [21, 4, 167, 0, 5, 21, 5, 172]
abbrev dktX0_skilled_4 : List UInt8 := dkwX0_skilled_4 ++ []
def dkwX0_skilled_3 : List UInt8 := [21, 6, 54, 5, 132, 6, 1, 167, 255, 214, 28, 154, 0, 7, 29, 167, 0, 15, 28, 4, 160, 0, 8]
abbrev dktX0_skilled_3 : List UInt8 := dkwX0_skilled_3 ++ dktX0_skilled_4
def dkwX0_skilled_2 : List UInt8 := [182, 0, 254, 153, 0, 25, 132, 3, 1, 21, 4, 2, 160, 0, 8, 21, 6, 167, 0, 5, 21, 4, 54, 4]
abbrev dktX0_skilled_2 : List UInt8 := dkwX0_skilled_2 ++ dktX0_skilled_3
def dkwX0_skilled_1 : List UInt8 := [172, 3, 62, 2, 54, 4, 2, 54, 5, 4, 54, 6, 21, 6, 16, 9, 163, 0, 41, 42, 27, 21, 6]
abbrev dktX0_skilled_1 : List UInt8 := dkwX0_skilled_1 ++ dktX0_skilled_2
def dkwX0_skilled_0 : List UInt8 := [42, 27, 182, 0, 152, 153, 0, 15, 28, 133, 9, 20, 0, 252, 184, 0, 74, 154, 0, 8, 42, 182, 0, 102]
abbrev dktX0_skilled_0 : List UInt8 := dkwX0_skilled_0 ++ dktX0_skilled_1
theorem dksX0_skilled_0 : cX0_skilled.data.toList.drop 0 = dktX0_skilled_0 := by decide +kernel
theorem dksX0_skilled_1 : cX0_skilled.data.toList.drop 24 = dktX0_skilled_1 := dk_seg dksX0_skilled_0 24 rfl rfl
theorem dksX0_skilled_2 : cX0_skilled.data.toList.drop 47 = dktX0_skilled_2 := dk_seg dksX0_skilled_1 23 rfl rfl
theorem dksX0_skilled_3 : cX0_skilled.data.toList.drop 71 = dktX0_skilled_3 := dk_seg dksX0_skilled_2 24 rfl rfl
theorem dksX0_skilled_4 : cX0_skilled.data.toList.drop 94 = dktX0_skilled_4 := dk_seg dksX0_skilled_3 23 rfl rfl
theorem dX0_skilled_0 : decode cX0_skilled 0 = .ok (.aload_n 0, 1) := dk_42 (dk_at dksX0_skilled_0 0 rfl rfl)
theorem dX0_skilled_1 : decode cX0_skilled 1 = .ok (.iload_n 1, 1) := dk_27 (dk_at dksX0_skilled_0 1 rfl rfl)
theorem dX0_skilled_2 : decode cX0_skilled 2 = .ok (.invokevirtual 152, 3) := dk_182 0 152 (dk_at dksX0_skilled_0 2 rfl rfl)
theorem dX0_skilled_5 : decode cX0_skilled 5 = .ok (.ifCond .eq 15, 3) := dk_153 0 15 (dk_at dksX0_skilled_0 5 rfl rfl)
theorem dX0_skilled_8 : decode cX0_skilled 8 = .ok (.iload_n 2, 1) := dk_28 (dk_at dksX0_skilled_0 8 rfl rfl)
theorem dX0_skilled_9 : decode cX0_skilled 9 = .ok (.i2l, 1) := dk_133 (dk_at dksX0_skilled_0 9 rfl rfl)
theorem dX0_skilled_10 : decode cX0_skilled 10 = .ok (.lconst 0, 1) := dk_9 (dk_at dksX0_skilled_0 10 rfl rfl)
theorem dX0_skilled_11 : decode cX0_skilled 11 = .ok (.ldc2_w 252, 3) := dk_20 0 252 (dk_at dksX0_skilled_0 11 rfl rfl)
theorem dX0_skilled_14 : decode cX0_skilled 14 = .ok (.invokestatic 74, 3) := dk_184 0 74 (dk_at dksX0_skilled_0 14 rfl rfl)
theorem dX0_skilled_17 : decode cX0_skilled 17 = .ok (.ifCond .ne 8, 3) := dk_154 0 8 (dk_at dksX0_skilled_0 17 rfl rfl)
theorem dX0_skilled_20 : decode cX0_skilled 20 = .ok (.aload_n 0, 1) := dk_42 (dk_at dksX0_skilled_0 20 rfl rfl)
theorem dX0_skilled_21 : decode cX0_skilled 21 = .ok (.invokevirtual 102, 3) := dk_182 0 102 (dk_at dksX0_skilled_0 21 rfl rfl)
theorem dX0_skilled_24 : decode cX0_skilled 24 = .ok (.ireturn, 1) := dk_172 (dk_at dksX0_skilled_1 0 rfl rfl)
theorem dX0_skilled_25 : decode cX0_skilled 25 = .ok (.iconst 0, 1) := dk_3 (dk_at dksX0_skilled_1 1 rfl rfl)
theorem dX0_skilled_26 : decode cX0_skilled 26 = .ok (.istore_n 3, 1) := dk_62 (dk_at dksX0_skilled_1 2 rfl rfl)
theorem dX0_skilled_27 : decode cX0_skilled 27 = .ok (.iconst (-1), 1) := dk_2 (dk_at dksX0_skilled_1 3 rfl rfl)
theorem dX0_skilled_28 : decode cX0_skilled 28 = .ok (.istore 4, 2) := dk_54 4 (dk_at dksX0_skilled_1 4 rfl rfl)
theorem dX0_skilled_30 : decode cX0_skilled 30 = .ok (.iconst (-1), 1) := dk_2 (dk_at dksX0_skilled_1 6 rfl rfl)
theorem dX0_skilled_31 : decode cX0_skilled 31 = .ok (.istore 5, 2) := dk_54 5 (dk_at dksX0_skilled_1 7 rfl rfl)
theorem dX0_skilled_33 : decode cX0_skilled 33 = .ok (.iconst 1, 1) := dk_4 (dk_at dksX0_skilled_1 9 rfl rfl)
theorem dX0_skilled_34 : decode cX0_skilled 34 = .ok (.istore 6, 2) := dk_54 6 (dk_at dksX0_skilled_1 10 rfl rfl)
theorem dX0_skilled_36 : decode cX0_skilled 36 = .ok (.iload 6, 2) := dk_21 6 (dk_at dksX0_skilled_1 12 rfl rfl)
theorem dX0_skilled_38 : decode cX0_skilled 38 = .ok (.bipush 9, 2) := dk_16 9 (dk_at dksX0_skilled_1 14 rfl rfl)
theorem dX0_skilled_40 : decode cX0_skilled 40 = .ok (.if_icmp .gt 41, 3) := dk_163 0 41 (dk_at dksX0_skilled_1 16 rfl rfl)
theorem dX0_skilled_43 : decode cX0_skilled 43 = .ok (.aload_n 0, 1) := dk_42 (dk_at dksX0_skilled_1 19 rfl rfl)
theorem dX0_skilled_44 : decode cX0_skilled 44 = .ok (.iload_n 1, 1) := dk_27 (dk_at dksX0_skilled_1 20 rfl rfl)
theorem dX0_skilled_45 : decode cX0_skilled 45 = .ok (.iload 6, 2) := dk_21 6 (dk_at dksX0_skilled_1 21 rfl rfl)
theorem dX0_skilled_47 : decode cX0_skilled 47 = .ok (.invokevirtual 254, 3) := dk_182 0 254 (dk_at dksX0_skilled_2 0 rfl rfl)
theorem dX0_skilled_50 : decode cX0_skilled 50 = .ok (.ifCond .eq 25, 3) := dk_153 0 25 (dk_at dksX0_skilled_2 3 rfl rfl)
theorem dX0_skilled_53 : decode cX0_skilled 53 = .ok (.iinc 3 1, 3) := dk_132 3 1 (dk_at dksX0_skilled_2 6 rfl rfl)
theorem dX0_skilled_56 : decode cX0_skilled 56 = .ok (.iload 4, 2) := dk_21 4 (dk_at dksX0_skilled_2 9 rfl rfl)
theorem dX0_skilled_58 : decode cX0_skilled 58 = .ok (.iconst (-1), 1) := dk_2 (dk_at dksX0_skilled_2 11 rfl rfl)
theorem dX0_skilled_59 : decode cX0_skilled 59 = .ok (.if_icmp .ne 8, 3) := dk_160 0 8 (dk_at dksX0_skilled_2 12 rfl rfl)
theorem dX0_skilled_62 : decode cX0_skilled 62 = .ok (.iload 6, 2) := dk_21 6 (dk_at dksX0_skilled_2 15 rfl rfl)
theorem dX0_skilled_64 : decode cX0_skilled 64 = .ok (.goto 5, 3) := dk_167 0 5 (dk_at dksX0_skilled_2 17 rfl rfl)
theorem dX0_skilled_67 : decode cX0_skilled 67 = .ok (.iload 4, 2) := dk_21 4 (dk_at dksX0_skilled_2 20 rfl rfl)
theorem dX0_skilled_69 : decode cX0_skilled 69 = .ok (.istore 4, 2) := dk_54 4 (dk_at dksX0_skilled_2 22 rfl rfl)
theorem dX0_skilled_71 : decode cX0_skilled 71 = .ok (.iload 6, 2) := dk_21 6 (dk_at dksX0_skilled_3 0 rfl rfl)
theorem dX0_skilled_73 : decode cX0_skilled 73 = .ok (.istore 5, 2) := dk_54 5 (dk_at dksX0_skilled_3 2 rfl rfl)
theorem dX0_skilled_75 : decode cX0_skilled 75 = .ok (.iinc 6 1, 3) := dk_132 6 1 (dk_at dksX0_skilled_3 4 rfl rfl)
theorem dX0_skilled_78 : decode cX0_skilled 78 = .ok (.goto (-42), 3) := dk_167 255 214 (dk_at dksX0_skilled_3 7 rfl rfl)
theorem dX0_skilled_81 : decode cX0_skilled 81 = .ok (.iload_n 2, 1) := dk_28 (dk_at dksX0_skilled_3 10 rfl rfl)
theorem dX0_skilled_82 : decode cX0_skilled 82 = .ok (.ifCond .ne 7, 3) := dk_154 0 7 (dk_at dksX0_skilled_3 11 rfl rfl)
theorem dX0_skilled_85 : decode cX0_skilled 85 = .ok (.iload_n 3, 1) := dk_29 (dk_at dksX0_skilled_3 14 rfl rfl)
theorem dX0_skilled_86 : decode cX0_skilled 86 = .ok (.goto 15, 3) := dk_167 0 15 (dk_at dksX0_skilled_3 15 rfl rfl)
theorem dX0_skilled_89 : decode cX0_skilled 89 = .ok (.iload_n 2, 1) := dk_28 (dk_at dksX0_skilled_3 18 rfl rfl)
theorem dX0_skilled_90 : decode cX0_skilled 90 = .ok (.iconst 1, 1) := dk_4 (dk_at dksX0_skilled_3 19 rfl rfl)
theorem dX0_skilled_91 : decode cX0_skilled 91 = .ok (.if_icmp .ne 8, 3) := dk_160 0 8 (dk_at dksX0_skilled_3 20 rfl rfl)
theorem dX0_skilled_94 : decode cX0_skilled 94 = .ok (.iload 4, 2) := dk_21 4 (dk_at dksX0_skilled_4 0 rfl rfl)
theorem dX0_skilled_96 : decode cX0_skilled 96 = .ok (.goto 5, 3) := dk_167 0 5 (dk_at dksX0_skilled_4 2 rfl rfl)
theorem dX0_skilled_99 : decode cX0_skilled 99 = .ok (.iload 5, 2) := dk_21 5 (dk_at dksX0_skilled_4 5 rfl rfl)
theorem dX0_skilled_101 : decode cX0_skilled 101 = .ok (.ireturn, 1) := dk_172 (dk_at dksX0_skilled_4 7 rfl rfl)
abbrev cX0_mayBe : ByteArray := prog_1_method_36_code
def yX0_mayBe : MethodName := ⟨RX0, "mayBe", "(II)Z"⟩
def dkwX0_mayBe_5 : List UInt8 := [3, 62, 132, 4, 1, 167, 255, 138, 29, 172]
abbrev dktX0_mayBe_5 : List UInt8 := dkwX0_mayBe_5 ++ []
def dkwX0_mayBe_4 : List UInt8 := [180, 0, 249, 21, 5, 6, 96, 46, 4, 160, 0, 7, 4, 167, 0, 4, 3, 160, 0, 7, 4, 167, 0, 4]
abbrev dktX0_mayBe_4 : List UInt8 := dkwX0_mayBe_4 ++ dktX0_mayBe_5
def dkwX0_mayBe_3 : List UInt8 := [54, 6, 42, 180, 0, 10, 180, 0, 249, 21, 5, 46, 27, 160, 0, 29, 21, 6, 42, 180, 0, 10]
abbrev dktX0_mayBe_3 : List UInt8 := dkwX0_mayBe_3 ++ dktX0_mayBe_4
def dkwX0_mayBe_2 : List UInt8 := [46, 182, 0, 186, 42, 180, 0, 10, 180, 0, 249, 21, 5, 5, 96, 46, 163, 0, 7, 4, 167, 0, 4, 3]
abbrev dktX0_mayBe_2 : List UInt8 := dkwX0_mayBe_2 ++ dktX0_mayBe_3
def dkwX0_mayBe_1 : List UInt8 := [104, 54, 5, 42, 180, 0, 10, 180, 0, 177, 27, 50, 28, 42, 180, 0, 10, 180, 0, 249, 21, 5, 4, 96]
abbrev dktX0_mayBe_1 : List UInt8 := dkwX0_mayBe_1 ++ dktX0_mayBe_2
def dkwX0_mayBe_0 : List UInt8 := [4, 62, 3, 54, 4, 21, 4, 42, 180, 0, 10, 180, 0, 246, 162, 0, 112, 29, 153, 0, 108, 7, 21, 4]
abbrev dktX0_mayBe_0 : List UInt8 := dkwX0_mayBe_0 ++ dktX0_mayBe_1
theorem dksX0_mayBe_0 : cX0_mayBe.data.toList.drop 0 = dktX0_mayBe_0 := by decide +kernel
theorem dksX0_mayBe_1 : cX0_mayBe.data.toList.drop 24 = dktX0_mayBe_1 := dk_seg dksX0_mayBe_0 24 rfl rfl
theorem dksX0_mayBe_2 : cX0_mayBe.data.toList.drop 48 = dktX0_mayBe_2 := dk_seg dksX0_mayBe_1 24 rfl rfl
theorem dksX0_mayBe_3 : cX0_mayBe.data.toList.drop 72 = dktX0_mayBe_3 := dk_seg dksX0_mayBe_2 24 rfl rfl
theorem dksX0_mayBe_4 : cX0_mayBe.data.toList.drop 94 = dktX0_mayBe_4 := dk_seg dksX0_mayBe_3 22 rfl rfl
theorem dksX0_mayBe_5 : cX0_mayBe.data.toList.drop 118 = dktX0_mayBe_5 := dk_seg dksX0_mayBe_4 24 rfl rfl
theorem dX0_mayBe_0 : decode cX0_mayBe 0 = .ok (.iconst 1, 1) := dk_4 (dk_at dksX0_mayBe_0 0 rfl rfl)
theorem dX0_mayBe_1 : decode cX0_mayBe 1 = .ok (.istore_n 3, 1) := dk_62 (dk_at dksX0_mayBe_0 1 rfl rfl)
theorem dX0_mayBe_2 : decode cX0_mayBe 2 = .ok (.iconst 0, 1) := dk_3 (dk_at dksX0_mayBe_0 2 rfl rfl)
theorem dX0_mayBe_3 : decode cX0_mayBe 3 = .ok (.istore 4, 2) := dk_54 4 (dk_at dksX0_mayBe_0 3 rfl rfl)
theorem dX0_mayBe_5 : decode cX0_mayBe 5 = .ok (.iload 4, 2) := dk_21 4 (dk_at dksX0_mayBe_0 5 rfl rfl)
theorem dX0_mayBe_7 : decode cX0_mayBe 7 = .ok (.aload_n 0, 1) := dk_42 (dk_at dksX0_mayBe_0 7 rfl rfl)
theorem dX0_mayBe_8 : decode cX0_mayBe 8 = .ok (.getfield 10, 3) := dk_180 0 10 (dk_at dksX0_mayBe_0 8 rfl rfl)
theorem dX0_mayBe_11 : decode cX0_mayBe 11 = .ok (.getfield 246, 3) := dk_180 0 246 (dk_at dksX0_mayBe_0 11 rfl rfl)
theorem dX0_mayBe_14 : decode cX0_mayBe 14 = .ok (.if_icmp .ge 112, 3) := dk_162 0 112 (dk_at dksX0_mayBe_0 14 rfl rfl)
theorem dX0_mayBe_17 : decode cX0_mayBe 17 = .ok (.iload_n 3, 1) := dk_29 (dk_at dksX0_mayBe_0 17 rfl rfl)
theorem dX0_mayBe_18 : decode cX0_mayBe 18 = .ok (.ifCond .eq 108, 3) := dk_153 0 108 (dk_at dksX0_mayBe_0 18 rfl rfl)
theorem dX0_mayBe_21 : decode cX0_mayBe 21 = .ok (.iconst 4, 1) := dk_7 (dk_at dksX0_mayBe_0 21 rfl rfl)
theorem dX0_mayBe_22 : decode cX0_mayBe 22 = .ok (.iload 4, 2) := dk_21 4 (dk_at dksX0_mayBe_0 22 rfl rfl)
theorem dX0_mayBe_24 : decode cX0_mayBe 24 = .ok (.imul, 1) := dk_104 (dk_at dksX0_mayBe_1 0 rfl rfl)
theorem dX0_mayBe_25 : decode cX0_mayBe 25 = .ok (.istore 5, 2) := dk_54 5 (dk_at dksX0_mayBe_1 1 rfl rfl)
theorem dX0_mayBe_27 : decode cX0_mayBe 27 = .ok (.aload_n 0, 1) := dk_42 (dk_at dksX0_mayBe_1 3 rfl rfl)
theorem dX0_mayBe_28 : decode cX0_mayBe 28 = .ok (.getfield 10, 3) := dk_180 0 10 (dk_at dksX0_mayBe_1 4 rfl rfl)
theorem dX0_mayBe_31 : decode cX0_mayBe 31 = .ok (.getfield 177, 3) := dk_180 0 177 (dk_at dksX0_mayBe_1 7 rfl rfl)
theorem dX0_mayBe_34 : decode cX0_mayBe 34 = .ok (.iload_n 1, 1) := dk_27 (dk_at dksX0_mayBe_1 10 rfl rfl)
theorem dX0_mayBe_35 : decode cX0_mayBe 35 = .ok (.aaload, 1) := dk_50 (dk_at dksX0_mayBe_1 11 rfl rfl)
theorem dX0_mayBe_36 : decode cX0_mayBe 36 = .ok (.iload_n 2, 1) := dk_28 (dk_at dksX0_mayBe_1 12 rfl rfl)
theorem dX0_mayBe_37 : decode cX0_mayBe 37 = .ok (.aload_n 0, 1) := dk_42 (dk_at dksX0_mayBe_1 13 rfl rfl)
theorem dX0_mayBe_38 : decode cX0_mayBe 38 = .ok (.getfield 10, 3) := dk_180 0 10 (dk_at dksX0_mayBe_1 14 rfl rfl)
theorem dX0_mayBe_41 : decode cX0_mayBe 41 = .ok (.getfield 249, 3) := dk_180 0 249 (dk_at dksX0_mayBe_1 17 rfl rfl)
theorem dX0_mayBe_44 : decode cX0_mayBe 44 = .ok (.iload 5, 2) := dk_21 5 (dk_at dksX0_mayBe_1 20 rfl rfl)
theorem dX0_mayBe_46 : decode cX0_mayBe 46 = .ok (.iconst 1, 1) := dk_4 (dk_at dksX0_mayBe_1 22 rfl rfl)
theorem dX0_mayBe_47 : decode cX0_mayBe 47 = .ok (.iadd, 1) := dk_96 (dk_at dksX0_mayBe_1 23 rfl rfl)
theorem dX0_mayBe_48 : decode cX0_mayBe 48 = .ok (.iaload, 1) := dk_46 (dk_at dksX0_mayBe_2 0 rfl rfl)
theorem dX0_mayBe_49 : decode cX0_mayBe 49 = .ok (.invokevirtual 186, 3) := dk_182 0 186 (dk_at dksX0_mayBe_2 1 rfl rfl)
theorem dX0_mayBe_52 : decode cX0_mayBe 52 = .ok (.aload_n 0, 1) := dk_42 (dk_at dksX0_mayBe_2 4 rfl rfl)
theorem dX0_mayBe_53 : decode cX0_mayBe 53 = .ok (.getfield 10, 3) := dk_180 0 10 (dk_at dksX0_mayBe_2 5 rfl rfl)
theorem dX0_mayBe_56 : decode cX0_mayBe 56 = .ok (.getfield 249, 3) := dk_180 0 249 (dk_at dksX0_mayBe_2 8 rfl rfl)
theorem dX0_mayBe_59 : decode cX0_mayBe 59 = .ok (.iload 5, 2) := dk_21 5 (dk_at dksX0_mayBe_2 11 rfl rfl)
theorem dX0_mayBe_61 : decode cX0_mayBe 61 = .ok (.iconst 2, 1) := dk_5 (dk_at dksX0_mayBe_2 13 rfl rfl)
theorem dX0_mayBe_62 : decode cX0_mayBe 62 = .ok (.iadd, 1) := dk_96 (dk_at dksX0_mayBe_2 14 rfl rfl)
theorem dX0_mayBe_63 : decode cX0_mayBe 63 = .ok (.iaload, 1) := dk_46 (dk_at dksX0_mayBe_2 15 rfl rfl)
theorem dX0_mayBe_64 : decode cX0_mayBe 64 = .ok (.if_icmp .gt 7, 3) := dk_163 0 7 (dk_at dksX0_mayBe_2 16 rfl rfl)
theorem dX0_mayBe_67 : decode cX0_mayBe 67 = .ok (.iconst 1, 1) := dk_4 (dk_at dksX0_mayBe_2 19 rfl rfl)
theorem dX0_mayBe_68 : decode cX0_mayBe 68 = .ok (.goto 4, 3) := dk_167 0 4 (dk_at dksX0_mayBe_2 20 rfl rfl)
theorem dX0_mayBe_71 : decode cX0_mayBe 71 = .ok (.iconst 0, 1) := dk_3 (dk_at dksX0_mayBe_2 23 rfl rfl)
theorem dX0_mayBe_72 : decode cX0_mayBe 72 = .ok (.istore 6, 2) := dk_54 6 (dk_at dksX0_mayBe_3 0 rfl rfl)
theorem dX0_mayBe_74 : decode cX0_mayBe 74 = .ok (.aload_n 0, 1) := dk_42 (dk_at dksX0_mayBe_3 2 rfl rfl)
theorem dX0_mayBe_75 : decode cX0_mayBe 75 = .ok (.getfield 10, 3) := dk_180 0 10 (dk_at dksX0_mayBe_3 3 rfl rfl)
theorem dX0_mayBe_78 : decode cX0_mayBe 78 = .ok (.getfield 249, 3) := dk_180 0 249 (dk_at dksX0_mayBe_3 6 rfl rfl)
theorem dX0_mayBe_81 : decode cX0_mayBe 81 = .ok (.iload 5, 2) := dk_21 5 (dk_at dksX0_mayBe_3 9 rfl rfl)
theorem dX0_mayBe_83 : decode cX0_mayBe 83 = .ok (.iaload, 1) := dk_46 (dk_at dksX0_mayBe_3 11 rfl rfl)
theorem dX0_mayBe_84 : decode cX0_mayBe 84 = .ok (.iload_n 1, 1) := dk_27 (dk_at dksX0_mayBe_3 12 rfl rfl)
theorem dX0_mayBe_85 : decode cX0_mayBe 85 = .ok (.if_icmp .ne 29, 3) := dk_160 0 29 (dk_at dksX0_mayBe_3 13 rfl rfl)
theorem dX0_mayBe_88 : decode cX0_mayBe 88 = .ok (.iload 6, 2) := dk_21 6 (dk_at dksX0_mayBe_3 16 rfl rfl)
theorem dX0_mayBe_90 : decode cX0_mayBe 90 = .ok (.aload_n 0, 1) := dk_42 (dk_at dksX0_mayBe_3 18 rfl rfl)
theorem dX0_mayBe_91 : decode cX0_mayBe 91 = .ok (.getfield 10, 3) := dk_180 0 10 (dk_at dksX0_mayBe_3 19 rfl rfl)
theorem dX0_mayBe_94 : decode cX0_mayBe 94 = .ok (.getfield 249, 3) := dk_180 0 249 (dk_at dksX0_mayBe_4 0 rfl rfl)
theorem dX0_mayBe_97 : decode cX0_mayBe 97 = .ok (.iload 5, 2) := dk_21 5 (dk_at dksX0_mayBe_4 3 rfl rfl)
theorem dX0_mayBe_99 : decode cX0_mayBe 99 = .ok (.iconst 3, 1) := dk_6 (dk_at dksX0_mayBe_4 5 rfl rfl)
theorem dX0_mayBe_100 : decode cX0_mayBe 100 = .ok (.iadd, 1) := dk_96 (dk_at dksX0_mayBe_4 6 rfl rfl)
theorem dX0_mayBe_101 : decode cX0_mayBe 101 = .ok (.iaload, 1) := dk_46 (dk_at dksX0_mayBe_4 7 rfl rfl)
theorem dX0_mayBe_102 : decode cX0_mayBe 102 = .ok (.iconst 1, 1) := dk_4 (dk_at dksX0_mayBe_4 8 rfl rfl)
theorem dX0_mayBe_103 : decode cX0_mayBe 103 = .ok (.if_icmp .ne 7, 3) := dk_160 0 7 (dk_at dksX0_mayBe_4 9 rfl rfl)
theorem dX0_mayBe_106 : decode cX0_mayBe 106 = .ok (.iconst 1, 1) := dk_4 (dk_at dksX0_mayBe_4 12 rfl rfl)
theorem dX0_mayBe_107 : decode cX0_mayBe 107 = .ok (.goto 4, 3) := dk_167 0 4 (dk_at dksX0_mayBe_4 13 rfl rfl)
theorem dX0_mayBe_110 : decode cX0_mayBe 110 = .ok (.iconst 0, 1) := dk_3 (dk_at dksX0_mayBe_4 16 rfl rfl)
theorem dX0_mayBe_111 : decode cX0_mayBe 111 = .ok (.if_icmp .ne 7, 3) := dk_160 0 7 (dk_at dksX0_mayBe_4 17 rfl rfl)
theorem dX0_mayBe_114 : decode cX0_mayBe 114 = .ok (.iconst 1, 1) := dk_4 (dk_at dksX0_mayBe_4 20 rfl rfl)
theorem dX0_mayBe_115 : decode cX0_mayBe 115 = .ok (.goto 4, 3) := dk_167 0 4 (dk_at dksX0_mayBe_4 21 rfl rfl)
theorem dX0_mayBe_118 : decode cX0_mayBe 118 = .ok (.iconst 0, 1) := dk_3 (dk_at dksX0_mayBe_5 0 rfl rfl)
theorem dX0_mayBe_119 : decode cX0_mayBe 119 = .ok (.istore_n 3, 1) := dk_62 (dk_at dksX0_mayBe_5 1 rfl rfl)
theorem dX0_mayBe_120 : decode cX0_mayBe 120 = .ok (.iinc 4 1, 3) := dk_132 4 1 (dk_at dksX0_mayBe_5 2 rfl rfl)
theorem dX0_mayBe_123 : decode cX0_mayBe 123 = .ok (.goto (-118), 3) := dk_167 255 138 (dk_at dksX0_mayBe_5 5 rfl rfl)
theorem dX0_mayBe_126 : decode cX0_mayBe 126 = .ok (.iload_n 3, 1) := dk_29 (dk_at dksX0_mayBe_5 8 rfl rfl)
theorem dX0_mayBe_127 : decode cX0_mayBe 127 = .ok (.ireturn, 1) := dk_172 (dk_at dksX0_mayBe_5 9 rfl rfl)
abbrev cX0_tell : ByteArray := prog_1_method_39_code
def yX0_tell : MethodName := ⟨RX0, "tell", "(I)I"⟩
def dkwX0_tell_4 : List UInt8 := [167, 255, 193, 29, 172]
abbrev dktX0_tell_4 : List UInt8 := dkwX0_tell_4 ++ []
def dkwX0_tell_3 : List UInt8 := [162, 0, 8, 21, 5, 167, 0, 4, 29, 62, 21, 4, 21, 6, 184, 1, 14, 54, 4, 132, 5, 1]
abbrev dktX0_tell_3 : List UInt8 := dkwX0_tell_3 ++ dktX0_tell_4
def dkwX0_tell_2 : List UInt8 := [163, 0, 14, 42, 27, 28, 21, 5, 182, 1, 10, 167, 0, 5, 18, 234, 54, 6, 21, 6, 21, 4]
abbrev dktX0_tell_2 : List UInt8 := dkwX0_tell_2 ++ dktX0_tell_3
def dkwX0_tell_1 : List UInt8 := [54, 4, 3, 54, 5, 21, 5, 17, 2, 19, 162, 0, 61, 28, 158, 0, 57, 21, 5, 16, 100, 112, 16, 30]
abbrev dktX0_tell_1 : List UInt8 := dkwX0_tell_1 ++ dktX0_tell_2
def dkwX0_tell_0 : List UInt8 := [42, 27, 182, 0, 152, 154, 0, 8, 42, 182, 0, 102, 172, 42, 27, 3, 182, 1, 7, 61, 2, 62, 18, 234]
abbrev dktX0_tell_0 : List UInt8 := dkwX0_tell_0 ++ dktX0_tell_1
theorem dksX0_tell_0 : cX0_tell.data.toList.drop 0 = dktX0_tell_0 := by decide +kernel
theorem dksX0_tell_1 : cX0_tell.data.toList.drop 24 = dktX0_tell_1 := dk_seg dksX0_tell_0 24 rfl rfl
theorem dksX0_tell_2 : cX0_tell.data.toList.drop 48 = dktX0_tell_2 := dk_seg dksX0_tell_1 24 rfl rfl
theorem dksX0_tell_3 : cX0_tell.data.toList.drop 70 = dktX0_tell_3 := dk_seg dksX0_tell_2 22 rfl rfl
theorem dksX0_tell_4 : cX0_tell.data.toList.drop 92 = dktX0_tell_4 := dk_seg dksX0_tell_3 22 rfl rfl
theorem dX0_tell_0 : decode cX0_tell 0 = .ok (.aload_n 0, 1) := dk_42 (dk_at dksX0_tell_0 0 rfl rfl)
theorem dX0_tell_1 : decode cX0_tell 1 = .ok (.iload_n 1, 1) := dk_27 (dk_at dksX0_tell_0 1 rfl rfl)
theorem dX0_tell_2 : decode cX0_tell 2 = .ok (.invokevirtual 152, 3) := dk_182 0 152 (dk_at dksX0_tell_0 2 rfl rfl)
theorem dX0_tell_5 : decode cX0_tell 5 = .ok (.ifCond .ne 8, 3) := dk_154 0 8 (dk_at dksX0_tell_0 5 rfl rfl)
theorem dX0_tell_8 : decode cX0_tell 8 = .ok (.aload_n 0, 1) := dk_42 (dk_at dksX0_tell_0 8 rfl rfl)
theorem dX0_tell_9 : decode cX0_tell 9 = .ok (.invokevirtual 102, 3) := dk_182 0 102 (dk_at dksX0_tell_0 9 rfl rfl)
theorem dX0_tell_12 : decode cX0_tell 12 = .ok (.ireturn, 1) := dk_172 (dk_at dksX0_tell_0 12 rfl rfl)
theorem dX0_tell_13 : decode cX0_tell 13 = .ok (.aload_n 0, 1) := dk_42 (dk_at dksX0_tell_0 13 rfl rfl)
theorem dX0_tell_14 : decode cX0_tell 14 = .ok (.iload_n 1, 1) := dk_27 (dk_at dksX0_tell_0 14 rfl rfl)
theorem dX0_tell_15 : decode cX0_tell 15 = .ok (.iconst 0, 1) := dk_3 (dk_at dksX0_tell_0 15 rfl rfl)
theorem dX0_tell_16 : decode cX0_tell 16 = .ok (.invokevirtual 263, 3) := dk_182 1 7 (dk_at dksX0_tell_0 16 rfl rfl)
theorem dX0_tell_19 : decode cX0_tell 19 = .ok (.istore_n 2, 1) := dk_61 (dk_at dksX0_tell_0 19 rfl rfl)
theorem dX0_tell_20 : decode cX0_tell 20 = .ok (.iconst (-1), 1) := dk_2 (dk_at dksX0_tell_0 20 rfl rfl)
theorem dX0_tell_21 : decode cX0_tell 21 = .ok (.istore_n 3, 1) := dk_62 (dk_at dksX0_tell_0 21 rfl rfl)
theorem dX0_tell_22 : decode cX0_tell 22 = .ok (.ldc 234, 2) := dk_18 234 (dk_at dksX0_tell_0 22 rfl rfl)
theorem dX0_tell_24 : decode cX0_tell 24 = .ok (.istore 4, 2) := dk_54 4 (dk_at dksX0_tell_1 0 rfl rfl)
theorem dX0_tell_26 : decode cX0_tell 26 = .ok (.iconst 0, 1) := dk_3 (dk_at dksX0_tell_1 2 rfl rfl)
theorem dX0_tell_27 : decode cX0_tell 27 = .ok (.istore 5, 2) := dk_54 5 (dk_at dksX0_tell_1 3 rfl rfl)
theorem dX0_tell_29 : decode cX0_tell 29 = .ok (.iload 5, 2) := dk_21 5 (dk_at dksX0_tell_1 5 rfl rfl)
theorem dX0_tell_31 : decode cX0_tell 31 = .ok (.sipush 531, 3) := dk_17 2 19 (dk_at dksX0_tell_1 7 rfl rfl)
theorem dX0_tell_34 : decode cX0_tell 34 = .ok (.if_icmp .ge 61, 3) := dk_162 0 61 (dk_at dksX0_tell_1 10 rfl rfl)
theorem dX0_tell_37 : decode cX0_tell 37 = .ok (.iload_n 2, 1) := dk_28 (dk_at dksX0_tell_1 13 rfl rfl)
theorem dX0_tell_38 : decode cX0_tell 38 = .ok (.ifCond .le 57, 3) := dk_158 0 57 (dk_at dksX0_tell_1 14 rfl rfl)
theorem dX0_tell_41 : decode cX0_tell 41 = .ok (.iload 5, 2) := dk_21 5 (dk_at dksX0_tell_1 17 rfl rfl)
theorem dX0_tell_43 : decode cX0_tell 43 = .ok (.bipush 100, 2) := dk_16 100 (dk_at dksX0_tell_1 19 rfl rfl)
theorem dX0_tell_45 : decode cX0_tell 45 = .ok (.irem, 1) := dk_112 (dk_at dksX0_tell_1 21 rfl rfl)
theorem dX0_tell_46 : decode cX0_tell 46 = .ok (.bipush 30, 2) := dk_16 30 (dk_at dksX0_tell_1 22 rfl rfl)
theorem dX0_tell_48 : decode cX0_tell 48 = .ok (.if_icmp .gt 14, 3) := dk_163 0 14 (dk_at dksX0_tell_2 0 rfl rfl)
theorem dX0_tell_51 : decode cX0_tell 51 = .ok (.aload_n 0, 1) := dk_42 (dk_at dksX0_tell_2 3 rfl rfl)
theorem dX0_tell_52 : decode cX0_tell 52 = .ok (.iload_n 1, 1) := dk_27 (dk_at dksX0_tell_2 4 rfl rfl)
theorem dX0_tell_53 : decode cX0_tell 53 = .ok (.iload_n 2, 1) := dk_28 (dk_at dksX0_tell_2 5 rfl rfl)
theorem dX0_tell_54 : decode cX0_tell 54 = .ok (.iload 5, 2) := dk_21 5 (dk_at dksX0_tell_2 6 rfl rfl)
theorem dX0_tell_56 : decode cX0_tell 56 = .ok (.invokevirtual 266, 3) := dk_182 1 10 (dk_at dksX0_tell_2 8 rfl rfl)
theorem dX0_tell_59 : decode cX0_tell 59 = .ok (.goto 5, 3) := dk_167 0 5 (dk_at dksX0_tell_2 11 rfl rfl)
theorem dX0_tell_62 : decode cX0_tell 62 = .ok (.ldc 234, 2) := dk_18 234 (dk_at dksX0_tell_2 14 rfl rfl)
theorem dX0_tell_64 : decode cX0_tell 64 = .ok (.istore 6, 2) := dk_54 6 (dk_at dksX0_tell_2 16 rfl rfl)
theorem dX0_tell_66 : decode cX0_tell 66 = .ok (.iload 6, 2) := dk_21 6 (dk_at dksX0_tell_2 18 rfl rfl)
theorem dX0_tell_68 : decode cX0_tell 68 = .ok (.iload 4, 2) := dk_21 4 (dk_at dksX0_tell_2 20 rfl rfl)
theorem dX0_tell_70 : decode cX0_tell 70 = .ok (.if_icmp .ge 8, 3) := dk_162 0 8 (dk_at dksX0_tell_3 0 rfl rfl)
theorem dX0_tell_73 : decode cX0_tell 73 = .ok (.iload 5, 2) := dk_21 5 (dk_at dksX0_tell_3 3 rfl rfl)
theorem dX0_tell_75 : decode cX0_tell 75 = .ok (.goto 4, 3) := dk_167 0 4 (dk_at dksX0_tell_3 5 rfl rfl)
theorem dX0_tell_78 : decode cX0_tell 78 = .ok (.iload_n 3, 1) := dk_29 (dk_at dksX0_tell_3 8 rfl rfl)
theorem dX0_tell_79 : decode cX0_tell 79 = .ok (.istore_n 3, 1) := dk_62 (dk_at dksX0_tell_3 9 rfl rfl)
theorem dX0_tell_80 : decode cX0_tell 80 = .ok (.iload 4, 2) := dk_21 4 (dk_at dksX0_tell_3 10 rfl rfl)
theorem dX0_tell_82 : decode cX0_tell 82 = .ok (.iload 6, 2) := dk_21 6 (dk_at dksX0_tell_3 12 rfl rfl)
theorem dX0_tell_84 : decode cX0_tell 84 = .ok (.invokestatic 270, 3) := dk_184 1 14 (dk_at dksX0_tell_3 14 rfl rfl)
theorem dX0_tell_87 : decode cX0_tell 87 = .ok (.istore 4, 2) := dk_54 4 (dk_at dksX0_tell_3 17 rfl rfl)
theorem dX0_tell_89 : decode cX0_tell 89 = .ok (.iinc 5 1, 3) := dk_132 5 1 (dk_at dksX0_tell_3 19 rfl rfl)
theorem dX0_tell_92 : decode cX0_tell 92 = .ok (.goto (-63), 3) := dk_167 255 193 (dk_at dksX0_tell_4 0 rfl rfl)
theorem dX0_tell_95 : decode cX0_tell 95 = .ok (.iload_n 3, 1) := dk_29 (dk_at dksX0_tell_4 3 rfl rfl)
theorem dX0_tell_96 : decode cX0_tell 96 = .ok (.ireturn, 1) := dk_172 (dk_at dksX0_tell_4 4 rfl rfl)
abbrev cX0_parts : ByteArray := prog_1_method_38_code
def yX0_parts : MethodName := ⟨RX0, "parts", "(III)I"⟩
def dkwX0_parts_3 : List UInt8 := [184, 1, 2, 172]
abbrev dktX0_parts_3 : List UInt8 := dkwX0_parts_3 ++ []
def dkwX0_parts_2 : List UInt8 := [112, 163, 0, 7, 4, 167, 0, 4, 3, 96, 54, 4, 132, 5, 1, 167, 255, 201, 21, 4, 28, 21, 4, 100]
abbrev dktX0_parts_2 : List UInt8 := dkwX0_parts_2 ++ dktX0_parts_3
def dkwX0_parts_1 : List UInt8 := [153, 0, 32, 42, 180, 0, 10, 180, 0, 177, 27, 50, 21, 5, 29, 16, 100, 108, 182, 0, 186, 29, 16, 100]
abbrev dktX0_parts_1 : List UInt8 := dkwX0_parts_1 ++ dktX0_parts_2
def dkwX0_parts_0 : List UInt8 := [3, 54, 4, 4, 54, 5, 21, 5, 16, 9, 163, 0, 54, 21, 4, 42, 27, 21, 5, 182, 0, 254]
abbrev dktX0_parts_0 : List UInt8 := dkwX0_parts_0 ++ dktX0_parts_1
theorem dksX0_parts_0 : cX0_parts.data.toList.drop 0 = dktX0_parts_0 := by decide +kernel
theorem dksX0_parts_1 : cX0_parts.data.toList.drop 22 = dktX0_parts_1 := dk_seg dksX0_parts_0 22 rfl rfl
theorem dksX0_parts_2 : cX0_parts.data.toList.drop 46 = dktX0_parts_2 := dk_seg dksX0_parts_1 24 rfl rfl
theorem dksX0_parts_3 : cX0_parts.data.toList.drop 70 = dktX0_parts_3 := dk_seg dksX0_parts_2 24 rfl rfl
theorem dX0_parts_0 : decode cX0_parts 0 = .ok (.iconst 0, 1) := dk_3 (dk_at dksX0_parts_0 0 rfl rfl)
theorem dX0_parts_1 : decode cX0_parts 1 = .ok (.istore 4, 2) := dk_54 4 (dk_at dksX0_parts_0 1 rfl rfl)
theorem dX0_parts_3 : decode cX0_parts 3 = .ok (.iconst 1, 1) := dk_4 (dk_at dksX0_parts_0 3 rfl rfl)
theorem dX0_parts_4 : decode cX0_parts 4 = .ok (.istore 5, 2) := dk_54 5 (dk_at dksX0_parts_0 4 rfl rfl)
theorem dX0_parts_6 : decode cX0_parts 6 = .ok (.iload 5, 2) := dk_21 5 (dk_at dksX0_parts_0 6 rfl rfl)
theorem dX0_parts_8 : decode cX0_parts 8 = .ok (.bipush 9, 2) := dk_16 9 (dk_at dksX0_parts_0 8 rfl rfl)
theorem dX0_parts_10 : decode cX0_parts 10 = .ok (.if_icmp .gt 54, 3) := dk_163 0 54 (dk_at dksX0_parts_0 10 rfl rfl)
theorem dX0_parts_13 : decode cX0_parts 13 = .ok (.iload 4, 2) := dk_21 4 (dk_at dksX0_parts_0 13 rfl rfl)
theorem dX0_parts_15 : decode cX0_parts 15 = .ok (.aload_n 0, 1) := dk_42 (dk_at dksX0_parts_0 15 rfl rfl)
theorem dX0_parts_16 : decode cX0_parts 16 = .ok (.iload_n 1, 1) := dk_27 (dk_at dksX0_parts_0 16 rfl rfl)
theorem dX0_parts_17 : decode cX0_parts 17 = .ok (.iload 5, 2) := dk_21 5 (dk_at dksX0_parts_0 17 rfl rfl)
theorem dX0_parts_19 : decode cX0_parts 19 = .ok (.invokevirtual 254, 3) := dk_182 0 254 (dk_at dksX0_parts_0 19 rfl rfl)
theorem dX0_parts_22 : decode cX0_parts 22 = .ok (.ifCond .eq 32, 3) := dk_153 0 32 (dk_at dksX0_parts_1 0 rfl rfl)
theorem dX0_parts_25 : decode cX0_parts 25 = .ok (.aload_n 0, 1) := dk_42 (dk_at dksX0_parts_1 3 rfl rfl)
theorem dX0_parts_26 : decode cX0_parts 26 = .ok (.getfield 10, 3) := dk_180 0 10 (dk_at dksX0_parts_1 4 rfl rfl)
theorem dX0_parts_29 : decode cX0_parts 29 = .ok (.getfield 177, 3) := dk_180 0 177 (dk_at dksX0_parts_1 7 rfl rfl)
theorem dX0_parts_32 : decode cX0_parts 32 = .ok (.iload_n 1, 1) := dk_27 (dk_at dksX0_parts_1 10 rfl rfl)
theorem dX0_parts_33 : decode cX0_parts 33 = .ok (.aaload, 1) := dk_50 (dk_at dksX0_parts_1 11 rfl rfl)
theorem dX0_parts_34 : decode cX0_parts 34 = .ok (.iload 5, 2) := dk_21 5 (dk_at dksX0_parts_1 12 rfl rfl)
theorem dX0_parts_36 : decode cX0_parts 36 = .ok (.iload_n 3, 1) := dk_29 (dk_at dksX0_parts_1 14 rfl rfl)
theorem dX0_parts_37 : decode cX0_parts 37 = .ok (.bipush 100, 2) := dk_16 100 (dk_at dksX0_parts_1 15 rfl rfl)
theorem dX0_parts_39 : decode cX0_parts 39 = .ok (.idiv, 1) := dk_108 (dk_at dksX0_parts_1 17 rfl rfl)
theorem dX0_parts_40 : decode cX0_parts 40 = .ok (.invokevirtual 186, 3) := dk_182 0 186 (dk_at dksX0_parts_1 18 rfl rfl)
theorem dX0_parts_43 : decode cX0_parts 43 = .ok (.iload_n 3, 1) := dk_29 (dk_at dksX0_parts_1 21 rfl rfl)
theorem dX0_parts_44 : decode cX0_parts 44 = .ok (.bipush 100, 2) := dk_16 100 (dk_at dksX0_parts_1 22 rfl rfl)
theorem dX0_parts_46 : decode cX0_parts 46 = .ok (.irem, 1) := dk_112 (dk_at dksX0_parts_2 0 rfl rfl)
theorem dX0_parts_47 : decode cX0_parts 47 = .ok (.if_icmp .gt 7, 3) := dk_163 0 7 (dk_at dksX0_parts_2 1 rfl rfl)
theorem dX0_parts_50 : decode cX0_parts 50 = .ok (.iconst 1, 1) := dk_4 (dk_at dksX0_parts_2 4 rfl rfl)
theorem dX0_parts_51 : decode cX0_parts 51 = .ok (.goto 4, 3) := dk_167 0 4 (dk_at dksX0_parts_2 5 rfl rfl)
theorem dX0_parts_54 : decode cX0_parts 54 = .ok (.iconst 0, 1) := dk_3 (dk_at dksX0_parts_2 8 rfl rfl)
theorem dX0_parts_55 : decode cX0_parts 55 = .ok (.iadd, 1) := dk_96 (dk_at dksX0_parts_2 9 rfl rfl)
theorem dX0_parts_56 : decode cX0_parts 56 = .ok (.istore 4, 2) := dk_54 4 (dk_at dksX0_parts_2 10 rfl rfl)
theorem dX0_parts_58 : decode cX0_parts 58 = .ok (.iinc 5 1, 3) := dk_132 5 1 (dk_at dksX0_parts_2 12 rfl rfl)
theorem dX0_parts_61 : decode cX0_parts 61 = .ok (.goto (-55), 3) := dk_167 255 201 (dk_at dksX0_parts_2 15 rfl rfl)
theorem dX0_parts_64 : decode cX0_parts 64 = .ok (.iload 4, 2) := dk_21 4 (dk_at dksX0_parts_2 18 rfl rfl)
theorem dX0_parts_66 : decode cX0_parts 66 = .ok (.iload_n 2, 1) := dk_28 (dk_at dksX0_parts_2 20 rfl rfl)
theorem dX0_parts_67 : decode cX0_parts 67 = .ok (.iload 4, 2) := dk_21 4 (dk_at dksX0_parts_2 21 rfl rfl)
theorem dX0_parts_69 : decode cX0_parts 69 = .ok (.isub, 1) := dk_100 (dk_at dksX0_parts_2 23 rfl rfl)
theorem dX0_parts_70 : decode cX0_parts 70 = .ok (.invokestatic 258, 3) := dk_184 1 2 (dk_at dksX0_parts_3 0 rfl rfl)
theorem dX0_parts_73 : decode cX0_parts 73 = .ok (.ireturn, 1) := dk_172 (dk_at dksX0_parts_3 3 rfl rfl)
abbrev cX0_note : ByteArray := prog_1_method_40_code
def yX0_note : MethodName := ⟨RX0, "note", "(IIII)I"⟩
def dkwX0_note_6 : List UInt8 := [180, 1, 17, 172]
abbrev dktX0_note_6 : List UInt8 := dkwX0_note_6 ++ []
def dkwX0_note_5 : List UInt8 := [21, 5, 6, 96, 21, 4, 79, 42, 180, 0, 10, 89, 180, 1, 17, 4, 96, 181, 1, 17, 42, 180, 0, 10]
abbrev dktX0_note_5 : List UInt8 := dkwX0_note_5 ++ dktX0_note_6
def dkwX0_note_4 : List UInt8 := [96, 28, 79, 42, 180, 0, 10, 180, 1, 20, 21, 5, 5, 96, 29, 79, 42, 180, 0, 10, 180, 1, 20]
abbrev dktX0_note_4 : List UInt8 := dkwX0_note_4 ++ dktX0_note_5
def dkwX0_note_3 : List UInt8 := [104, 54, 5, 42, 180, 0, 10, 180, 1, 20, 21, 5, 27, 79, 42, 180, 0, 10, 180, 1, 20, 21, 5, 4]
abbrev dktX0_note_3 : List UInt8 := dkwX0_note_3 ++ dktX0_note_4
def dkwX0_note_2 : List UInt8 := [180, 0, 10, 180, 1, 17, 16, 6, 160, 0, 8, 42, 182, 0, 106, 172, 7, 42, 180, 0, 10, 180, 1, 17]
abbrev dktX0_note_2 : List UInt8 := dkwX0_note_2 ++ dktX0_note_3
def dkwX0_note_1 : List UInt8 := [153, 0, 16, 21, 4, 133, 9, 20, 0, 82, 184, 0, 74, 154, 0, 8, 42, 182, 0, 102, 172, 42]
abbrev dktX0_note_1 : List UInt8 := dkwX0_note_1 ++ dktX0_note_2
def dkwX0_note_0 : List UInt8 := [42, 27, 182, 0, 116, 153, 0, 35, 28, 184, 0, 210, 153, 0, 28, 29, 133, 9, 20, 0, 221, 184, 0, 74]
abbrev dktX0_note_0 : List UInt8 := dkwX0_note_0 ++ dktX0_note_1
theorem dksX0_note_0 : cX0_note.data.toList.drop 0 = dktX0_note_0 := by decide +kernel
theorem dksX0_note_1 : cX0_note.data.toList.drop 24 = dktX0_note_1 := dk_seg dksX0_note_0 24 rfl rfl
theorem dksX0_note_2 : cX0_note.data.toList.drop 46 = dktX0_note_2 := dk_seg dksX0_note_1 22 rfl rfl
theorem dksX0_note_3 : cX0_note.data.toList.drop 70 = dktX0_note_3 := dk_seg dksX0_note_2 24 rfl rfl
theorem dksX0_note_4 : cX0_note.data.toList.drop 94 = dktX0_note_4 := dk_seg dksX0_note_3 24 rfl rfl
theorem dksX0_note_5 : cX0_note.data.toList.drop 117 = dktX0_note_5 := dk_seg dksX0_note_4 23 rfl rfl
theorem dksX0_note_6 : cX0_note.data.toList.drop 141 = dktX0_note_6 := dk_seg dksX0_note_5 24 rfl rfl
theorem dX0_note_0 : decode cX0_note 0 = .ok (.aload_n 0, 1) := dk_42 (dk_at dksX0_note_0 0 rfl rfl)
theorem dX0_note_1 : decode cX0_note 1 = .ok (.iload_n 1, 1) := dk_27 (dk_at dksX0_note_0 1 rfl rfl)
theorem dX0_note_2 : decode cX0_note 2 = .ok (.invokevirtual 116, 3) := dk_182 0 116 (dk_at dksX0_note_0 2 rfl rfl)
theorem dX0_note_5 : decode cX0_note 5 = .ok (.ifCond .eq 35, 3) := dk_153 0 35 (dk_at dksX0_note_0 5 rfl rfl)
theorem dX0_note_8 : decode cX0_note 8 = .ok (.iload_n 2, 1) := dk_28 (dk_at dksX0_note_0 8 rfl rfl)
theorem dX0_note_9 : decode cX0_note 9 = .ok (.invokestatic 210, 3) := dk_184 0 210 (dk_at dksX0_note_0 9 rfl rfl)
theorem dX0_note_12 : decode cX0_note 12 = .ok (.ifCond .eq 28, 3) := dk_153 0 28 (dk_at dksX0_note_0 12 rfl rfl)
theorem dX0_note_15 : decode cX0_note 15 = .ok (.iload_n 3, 1) := dk_29 (dk_at dksX0_note_0 15 rfl rfl)
theorem dX0_note_16 : decode cX0_note 16 = .ok (.i2l, 1) := dk_133 (dk_at dksX0_note_0 16 rfl rfl)
theorem dX0_note_17 : decode cX0_note 17 = .ok (.lconst 0, 1) := dk_9 (dk_at dksX0_note_0 17 rfl rfl)
theorem dX0_note_18 : decode cX0_note 18 = .ok (.ldc2_w 221, 3) := dk_20 0 221 (dk_at dksX0_note_0 18 rfl rfl)
theorem dX0_note_21 : decode cX0_note 21 = .ok (.invokestatic 74, 3) := dk_184 0 74 (dk_at dksX0_note_0 21 rfl rfl)
theorem dX0_note_24 : decode cX0_note 24 = .ok (.ifCond .eq 16, 3) := dk_153 0 16 (dk_at dksX0_note_1 0 rfl rfl)
theorem dX0_note_27 : decode cX0_note 27 = .ok (.iload 4, 2) := dk_21 4 (dk_at dksX0_note_1 3 rfl rfl)
theorem dX0_note_29 : decode cX0_note 29 = .ok (.i2l, 1) := dk_133 (dk_at dksX0_note_1 5 rfl rfl)
theorem dX0_note_30 : decode cX0_note 30 = .ok (.lconst 0, 1) := dk_9 (dk_at dksX0_note_1 6 rfl rfl)
theorem dX0_note_31 : decode cX0_note 31 = .ok (.ldc2_w 82, 3) := dk_20 0 82 (dk_at dksX0_note_1 7 rfl rfl)
theorem dX0_note_34 : decode cX0_note 34 = .ok (.invokestatic 74, 3) := dk_184 0 74 (dk_at dksX0_note_1 10 rfl rfl)
theorem dX0_note_37 : decode cX0_note 37 = .ok (.ifCond .ne 8, 3) := dk_154 0 8 (dk_at dksX0_note_1 13 rfl rfl)
theorem dX0_note_40 : decode cX0_note 40 = .ok (.aload_n 0, 1) := dk_42 (dk_at dksX0_note_1 16 rfl rfl)
theorem dX0_note_41 : decode cX0_note 41 = .ok (.invokevirtual 102, 3) := dk_182 0 102 (dk_at dksX0_note_1 17 rfl rfl)
theorem dX0_note_44 : decode cX0_note 44 = .ok (.ireturn, 1) := dk_172 (dk_at dksX0_note_1 20 rfl rfl)
theorem dX0_note_45 : decode cX0_note 45 = .ok (.aload_n 0, 1) := dk_42 (dk_at dksX0_note_1 21 rfl rfl)
theorem dX0_note_46 : decode cX0_note 46 = .ok (.getfield 10, 3) := dk_180 0 10 (dk_at dksX0_note_2 0 rfl rfl)
theorem dX0_note_49 : decode cX0_note 49 = .ok (.getfield 273, 3) := dk_180 1 17 (dk_at dksX0_note_2 3 rfl rfl)
theorem dX0_note_52 : decode cX0_note 52 = .ok (.bipush 6, 2) := dk_16 6 (dk_at dksX0_note_2 6 rfl rfl)
theorem dX0_note_54 : decode cX0_note 54 = .ok (.if_icmp .ne 8, 3) := dk_160 0 8 (dk_at dksX0_note_2 8 rfl rfl)
theorem dX0_note_57 : decode cX0_note 57 = .ok (.aload_n 0, 1) := dk_42 (dk_at dksX0_note_2 11 rfl rfl)
theorem dX0_note_58 : decode cX0_note 58 = .ok (.invokevirtual 106, 3) := dk_182 0 106 (dk_at dksX0_note_2 12 rfl rfl)
theorem dX0_note_61 : decode cX0_note 61 = .ok (.ireturn, 1) := dk_172 (dk_at dksX0_note_2 15 rfl rfl)
theorem dX0_note_62 : decode cX0_note 62 = .ok (.iconst 4, 1) := dk_7 (dk_at dksX0_note_2 16 rfl rfl)
theorem dX0_note_63 : decode cX0_note 63 = .ok (.aload_n 0, 1) := dk_42 (dk_at dksX0_note_2 17 rfl rfl)
theorem dX0_note_64 : decode cX0_note 64 = .ok (.getfield 10, 3) := dk_180 0 10 (dk_at dksX0_note_2 18 rfl rfl)
theorem dX0_note_67 : decode cX0_note 67 = .ok (.getfield 273, 3) := dk_180 1 17 (dk_at dksX0_note_2 21 rfl rfl)
theorem dX0_note_70 : decode cX0_note 70 = .ok (.imul, 1) := dk_104 (dk_at dksX0_note_3 0 rfl rfl)
theorem dX0_note_71 : decode cX0_note 71 = .ok (.istore 5, 2) := dk_54 5 (dk_at dksX0_note_3 1 rfl rfl)
theorem dX0_note_73 : decode cX0_note 73 = .ok (.aload_n 0, 1) := dk_42 (dk_at dksX0_note_3 3 rfl rfl)
theorem dX0_note_74 : decode cX0_note 74 = .ok (.getfield 10, 3) := dk_180 0 10 (dk_at dksX0_note_3 4 rfl rfl)
theorem dX0_note_77 : decode cX0_note 77 = .ok (.getfield 276, 3) := dk_180 1 20 (dk_at dksX0_note_3 7 rfl rfl)
theorem dX0_note_80 : decode cX0_note 80 = .ok (.iload 5, 2) := dk_21 5 (dk_at dksX0_note_3 10 rfl rfl)
theorem dX0_note_82 : decode cX0_note 82 = .ok (.iload_n 1, 1) := dk_27 (dk_at dksX0_note_3 12 rfl rfl)
theorem dX0_note_83 : decode cX0_note 83 = .ok (.iastore, 1) := dk_79 (dk_at dksX0_note_3 13 rfl rfl)
theorem dX0_note_84 : decode cX0_note 84 = .ok (.aload_n 0, 1) := dk_42 (dk_at dksX0_note_3 14 rfl rfl)
theorem dX0_note_85 : decode cX0_note 85 = .ok (.getfield 10, 3) := dk_180 0 10 (dk_at dksX0_note_3 15 rfl rfl)
theorem dX0_note_88 : decode cX0_note 88 = .ok (.getfield 276, 3) := dk_180 1 20 (dk_at dksX0_note_3 18 rfl rfl)
theorem dX0_note_91 : decode cX0_note 91 = .ok (.iload 5, 2) := dk_21 5 (dk_at dksX0_note_3 21 rfl rfl)
theorem dX0_note_93 : decode cX0_note 93 = .ok (.iconst 1, 1) := dk_4 (dk_at dksX0_note_3 23 rfl rfl)
theorem dX0_note_94 : decode cX0_note 94 = .ok (.iadd, 1) := dk_96 (dk_at dksX0_note_4 0 rfl rfl)
theorem dX0_note_95 : decode cX0_note 95 = .ok (.iload_n 2, 1) := dk_28 (dk_at dksX0_note_4 1 rfl rfl)
theorem dX0_note_96 : decode cX0_note 96 = .ok (.iastore, 1) := dk_79 (dk_at dksX0_note_4 2 rfl rfl)
theorem dX0_note_97 : decode cX0_note 97 = .ok (.aload_n 0, 1) := dk_42 (dk_at dksX0_note_4 3 rfl rfl)
theorem dX0_note_98 : decode cX0_note 98 = .ok (.getfield 10, 3) := dk_180 0 10 (dk_at dksX0_note_4 4 rfl rfl)
theorem dX0_note_101 : decode cX0_note 101 = .ok (.getfield 276, 3) := dk_180 1 20 (dk_at dksX0_note_4 7 rfl rfl)
theorem dX0_note_104 : decode cX0_note 104 = .ok (.iload 5, 2) := dk_21 5 (dk_at dksX0_note_4 10 rfl rfl)
theorem dX0_note_106 : decode cX0_note 106 = .ok (.iconst 2, 1) := dk_5 (dk_at dksX0_note_4 12 rfl rfl)
theorem dX0_note_107 : decode cX0_note 107 = .ok (.iadd, 1) := dk_96 (dk_at dksX0_note_4 13 rfl rfl)
theorem dX0_note_108 : decode cX0_note 108 = .ok (.iload_n 3, 1) := dk_29 (dk_at dksX0_note_4 14 rfl rfl)
theorem dX0_note_109 : decode cX0_note 109 = .ok (.iastore, 1) := dk_79 (dk_at dksX0_note_4 15 rfl rfl)
theorem dX0_note_110 : decode cX0_note 110 = .ok (.aload_n 0, 1) := dk_42 (dk_at dksX0_note_4 16 rfl rfl)
theorem dX0_note_111 : decode cX0_note 111 = .ok (.getfield 10, 3) := dk_180 0 10 (dk_at dksX0_note_4 17 rfl rfl)
theorem dX0_note_114 : decode cX0_note 114 = .ok (.getfield 276, 3) := dk_180 1 20 (dk_at dksX0_note_4 20 rfl rfl)
theorem dX0_note_117 : decode cX0_note 117 = .ok (.iload 5, 2) := dk_21 5 (dk_at dksX0_note_5 0 rfl rfl)
theorem dX0_note_119 : decode cX0_note 119 = .ok (.iconst 3, 1) := dk_6 (dk_at dksX0_note_5 2 rfl rfl)
theorem dX0_note_120 : decode cX0_note 120 = .ok (.iadd, 1) := dk_96 (dk_at dksX0_note_5 3 rfl rfl)
theorem dX0_note_121 : decode cX0_note 121 = .ok (.iload 4, 2) := dk_21 4 (dk_at dksX0_note_5 4 rfl rfl)
theorem dX0_note_123 : decode cX0_note 123 = .ok (.iastore, 1) := dk_79 (dk_at dksX0_note_5 6 rfl rfl)
theorem dX0_note_124 : decode cX0_note 124 = .ok (.aload_n 0, 1) := dk_42 (dk_at dksX0_note_5 7 rfl rfl)
theorem dX0_note_125 : decode cX0_note 125 = .ok (.getfield 10, 3) := dk_180 0 10 (dk_at dksX0_note_5 8 rfl rfl)
theorem dX0_note_128 : decode cX0_note 128 = .ok (.dup, 1) := dk_89 (dk_at dksX0_note_5 11 rfl rfl)
theorem dX0_note_129 : decode cX0_note 129 = .ok (.getfield 273, 3) := dk_180 1 17 (dk_at dksX0_note_5 12 rfl rfl)
theorem dX0_note_132 : decode cX0_note 132 = .ok (.iconst 1, 1) := dk_4 (dk_at dksX0_note_5 15 rfl rfl)
theorem dX0_note_133 : decode cX0_note 133 = .ok (.iadd, 1) := dk_96 (dk_at dksX0_note_5 16 rfl rfl)
theorem dX0_note_134 : decode cX0_note 134 = .ok (.putfield 273, 3) := dk_181 1 17 (dk_at dksX0_note_5 17 rfl rfl)
theorem dX0_note_137 : decode cX0_note 137 = .ok (.aload_n 0, 1) := dk_42 (dk_at dksX0_note_5 20 rfl rfl)
theorem dX0_note_138 : decode cX0_note 138 = .ok (.getfield 10, 3) := dk_180 0 10 (dk_at dksX0_note_5 21 rfl rfl)
theorem dX0_note_141 : decode cX0_note 141 = .ok (.getfield 273, 3) := dk_180 1 17 (dk_at dksX0_note_6 0 rfl rfl)
theorem dX0_note_144 : decode cX0_note 144 = .ok (.ireturn, 1) := dk_172 (dk_at dksX0_note_6 3 rfl rfl)
abbrev cX0_mark : ByteArray := prog_1_method_41_code
def yX0_mark : MethodName := ⟨RX0, "mark", "(IIII)I"⟩
def dkwX0_mark_5 : List UInt8 := [21, 4, 79, 42, 180, 0, 10, 89, 180, 1, 25, 4, 96, 181, 1, 25, 42, 180, 0, 10, 180, 1, 25, 172]
abbrev dktX0_mark_5 : List UInt8 := dkwX0_mark_5 ++ []
def dkwX0_mark_4 : List UInt8 := [180, 0, 10, 180, 1, 28, 21, 5, 5, 96, 29, 79, 42, 180, 0, 10, 180, 1, 28, 21, 5, 6, 96]
abbrev dktX0_mark_4 : List UInt8 := dkwX0_mark_4 ++ dktX0_mark_5
def dkwX0_mark_3 : List UInt8 := [180, 0, 10, 180, 1, 28, 21, 5, 27, 79, 42, 180, 0, 10, 180, 1, 28, 21, 5, 4, 96, 28, 79, 42]
abbrev dktX0_mark_3 : List UInt8 := dkwX0_mark_3 ++ dktX0_mark_4
def dkwX0_mark_2 : List UInt8 := [16, 6, 160, 0, 8, 42, 182, 0, 106, 172, 7, 42, 180, 0, 10, 180, 1, 25, 104, 54, 5, 42]
abbrev dktX0_mark_2 : List UInt8 := dkwX0_mark_2 ++ dktX0_mark_3
def dkwX0_mark_1 : List UInt8 := [133, 9, 20, 1, 23, 184, 0, 74, 154, 0, 8, 42, 182, 0, 102, 172, 42, 180, 0, 10, 180, 1, 25]
abbrev dktX0_mark_1 : List UInt8 := dkwX0_mark_1 ++ dktX0_mark_2
def dkwX0_mark_0 : List UInt8 := [42, 27, 182, 0, 152, 153, 0, 30, 28, 184, 0, 113, 153, 0, 23, 29, 184, 0, 243, 153, 0, 16, 21, 4]
abbrev dktX0_mark_0 : List UInt8 := dkwX0_mark_0 ++ dktX0_mark_1
theorem dksX0_mark_0 : cX0_mark.data.toList.drop 0 = dktX0_mark_0 := by decide +kernel
theorem dksX0_mark_1 : cX0_mark.data.toList.drop 24 = dktX0_mark_1 := dk_seg dksX0_mark_0 24 rfl rfl
theorem dksX0_mark_2 : cX0_mark.data.toList.drop 47 = dktX0_mark_2 := dk_seg dksX0_mark_1 23 rfl rfl
theorem dksX0_mark_3 : cX0_mark.data.toList.drop 69 = dktX0_mark_3 := dk_seg dksX0_mark_2 22 rfl rfl
theorem dksX0_mark_4 : cX0_mark.data.toList.drop 93 = dktX0_mark_4 := dk_seg dksX0_mark_3 24 rfl rfl
theorem dksX0_mark_5 : cX0_mark.data.toList.drop 116 = dktX0_mark_5 := dk_seg dksX0_mark_4 23 rfl rfl
theorem dX0_mark_0 : decode cX0_mark 0 = .ok (.aload_n 0, 1) := dk_42 (dk_at dksX0_mark_0 0 rfl rfl)
theorem dX0_mark_1 : decode cX0_mark 1 = .ok (.iload_n 1, 1) := dk_27 (dk_at dksX0_mark_0 1 rfl rfl)
theorem dX0_mark_2 : decode cX0_mark 2 = .ok (.invokevirtual 152, 3) := dk_182 0 152 (dk_at dksX0_mark_0 2 rfl rfl)
theorem dX0_mark_5 : decode cX0_mark 5 = .ok (.ifCond .eq 30, 3) := dk_153 0 30 (dk_at dksX0_mark_0 5 rfl rfl)
theorem dX0_mark_8 : decode cX0_mark 8 = .ok (.iload_n 2, 1) := dk_28 (dk_at dksX0_mark_0 8 rfl rfl)
theorem dX0_mark_9 : decode cX0_mark 9 = .ok (.invokestatic 113, 3) := dk_184 0 113 (dk_at dksX0_mark_0 9 rfl rfl)
theorem dX0_mark_12 : decode cX0_mark 12 = .ok (.ifCond .eq 23, 3) := dk_153 0 23 (dk_at dksX0_mark_0 12 rfl rfl)
theorem dX0_mark_15 : decode cX0_mark 15 = .ok (.iload_n 3, 1) := dk_29 (dk_at dksX0_mark_0 15 rfl rfl)
theorem dX0_mark_16 : decode cX0_mark 16 = .ok (.invokestatic 243, 3) := dk_184 0 243 (dk_at dksX0_mark_0 16 rfl rfl)
theorem dX0_mark_19 : decode cX0_mark 19 = .ok (.ifCond .eq 16, 3) := dk_153 0 16 (dk_at dksX0_mark_0 19 rfl rfl)
theorem dX0_mark_22 : decode cX0_mark 22 = .ok (.iload 4, 2) := dk_21 4 (dk_at dksX0_mark_0 22 rfl rfl)
theorem dX0_mark_24 : decode cX0_mark 24 = .ok (.i2l, 1) := dk_133 (dk_at dksX0_mark_1 0 rfl rfl)
theorem dX0_mark_25 : decode cX0_mark 25 = .ok (.lconst 0, 1) := dk_9 (dk_at dksX0_mark_1 1 rfl rfl)
theorem dX0_mark_26 : decode cX0_mark 26 = .ok (.ldc2_w 279, 3) := dk_20 1 23 (dk_at dksX0_mark_1 2 rfl rfl)
theorem dX0_mark_29 : decode cX0_mark 29 = .ok (.invokestatic 74, 3) := dk_184 0 74 (dk_at dksX0_mark_1 5 rfl rfl)
theorem dX0_mark_32 : decode cX0_mark 32 = .ok (.ifCond .ne 8, 3) := dk_154 0 8 (dk_at dksX0_mark_1 8 rfl rfl)
theorem dX0_mark_35 : decode cX0_mark 35 = .ok (.aload_n 0, 1) := dk_42 (dk_at dksX0_mark_1 11 rfl rfl)
theorem dX0_mark_36 : decode cX0_mark 36 = .ok (.invokevirtual 102, 3) := dk_182 0 102 (dk_at dksX0_mark_1 12 rfl rfl)
theorem dX0_mark_39 : decode cX0_mark 39 = .ok (.ireturn, 1) := dk_172 (dk_at dksX0_mark_1 15 rfl rfl)
theorem dX0_mark_40 : decode cX0_mark 40 = .ok (.aload_n 0, 1) := dk_42 (dk_at dksX0_mark_1 16 rfl rfl)
theorem dX0_mark_41 : decode cX0_mark 41 = .ok (.getfield 10, 3) := dk_180 0 10 (dk_at dksX0_mark_1 17 rfl rfl)
theorem dX0_mark_44 : decode cX0_mark 44 = .ok (.getfield 281, 3) := dk_180 1 25 (dk_at dksX0_mark_1 20 rfl rfl)
theorem dX0_mark_47 : decode cX0_mark 47 = .ok (.bipush 6, 2) := dk_16 6 (dk_at dksX0_mark_2 0 rfl rfl)
theorem dX0_mark_49 : decode cX0_mark 49 = .ok (.if_icmp .ne 8, 3) := dk_160 0 8 (dk_at dksX0_mark_2 2 rfl rfl)
theorem dX0_mark_52 : decode cX0_mark 52 = .ok (.aload_n 0, 1) := dk_42 (dk_at dksX0_mark_2 5 rfl rfl)
theorem dX0_mark_53 : decode cX0_mark 53 = .ok (.invokevirtual 106, 3) := dk_182 0 106 (dk_at dksX0_mark_2 6 rfl rfl)
theorem dX0_mark_56 : decode cX0_mark 56 = .ok (.ireturn, 1) := dk_172 (dk_at dksX0_mark_2 9 rfl rfl)
theorem dX0_mark_57 : decode cX0_mark 57 = .ok (.iconst 4, 1) := dk_7 (dk_at dksX0_mark_2 10 rfl rfl)
theorem dX0_mark_58 : decode cX0_mark 58 = .ok (.aload_n 0, 1) := dk_42 (dk_at dksX0_mark_2 11 rfl rfl)
theorem dX0_mark_59 : decode cX0_mark 59 = .ok (.getfield 10, 3) := dk_180 0 10 (dk_at dksX0_mark_2 12 rfl rfl)
theorem dX0_mark_62 : decode cX0_mark 62 = .ok (.getfield 281, 3) := dk_180 1 25 (dk_at dksX0_mark_2 15 rfl rfl)
theorem dX0_mark_65 : decode cX0_mark 65 = .ok (.imul, 1) := dk_104 (dk_at dksX0_mark_2 18 rfl rfl)
theorem dX0_mark_66 : decode cX0_mark 66 = .ok (.istore 5, 2) := dk_54 5 (dk_at dksX0_mark_2 19 rfl rfl)
theorem dX0_mark_68 : decode cX0_mark 68 = .ok (.aload_n 0, 1) := dk_42 (dk_at dksX0_mark_2 21 rfl rfl)
theorem dX0_mark_69 : decode cX0_mark 69 = .ok (.getfield 10, 3) := dk_180 0 10 (dk_at dksX0_mark_3 0 rfl rfl)
theorem dX0_mark_72 : decode cX0_mark 72 = .ok (.getfield 284, 3) := dk_180 1 28 (dk_at dksX0_mark_3 3 rfl rfl)
theorem dX0_mark_75 : decode cX0_mark 75 = .ok (.iload 5, 2) := dk_21 5 (dk_at dksX0_mark_3 6 rfl rfl)
theorem dX0_mark_77 : decode cX0_mark 77 = .ok (.iload_n 1, 1) := dk_27 (dk_at dksX0_mark_3 8 rfl rfl)
theorem dX0_mark_78 : decode cX0_mark 78 = .ok (.iastore, 1) := dk_79 (dk_at dksX0_mark_3 9 rfl rfl)
theorem dX0_mark_79 : decode cX0_mark 79 = .ok (.aload_n 0, 1) := dk_42 (dk_at dksX0_mark_3 10 rfl rfl)
theorem dX0_mark_80 : decode cX0_mark 80 = .ok (.getfield 10, 3) := dk_180 0 10 (dk_at dksX0_mark_3 11 rfl rfl)
theorem dX0_mark_83 : decode cX0_mark 83 = .ok (.getfield 284, 3) := dk_180 1 28 (dk_at dksX0_mark_3 14 rfl rfl)
theorem dX0_mark_86 : decode cX0_mark 86 = .ok (.iload 5, 2) := dk_21 5 (dk_at dksX0_mark_3 17 rfl rfl)
theorem dX0_mark_88 : decode cX0_mark 88 = .ok (.iconst 1, 1) := dk_4 (dk_at dksX0_mark_3 19 rfl rfl)
theorem dX0_mark_89 : decode cX0_mark 89 = .ok (.iadd, 1) := dk_96 (dk_at dksX0_mark_3 20 rfl rfl)
theorem dX0_mark_90 : decode cX0_mark 90 = .ok (.iload_n 2, 1) := dk_28 (dk_at dksX0_mark_3 21 rfl rfl)
theorem dX0_mark_91 : decode cX0_mark 91 = .ok (.iastore, 1) := dk_79 (dk_at dksX0_mark_3 22 rfl rfl)
theorem dX0_mark_92 : decode cX0_mark 92 = .ok (.aload_n 0, 1) := dk_42 (dk_at dksX0_mark_3 23 rfl rfl)
theorem dX0_mark_93 : decode cX0_mark 93 = .ok (.getfield 10, 3) := dk_180 0 10 (dk_at dksX0_mark_4 0 rfl rfl)
theorem dX0_mark_96 : decode cX0_mark 96 = .ok (.getfield 284, 3) := dk_180 1 28 (dk_at dksX0_mark_4 3 rfl rfl)
theorem dX0_mark_99 : decode cX0_mark 99 = .ok (.iload 5, 2) := dk_21 5 (dk_at dksX0_mark_4 6 rfl rfl)
theorem dX0_mark_101 : decode cX0_mark 101 = .ok (.iconst 2, 1) := dk_5 (dk_at dksX0_mark_4 8 rfl rfl)
theorem dX0_mark_102 : decode cX0_mark 102 = .ok (.iadd, 1) := dk_96 (dk_at dksX0_mark_4 9 rfl rfl)
theorem dX0_mark_103 : decode cX0_mark 103 = .ok (.iload_n 3, 1) := dk_29 (dk_at dksX0_mark_4 10 rfl rfl)
theorem dX0_mark_104 : decode cX0_mark 104 = .ok (.iastore, 1) := dk_79 (dk_at dksX0_mark_4 11 rfl rfl)
theorem dX0_mark_105 : decode cX0_mark 105 = .ok (.aload_n 0, 1) := dk_42 (dk_at dksX0_mark_4 12 rfl rfl)
theorem dX0_mark_106 : decode cX0_mark 106 = .ok (.getfield 10, 3) := dk_180 0 10 (dk_at dksX0_mark_4 13 rfl rfl)
theorem dX0_mark_109 : decode cX0_mark 109 = .ok (.getfield 284, 3) := dk_180 1 28 (dk_at dksX0_mark_4 16 rfl rfl)
theorem dX0_mark_112 : decode cX0_mark 112 = .ok (.iload 5, 2) := dk_21 5 (dk_at dksX0_mark_4 19 rfl rfl)
theorem dX0_mark_114 : decode cX0_mark 114 = .ok (.iconst 3, 1) := dk_6 (dk_at dksX0_mark_4 21 rfl rfl)
theorem dX0_mark_115 : decode cX0_mark 115 = .ok (.iadd, 1) := dk_96 (dk_at dksX0_mark_4 22 rfl rfl)
theorem dX0_mark_116 : decode cX0_mark 116 = .ok (.iload 4, 2) := dk_21 4 (dk_at dksX0_mark_5 0 rfl rfl)
theorem dX0_mark_118 : decode cX0_mark 118 = .ok (.iastore, 1) := dk_79 (dk_at dksX0_mark_5 2 rfl rfl)
theorem dX0_mark_119 : decode cX0_mark 119 = .ok (.aload_n 0, 1) := dk_42 (dk_at dksX0_mark_5 3 rfl rfl)
theorem dX0_mark_120 : decode cX0_mark 120 = .ok (.getfield 10, 3) := dk_180 0 10 (dk_at dksX0_mark_5 4 rfl rfl)
theorem dX0_mark_123 : decode cX0_mark 123 = .ok (.dup, 1) := dk_89 (dk_at dksX0_mark_5 7 rfl rfl)
theorem dX0_mark_124 : decode cX0_mark 124 = .ok (.getfield 281, 3) := dk_180 1 25 (dk_at dksX0_mark_5 8 rfl rfl)
theorem dX0_mark_127 : decode cX0_mark 127 = .ok (.iconst 1, 1) := dk_4 (dk_at dksX0_mark_5 11 rfl rfl)
theorem dX0_mark_128 : decode cX0_mark 128 = .ok (.iadd, 1) := dk_96 (dk_at dksX0_mark_5 12 rfl rfl)
theorem dX0_mark_129 : decode cX0_mark 129 = .ok (.putfield 281, 3) := dk_181 1 25 (dk_at dksX0_mark_5 13 rfl rfl)
theorem dX0_mark_132 : decode cX0_mark 132 = .ok (.aload_n 0, 1) := dk_42 (dk_at dksX0_mark_5 16 rfl rfl)
theorem dX0_mark_133 : decode cX0_mark 133 = .ok (.getfield 10, 3) := dk_180 0 10 (dk_at dksX0_mark_5 17 rfl rfl)
theorem dX0_mark_136 : decode cX0_mark 136 = .ok (.getfield 281, 3) := dk_180 1 25 (dk_at dksX0_mark_5 20 rfl rfl)
theorem dX0_mark_139 : decode cX0_mark 139 = .ok (.ireturn, 1) := dk_172 (dk_at dksX0_mark_5 23 rfl rfl)
abbrev cX0_forget : ByteArray := prog_1_method_42_code
def yX0_forget : MethodName := ⟨RX0, "forget", "(I)I"⟩
def dkwX0_forget_5 : List UInt8 := [180, 1, 25, 181, 1, 25, 28, 172]
abbrev dktX0_forget_5 : List UInt8 := dkwX0_forget_5 ++ []
def dkwX0_forget_4 : List UInt8 := [180, 1, 17, 181, 1, 17, 42, 180, 0, 10, 27, 5, 160, 0, 7, 3, 167, 0, 10, 42, 180, 0, 10]
abbrev dktX0_forget_4 : List UInt8 := dkwX0_forget_4 ++ dktX0_forget_5
def dkwX0_forget_3 : List UInt8 := [180, 0, 246, 181, 0, 246, 42, 180, 0, 10, 27, 4, 160, 0, 7, 3, 167, 0, 10, 42, 180, 0, 10]
abbrev dktX0_forget_3 : List UInt8 := dkwX0_forget_3 ++ dktX0_forget_4
def dkwX0_forget_2 : List UInt8 := [42, 180, 0, 10, 180, 1, 25, 61, 42, 180, 0, 10, 27, 154, 0, 7, 3, 167, 0, 10, 42, 180, 0, 10]
abbrev dktX0_forget_2 : List UInt8 := dkwX0_forget_2 ++ dktX0_forget_3
def dkwX0_forget_1 : List UInt8 := [180, 0, 10, 180, 0, 246, 167, 0, 25, 27, 4, 160, 0, 13, 42, 180, 0, 10, 180, 1, 17, 167, 0, 10]
abbrev dktX0_forget_1 : List UInt8 := dkwX0_forget_1 ++ dktX0_forget_2
def dkwX0_forget_0 : List UInt8 := [27, 133, 9, 20, 0, 252, 184, 0, 74, 154, 0, 8, 42, 182, 0, 102, 172, 27, 154, 0, 13, 42]
abbrev dktX0_forget_0 : List UInt8 := dkwX0_forget_0 ++ dktX0_forget_1
theorem dksX0_forget_0 : cX0_forget.data.toList.drop 0 = dktX0_forget_0 := by decide +kernel
theorem dksX0_forget_1 : cX0_forget.data.toList.drop 22 = dktX0_forget_1 := dk_seg dksX0_forget_0 22 rfl rfl
theorem dksX0_forget_2 : cX0_forget.data.toList.drop 46 = dktX0_forget_2 := dk_seg dksX0_forget_1 24 rfl rfl
theorem dksX0_forget_3 : cX0_forget.data.toList.drop 70 = dktX0_forget_3 := dk_seg dksX0_forget_2 24 rfl rfl
theorem dksX0_forget_4 : cX0_forget.data.toList.drop 93 = dktX0_forget_4 := dk_seg dksX0_forget_3 23 rfl rfl
theorem dksX0_forget_5 : cX0_forget.data.toList.drop 116 = dktX0_forget_5 := dk_seg dksX0_forget_4 23 rfl rfl
theorem dX0_forget_0 : decode cX0_forget 0 = .ok (.iload_n 1, 1) := dk_27 (dk_at dksX0_forget_0 0 rfl rfl)
theorem dX0_forget_1 : decode cX0_forget 1 = .ok (.i2l, 1) := dk_133 (dk_at dksX0_forget_0 1 rfl rfl)
theorem dX0_forget_2 : decode cX0_forget 2 = .ok (.lconst 0, 1) := dk_9 (dk_at dksX0_forget_0 2 rfl rfl)
theorem dX0_forget_3 : decode cX0_forget 3 = .ok (.ldc2_w 252, 3) := dk_20 0 252 (dk_at dksX0_forget_0 3 rfl rfl)
theorem dX0_forget_6 : decode cX0_forget 6 = .ok (.invokestatic 74, 3) := dk_184 0 74 (dk_at dksX0_forget_0 6 rfl rfl)
theorem dX0_forget_9 : decode cX0_forget 9 = .ok (.ifCond .ne 8, 3) := dk_154 0 8 (dk_at dksX0_forget_0 9 rfl rfl)
theorem dX0_forget_12 : decode cX0_forget 12 = .ok (.aload_n 0, 1) := dk_42 (dk_at dksX0_forget_0 12 rfl rfl)
theorem dX0_forget_13 : decode cX0_forget 13 = .ok (.invokevirtual 102, 3) := dk_182 0 102 (dk_at dksX0_forget_0 13 rfl rfl)
theorem dX0_forget_16 : decode cX0_forget 16 = .ok (.ireturn, 1) := dk_172 (dk_at dksX0_forget_0 16 rfl rfl)
theorem dX0_forget_17 : decode cX0_forget 17 = .ok (.iload_n 1, 1) := dk_27 (dk_at dksX0_forget_0 17 rfl rfl)
theorem dX0_forget_18 : decode cX0_forget 18 = .ok (.ifCond .ne 13, 3) := dk_154 0 13 (dk_at dksX0_forget_0 18 rfl rfl)
theorem dX0_forget_21 : decode cX0_forget 21 = .ok (.aload_n 0, 1) := dk_42 (dk_at dksX0_forget_0 21 rfl rfl)
theorem dX0_forget_22 : decode cX0_forget 22 = .ok (.getfield 10, 3) := dk_180 0 10 (dk_at dksX0_forget_1 0 rfl rfl)
theorem dX0_forget_25 : decode cX0_forget 25 = .ok (.getfield 246, 3) := dk_180 0 246 (dk_at dksX0_forget_1 3 rfl rfl)
theorem dX0_forget_28 : decode cX0_forget 28 = .ok (.goto 25, 3) := dk_167 0 25 (dk_at dksX0_forget_1 6 rfl rfl)
theorem dX0_forget_31 : decode cX0_forget 31 = .ok (.iload_n 1, 1) := dk_27 (dk_at dksX0_forget_1 9 rfl rfl)
theorem dX0_forget_32 : decode cX0_forget 32 = .ok (.iconst 1, 1) := dk_4 (dk_at dksX0_forget_1 10 rfl rfl)
theorem dX0_forget_33 : decode cX0_forget 33 = .ok (.if_icmp .ne 13, 3) := dk_160 0 13 (dk_at dksX0_forget_1 11 rfl rfl)
theorem dX0_forget_36 : decode cX0_forget 36 = .ok (.aload_n 0, 1) := dk_42 (dk_at dksX0_forget_1 14 rfl rfl)
theorem dX0_forget_37 : decode cX0_forget 37 = .ok (.getfield 10, 3) := dk_180 0 10 (dk_at dksX0_forget_1 15 rfl rfl)
theorem dX0_forget_40 : decode cX0_forget 40 = .ok (.getfield 273, 3) := dk_180 1 17 (dk_at dksX0_forget_1 18 rfl rfl)
theorem dX0_forget_43 : decode cX0_forget 43 = .ok (.goto 10, 3) := dk_167 0 10 (dk_at dksX0_forget_1 21 rfl rfl)
theorem dX0_forget_46 : decode cX0_forget 46 = .ok (.aload_n 0, 1) := dk_42 (dk_at dksX0_forget_2 0 rfl rfl)
theorem dX0_forget_47 : decode cX0_forget 47 = .ok (.getfield 10, 3) := dk_180 0 10 (dk_at dksX0_forget_2 1 rfl rfl)
theorem dX0_forget_50 : decode cX0_forget 50 = .ok (.getfield 281, 3) := dk_180 1 25 (dk_at dksX0_forget_2 4 rfl rfl)
theorem dX0_forget_53 : decode cX0_forget 53 = .ok (.istore_n 2, 1) := dk_61 (dk_at dksX0_forget_2 7 rfl rfl)
theorem dX0_forget_54 : decode cX0_forget 54 = .ok (.aload_n 0, 1) := dk_42 (dk_at dksX0_forget_2 8 rfl rfl)
theorem dX0_forget_55 : decode cX0_forget 55 = .ok (.getfield 10, 3) := dk_180 0 10 (dk_at dksX0_forget_2 9 rfl rfl)
theorem dX0_forget_58 : decode cX0_forget 58 = .ok (.iload_n 1, 1) := dk_27 (dk_at dksX0_forget_2 12 rfl rfl)
theorem dX0_forget_59 : decode cX0_forget 59 = .ok (.ifCond .ne 7, 3) := dk_154 0 7 (dk_at dksX0_forget_2 13 rfl rfl)
theorem dX0_forget_62 : decode cX0_forget 62 = .ok (.iconst 0, 1) := dk_3 (dk_at dksX0_forget_2 16 rfl rfl)
theorem dX0_forget_63 : decode cX0_forget 63 = .ok (.goto 10, 3) := dk_167 0 10 (dk_at dksX0_forget_2 17 rfl rfl)
theorem dX0_forget_66 : decode cX0_forget 66 = .ok (.aload_n 0, 1) := dk_42 (dk_at dksX0_forget_2 20 rfl rfl)
theorem dX0_forget_67 : decode cX0_forget 67 = .ok (.getfield 10, 3) := dk_180 0 10 (dk_at dksX0_forget_2 21 rfl rfl)
theorem dX0_forget_70 : decode cX0_forget 70 = .ok (.getfield 246, 3) := dk_180 0 246 (dk_at dksX0_forget_3 0 rfl rfl)
theorem dX0_forget_73 : decode cX0_forget 73 = .ok (.putfield 246, 3) := dk_181 0 246 (dk_at dksX0_forget_3 3 rfl rfl)
theorem dX0_forget_76 : decode cX0_forget 76 = .ok (.aload_n 0, 1) := dk_42 (dk_at dksX0_forget_3 6 rfl rfl)
theorem dX0_forget_77 : decode cX0_forget 77 = .ok (.getfield 10, 3) := dk_180 0 10 (dk_at dksX0_forget_3 7 rfl rfl)
theorem dX0_forget_80 : decode cX0_forget 80 = .ok (.iload_n 1, 1) := dk_27 (dk_at dksX0_forget_3 10 rfl rfl)
theorem dX0_forget_81 : decode cX0_forget 81 = .ok (.iconst 1, 1) := dk_4 (dk_at dksX0_forget_3 11 rfl rfl)
theorem dX0_forget_82 : decode cX0_forget 82 = .ok (.if_icmp .ne 7, 3) := dk_160 0 7 (dk_at dksX0_forget_3 12 rfl rfl)
theorem dX0_forget_85 : decode cX0_forget 85 = .ok (.iconst 0, 1) := dk_3 (dk_at dksX0_forget_3 15 rfl rfl)
theorem dX0_forget_86 : decode cX0_forget 86 = .ok (.goto 10, 3) := dk_167 0 10 (dk_at dksX0_forget_3 16 rfl rfl)
theorem dX0_forget_89 : decode cX0_forget 89 = .ok (.aload_n 0, 1) := dk_42 (dk_at dksX0_forget_3 19 rfl rfl)
theorem dX0_forget_90 : decode cX0_forget 90 = .ok (.getfield 10, 3) := dk_180 0 10 (dk_at dksX0_forget_3 20 rfl rfl)
theorem dX0_forget_93 : decode cX0_forget 93 = .ok (.getfield 273, 3) := dk_180 1 17 (dk_at dksX0_forget_4 0 rfl rfl)
theorem dX0_forget_96 : decode cX0_forget 96 = .ok (.putfield 273, 3) := dk_181 1 17 (dk_at dksX0_forget_4 3 rfl rfl)
theorem dX0_forget_99 : decode cX0_forget 99 = .ok (.aload_n 0, 1) := dk_42 (dk_at dksX0_forget_4 6 rfl rfl)
theorem dX0_forget_100 : decode cX0_forget 100 = .ok (.getfield 10, 3) := dk_180 0 10 (dk_at dksX0_forget_4 7 rfl rfl)
theorem dX0_forget_103 : decode cX0_forget 103 = .ok (.iload_n 1, 1) := dk_27 (dk_at dksX0_forget_4 10 rfl rfl)
theorem dX0_forget_104 : decode cX0_forget 104 = .ok (.iconst 2, 1) := dk_5 (dk_at dksX0_forget_4 11 rfl rfl)
theorem dX0_forget_105 : decode cX0_forget 105 = .ok (.if_icmp .ne 7, 3) := dk_160 0 7 (dk_at dksX0_forget_4 12 rfl rfl)
theorem dX0_forget_108 : decode cX0_forget 108 = .ok (.iconst 0, 1) := dk_3 (dk_at dksX0_forget_4 15 rfl rfl)
theorem dX0_forget_109 : decode cX0_forget 109 = .ok (.goto 10, 3) := dk_167 0 10 (dk_at dksX0_forget_4 16 rfl rfl)
theorem dX0_forget_112 : decode cX0_forget 112 = .ok (.aload_n 0, 1) := dk_42 (dk_at dksX0_forget_4 19 rfl rfl)
theorem dX0_forget_113 : decode cX0_forget 113 = .ok (.getfield 10, 3) := dk_180 0 10 (dk_at dksX0_forget_4 20 rfl rfl)
theorem dX0_forget_116 : decode cX0_forget 116 = .ok (.getfield 281, 3) := dk_180 1 25 (dk_at dksX0_forget_5 0 rfl rfl)
theorem dX0_forget_119 : decode cX0_forget 119 = .ok (.putfield 281, 3) := dk_181 1 25 (dk_at dksX0_forget_5 3 rfl rfl)
theorem dX0_forget_122 : decode cX0_forget 122 = .ok (.iload_n 2, 1) := dk_28 (dk_at dksX0_forget_5 6 rfl rfl)
theorem dX0_forget_123 : decode cX0_forget 123 = .ok (.ireturn, 1) := dk_172 (dk_at dksX0_forget_5 7 rfl rfl)
abbrev cX0_is : ByteArray := prog_1_method_44_code
def yX0_is : MethodName := ⟨RX0, "is", "(I)I"⟩
def dkwX0_is_0 : List UInt8 := [42, 27, 182, 0, 116, 153, 0, 11, 42, 27, 182, 1, 36, 167, 0, 7, 42, 182, 0, 102, 172]
abbrev dktX0_is_0 : List UInt8 := dkwX0_is_0 ++ []
theorem dksX0_is_0 : cX0_is.data.toList.drop 0 = dktX0_is_0 := by decide +kernel
theorem dX0_is_0 : decode cX0_is 0 = .ok (.aload_n 0, 1) := dk_42 (dk_at dksX0_is_0 0 rfl rfl)
theorem dX0_is_1 : decode cX0_is 1 = .ok (.iload_n 1, 1) := dk_27 (dk_at dksX0_is_0 1 rfl rfl)
theorem dX0_is_2 : decode cX0_is 2 = .ok (.invokevirtual 116, 3) := dk_182 0 116 (dk_at dksX0_is_0 2 rfl rfl)
theorem dX0_is_5 : decode cX0_is 5 = .ok (.ifCond .eq 11, 3) := dk_153 0 11 (dk_at dksX0_is_0 5 rfl rfl)
theorem dX0_is_8 : decode cX0_is 8 = .ok (.aload_n 0, 1) := dk_42 (dk_at dksX0_is_0 8 rfl rfl)
theorem dX0_is_9 : decode cX0_is 9 = .ok (.iload_n 1, 1) := dk_27 (dk_at dksX0_is_0 9 rfl rfl)
theorem dX0_is_10 : decode cX0_is 10 = .ok (.invokevirtual 292, 3) := dk_182 1 36 (dk_at dksX0_is_0 10 rfl rfl)
theorem dX0_is_13 : decode cX0_is 13 = .ok (.goto 7, 3) := dk_167 0 7 (dk_at dksX0_is_0 13 rfl rfl)
theorem dX0_is_16 : decode cX0_is 16 = .ok (.aload_n 0, 1) := dk_42 (dk_at dksX0_is_0 16 rfl rfl)
theorem dX0_is_17 : decode cX0_is 17 = .ok (.invokevirtual 102, 3) := dk_182 0 102 (dk_at dksX0_is_0 17 rfl rfl)
theorem dX0_is_20 : decode cX0_is 20 = .ok (.ireturn, 1) := dk_172 (dk_at dksX0_is_0 20 rfl rfl)
abbrev cX0_sailsOf : ByteArray := prog_1_method_43_code
def yX0_sailsOf : MethodName := ⟨RX0, "sailsOf", "(I)I"⟩
def dkwX0_sailsOf_5 : List UInt8 := [132, 4, 1, 167, 255, 150, 28, 172]
abbrev dktX0_sailsOf_5 : List UInt8 := dkwX0_sailsOf_5 ++ []
def dkwX0_sailsOf_4 : List UInt8 := [132, 6, 1, 167, 255, 185, 28, 21, 5, 153, 0, 10, 4, 21, 4, 120, 167, 0, 4, 3, 128, 61]
abbrev dktX0_sailsOf_4 : List UInt8 := dkwX0_sailsOf_4 ++ dktX0_sailsOf_5
def dkwX0_sailsOf_3 : List UInt8 := [21, 7, 5, 96, 46, 182, 1, 34, 45, 21, 7, 6, 96, 46, 160, 0, 7, 4, 167, 0, 4, 3, 54, 5]
abbrev dktX0_sailsOf_3 : List UInt8 := dkwX0_sailsOf_3 ++ dktX0_sailsOf_4
def dkwX0_sailsOf_2 : List UInt8 := [54, 7, 45, 21, 7, 46, 27, 160, 0, 33, 178, 1, 31, 21, 4, 50, 45, 21, 7, 4, 96, 46, 45]
abbrev dktX0_sailsOf_2 : List UInt8 := dkwX0_sailsOf_2 ++ dktX0_sailsOf_3
def dkwX0_sailsOf_1 : List UInt8 := [54, 6, 21, 6, 42, 180, 0, 10, 180, 1, 17, 162, 0, 65, 21, 5, 153, 0, 60, 7, 21, 6, 104]
abbrev dktX0_sailsOf_1 : List UInt8 := dkwX0_sailsOf_1 ++ dktX0_sailsOf_2
def dkwX0_sailsOf_0 : List UInt8 := [3, 61, 42, 180, 0, 10, 180, 1, 20, 78, 3, 54, 4, 21, 4, 16, 6, 162, 0, 105, 4, 54, 5, 3]
abbrev dktX0_sailsOf_0 : List UInt8 := dkwX0_sailsOf_0 ++ dktX0_sailsOf_1
theorem dksX0_sailsOf_0 : cX0_sailsOf.data.toList.drop 0 = dktX0_sailsOf_0 := by decide +kernel
theorem dksX0_sailsOf_1 : cX0_sailsOf.data.toList.drop 24 = dktX0_sailsOf_1 := dk_seg dksX0_sailsOf_0 24 rfl rfl
theorem dksX0_sailsOf_2 : cX0_sailsOf.data.toList.drop 47 = dktX0_sailsOf_2 := dk_seg dksX0_sailsOf_1 23 rfl rfl
theorem dksX0_sailsOf_3 : cX0_sailsOf.data.toList.drop 70 = dktX0_sailsOf_3 := dk_seg dksX0_sailsOf_2 23 rfl rfl
theorem dksX0_sailsOf_4 : cX0_sailsOf.data.toList.drop 94 = dktX0_sailsOf_4 := dk_seg dksX0_sailsOf_3 24 rfl rfl
theorem dksX0_sailsOf_5 : cX0_sailsOf.data.toList.drop 116 = dktX0_sailsOf_5 := dk_seg dksX0_sailsOf_4 22 rfl rfl
theorem dX0_sailsOf_0 : decode cX0_sailsOf 0 = .ok (.iconst 0, 1) := dk_3 (dk_at dksX0_sailsOf_0 0 rfl rfl)
theorem dX0_sailsOf_1 : decode cX0_sailsOf 1 = .ok (.istore_n 2, 1) := dk_61 (dk_at dksX0_sailsOf_0 1 rfl rfl)
theorem dX0_sailsOf_2 : decode cX0_sailsOf 2 = .ok (.aload_n 0, 1) := dk_42 (dk_at dksX0_sailsOf_0 2 rfl rfl)
theorem dX0_sailsOf_3 : decode cX0_sailsOf 3 = .ok (.getfield 10, 3) := dk_180 0 10 (dk_at dksX0_sailsOf_0 3 rfl rfl)
theorem dX0_sailsOf_6 : decode cX0_sailsOf 6 = .ok (.getfield 276, 3) := dk_180 1 20 (dk_at dksX0_sailsOf_0 6 rfl rfl)
theorem dX0_sailsOf_9 : decode cX0_sailsOf 9 = .ok (.astore_n 3, 1) := dk_78 (dk_at dksX0_sailsOf_0 9 rfl rfl)
theorem dX0_sailsOf_10 : decode cX0_sailsOf 10 = .ok (.iconst 0, 1) := dk_3 (dk_at dksX0_sailsOf_0 10 rfl rfl)
theorem dX0_sailsOf_11 : decode cX0_sailsOf 11 = .ok (.istore 4, 2) := dk_54 4 (dk_at dksX0_sailsOf_0 11 rfl rfl)
theorem dX0_sailsOf_13 : decode cX0_sailsOf 13 = .ok (.iload 4, 2) := dk_21 4 (dk_at dksX0_sailsOf_0 13 rfl rfl)
theorem dX0_sailsOf_15 : decode cX0_sailsOf 15 = .ok (.bipush 6, 2) := dk_16 6 (dk_at dksX0_sailsOf_0 15 rfl rfl)
theorem dX0_sailsOf_17 : decode cX0_sailsOf 17 = .ok (.if_icmp .ge 105, 3) := dk_162 0 105 (dk_at dksX0_sailsOf_0 17 rfl rfl)
theorem dX0_sailsOf_20 : decode cX0_sailsOf 20 = .ok (.iconst 1, 1) := dk_4 (dk_at dksX0_sailsOf_0 20 rfl rfl)
theorem dX0_sailsOf_21 : decode cX0_sailsOf 21 = .ok (.istore 5, 2) := dk_54 5 (dk_at dksX0_sailsOf_0 21 rfl rfl)
theorem dX0_sailsOf_23 : decode cX0_sailsOf 23 = .ok (.iconst 0, 1) := dk_3 (dk_at dksX0_sailsOf_0 23 rfl rfl)
theorem dX0_sailsOf_24 : decode cX0_sailsOf 24 = .ok (.istore 6, 2) := dk_54 6 (dk_at dksX0_sailsOf_1 0 rfl rfl)
theorem dX0_sailsOf_26 : decode cX0_sailsOf 26 = .ok (.iload 6, 2) := dk_21 6 (dk_at dksX0_sailsOf_1 2 rfl rfl)
theorem dX0_sailsOf_28 : decode cX0_sailsOf 28 = .ok (.aload_n 0, 1) := dk_42 (dk_at dksX0_sailsOf_1 4 rfl rfl)
theorem dX0_sailsOf_29 : decode cX0_sailsOf 29 = .ok (.getfield 10, 3) := dk_180 0 10 (dk_at dksX0_sailsOf_1 5 rfl rfl)
theorem dX0_sailsOf_32 : decode cX0_sailsOf 32 = .ok (.getfield 273, 3) := dk_180 1 17 (dk_at dksX0_sailsOf_1 8 rfl rfl)
theorem dX0_sailsOf_35 : decode cX0_sailsOf 35 = .ok (.if_icmp .ge 65, 3) := dk_162 0 65 (dk_at dksX0_sailsOf_1 11 rfl rfl)
theorem dX0_sailsOf_38 : decode cX0_sailsOf 38 = .ok (.iload 5, 2) := dk_21 5 (dk_at dksX0_sailsOf_1 14 rfl rfl)
theorem dX0_sailsOf_40 : decode cX0_sailsOf 40 = .ok (.ifCond .eq 60, 3) := dk_153 0 60 (dk_at dksX0_sailsOf_1 16 rfl rfl)
theorem dX0_sailsOf_43 : decode cX0_sailsOf 43 = .ok (.iconst 4, 1) := dk_7 (dk_at dksX0_sailsOf_1 19 rfl rfl)
theorem dX0_sailsOf_44 : decode cX0_sailsOf 44 = .ok (.iload 6, 2) := dk_21 6 (dk_at dksX0_sailsOf_1 20 rfl rfl)
theorem dX0_sailsOf_46 : decode cX0_sailsOf 46 = .ok (.imul, 1) := dk_104 (dk_at dksX0_sailsOf_1 22 rfl rfl)
theorem dX0_sailsOf_47 : decode cX0_sailsOf 47 = .ok (.istore 7, 2) := dk_54 7 (dk_at dksX0_sailsOf_2 0 rfl rfl)
theorem dX0_sailsOf_49 : decode cX0_sailsOf 49 = .ok (.aload_n 3, 1) := dk_45 (dk_at dksX0_sailsOf_2 2 rfl rfl)
theorem dX0_sailsOf_50 : decode cX0_sailsOf 50 = .ok (.iload 7, 2) := dk_21 7 (dk_at dksX0_sailsOf_2 3 rfl rfl)
theorem dX0_sailsOf_52 : decode cX0_sailsOf 52 = .ok (.iaload, 1) := dk_46 (dk_at dksX0_sailsOf_2 5 rfl rfl)
theorem dX0_sailsOf_53 : decode cX0_sailsOf 53 = .ok (.iload_n 1, 1) := dk_27 (dk_at dksX0_sailsOf_2 6 rfl rfl)
theorem dX0_sailsOf_54 : decode cX0_sailsOf 54 = .ok (.if_icmp .ne 33, 3) := dk_160 0 33 (dk_at dksX0_sailsOf_2 7 rfl rfl)
theorem dX0_sailsOf_57 : decode cX0_sailsOf 57 = .ok (.getstatic 287, 3) := dk_178 1 31 (dk_at dksX0_sailsOf_2 10 rfl rfl)
theorem dX0_sailsOf_60 : decode cX0_sailsOf 60 = .ok (.iload 4, 2) := dk_21 4 (dk_at dksX0_sailsOf_2 13 rfl rfl)
theorem dX0_sailsOf_62 : decode cX0_sailsOf 62 = .ok (.aaload, 1) := dk_50 (dk_at dksX0_sailsOf_2 15 rfl rfl)
theorem dX0_sailsOf_63 : decode cX0_sailsOf 63 = .ok (.aload_n 3, 1) := dk_45 (dk_at dksX0_sailsOf_2 16 rfl rfl)
theorem dX0_sailsOf_64 : decode cX0_sailsOf 64 = .ok (.iload 7, 2) := dk_21 7 (dk_at dksX0_sailsOf_2 17 rfl rfl)
theorem dX0_sailsOf_66 : decode cX0_sailsOf 66 = .ok (.iconst 1, 1) := dk_4 (dk_at dksX0_sailsOf_2 19 rfl rfl)
theorem dX0_sailsOf_67 : decode cX0_sailsOf 67 = .ok (.iadd, 1) := dk_96 (dk_at dksX0_sailsOf_2 20 rfl rfl)
theorem dX0_sailsOf_68 : decode cX0_sailsOf 68 = .ok (.iaload, 1) := dk_46 (dk_at dksX0_sailsOf_2 21 rfl rfl)
theorem dX0_sailsOf_69 : decode cX0_sailsOf 69 = .ok (.aload_n 3, 1) := dk_45 (dk_at dksX0_sailsOf_2 22 rfl rfl)
theorem dX0_sailsOf_70 : decode cX0_sailsOf 70 = .ok (.iload 7, 2) := dk_21 7 (dk_at dksX0_sailsOf_3 0 rfl rfl)
theorem dX0_sailsOf_72 : decode cX0_sailsOf 72 = .ok (.iconst 2, 1) := dk_5 (dk_at dksX0_sailsOf_3 2 rfl rfl)
theorem dX0_sailsOf_73 : decode cX0_sailsOf 73 = .ok (.iadd, 1) := dk_96 (dk_at dksX0_sailsOf_3 3 rfl rfl)
theorem dX0_sailsOf_74 : decode cX0_sailsOf 74 = .ok (.iaload, 1) := dk_46 (dk_at dksX0_sailsOf_3 4 rfl rfl)
theorem dX0_sailsOf_75 : decode cX0_sailsOf 75 = .ok (.invokevirtual 290, 3) := dk_182 1 34 (dk_at dksX0_sailsOf_3 5 rfl rfl)
theorem dX0_sailsOf_78 : decode cX0_sailsOf 78 = .ok (.aload_n 3, 1) := dk_45 (dk_at dksX0_sailsOf_3 8 rfl rfl)
theorem dX0_sailsOf_79 : decode cX0_sailsOf 79 = .ok (.iload 7, 2) := dk_21 7 (dk_at dksX0_sailsOf_3 9 rfl rfl)
theorem dX0_sailsOf_81 : decode cX0_sailsOf 81 = .ok (.iconst 3, 1) := dk_6 (dk_at dksX0_sailsOf_3 11 rfl rfl)
theorem dX0_sailsOf_82 : decode cX0_sailsOf 82 = .ok (.iadd, 1) := dk_96 (dk_at dksX0_sailsOf_3 12 rfl rfl)
theorem dX0_sailsOf_83 : decode cX0_sailsOf 83 = .ok (.iaload, 1) := dk_46 (dk_at dksX0_sailsOf_3 13 rfl rfl)
theorem dX0_sailsOf_84 : decode cX0_sailsOf 84 = .ok (.if_icmp .ne 7, 3) := dk_160 0 7 (dk_at dksX0_sailsOf_3 14 rfl rfl)
theorem dX0_sailsOf_87 : decode cX0_sailsOf 87 = .ok (.iconst 1, 1) := dk_4 (dk_at dksX0_sailsOf_3 17 rfl rfl)
theorem dX0_sailsOf_88 : decode cX0_sailsOf 88 = .ok (.goto 4, 3) := dk_167 0 4 (dk_at dksX0_sailsOf_3 18 rfl rfl)
theorem dX0_sailsOf_91 : decode cX0_sailsOf 91 = .ok (.iconst 0, 1) := dk_3 (dk_at dksX0_sailsOf_3 21 rfl rfl)
theorem dX0_sailsOf_92 : decode cX0_sailsOf 92 = .ok (.istore 5, 2) := dk_54 5 (dk_at dksX0_sailsOf_3 22 rfl rfl)
theorem dX0_sailsOf_94 : decode cX0_sailsOf 94 = .ok (.iinc 6 1, 3) := dk_132 6 1 (dk_at dksX0_sailsOf_4 0 rfl rfl)
theorem dX0_sailsOf_97 : decode cX0_sailsOf 97 = .ok (.goto (-71), 3) := dk_167 255 185 (dk_at dksX0_sailsOf_4 3 rfl rfl)
theorem dX0_sailsOf_100 : decode cX0_sailsOf 100 = .ok (.iload_n 2, 1) := dk_28 (dk_at dksX0_sailsOf_4 6 rfl rfl)
theorem dX0_sailsOf_101 : decode cX0_sailsOf 101 = .ok (.iload 5, 2) := dk_21 5 (dk_at dksX0_sailsOf_4 7 rfl rfl)
theorem dX0_sailsOf_103 : decode cX0_sailsOf 103 = .ok (.ifCond .eq 10, 3) := dk_153 0 10 (dk_at dksX0_sailsOf_4 9 rfl rfl)
theorem dX0_sailsOf_106 : decode cX0_sailsOf 106 = .ok (.iconst 1, 1) := dk_4 (dk_at dksX0_sailsOf_4 12 rfl rfl)
theorem dX0_sailsOf_107 : decode cX0_sailsOf 107 = .ok (.iload 4, 2) := dk_21 4 (dk_at dksX0_sailsOf_4 13 rfl rfl)
theorem dX0_sailsOf_109 : decode cX0_sailsOf 109 = .ok (.ishl, 1) := dk_120 (dk_at dksX0_sailsOf_4 15 rfl rfl)
theorem dX0_sailsOf_110 : decode cX0_sailsOf 110 = .ok (.goto 4, 3) := dk_167 0 4 (dk_at dksX0_sailsOf_4 16 rfl rfl)
theorem dX0_sailsOf_113 : decode cX0_sailsOf 113 = .ok (.iconst 0, 1) := dk_3 (dk_at dksX0_sailsOf_4 19 rfl rfl)
theorem dX0_sailsOf_114 : decode cX0_sailsOf 114 = .ok (.ior, 1) := dk_128 (dk_at dksX0_sailsOf_4 20 rfl rfl)
theorem dX0_sailsOf_115 : decode cX0_sailsOf 115 = .ok (.istore_n 2, 1) := dk_61 (dk_at dksX0_sailsOf_4 21 rfl rfl)
theorem dX0_sailsOf_116 : decode cX0_sailsOf 116 = .ok (.iinc 4 1, 3) := dk_132 4 1 (dk_at dksX0_sailsOf_5 0 rfl rfl)
theorem dX0_sailsOf_119 : decode cX0_sailsOf 119 = .ok (.goto (-106), 3) := dk_167 255 150 (dk_at dksX0_sailsOf_5 3 rfl rfl)
theorem dX0_sailsOf_122 : decode cX0_sailsOf 122 = .ok (.iload_n 2, 1) := dk_28 (dk_at dksX0_sailsOf_5 6 rfl rfl)
theorem dX0_sailsOf_123 : decode cX0_sailsOf 123 = .ok (.ireturn, 1) := dk_172 (dk_at dksX0_sailsOf_5 7 rfl rfl)
abbrev cX0_look : ByteArray := prog_1_method_46_code
def yX0_look : MethodName := ⟨RX0, "look", "(I)I"⟩
def dkwX0_look_4 : List UInt8 := [167, 255, 195, 29, 172]
abbrev dktX0_look_4 : List UInt8 := dkwX0_look_4 ++ []
def dkwX0_look_3 : List UInt8 := [162, 0, 8, 21, 5, 167, 0, 4, 29, 62, 21, 4, 21, 6, 184, 1, 14, 54, 4, 132, 5, 1]
abbrev dktX0_look_3 : List UInt8 := dkwX0_look_3 ++ dktX0_look_4
def dkwX0_look_2 : List UInt8 := [16, 8, 163, 0, 12, 28, 21, 5, 184, 1, 39, 167, 0, 5, 18, 234, 54, 6, 21, 6, 21, 4]
abbrev dktX0_look_2 : List UInt8 := dkwX0_look_2 ++ dktX0_look_3
def dkwX0_look_1 : List UInt8 := [54, 4, 16, 10, 54, 5, 21, 5, 17, 1, 53, 162, 0, 59, 28, 153, 0, 55, 21, 5, 16, 10, 112]
abbrev dktX0_look_1 : List UInt8 := dkwX0_look_1 ++ dktX0_look_2
def dkwX0_look_0 : List UInt8 := [42, 27, 182, 0, 116, 154, 0, 8, 42, 182, 0, 102, 172, 42, 27, 182, 1, 36, 61, 2, 62, 18, 234]
abbrev dktX0_look_0 : List UInt8 := dkwX0_look_0 ++ dktX0_look_1
theorem dksX0_look_0 : cX0_look.data.toList.drop 0 = dktX0_look_0 := by decide +kernel
theorem dksX0_look_1 : cX0_look.data.toList.drop 23 = dktX0_look_1 := dk_seg dksX0_look_0 23 rfl rfl
theorem dksX0_look_2 : cX0_look.data.toList.drop 46 = dktX0_look_2 := dk_seg dksX0_look_1 23 rfl rfl
theorem dksX0_look_3 : cX0_look.data.toList.drop 68 = dktX0_look_3 := dk_seg dksX0_look_2 22 rfl rfl
theorem dksX0_look_4 : cX0_look.data.toList.drop 90 = dktX0_look_4 := dk_seg dksX0_look_3 22 rfl rfl
theorem dX0_look_0 : decode cX0_look 0 = .ok (.aload_n 0, 1) := dk_42 (dk_at dksX0_look_0 0 rfl rfl)
theorem dX0_look_1 : decode cX0_look 1 = .ok (.iload_n 1, 1) := dk_27 (dk_at dksX0_look_0 1 rfl rfl)
theorem dX0_look_2 : decode cX0_look 2 = .ok (.invokevirtual 116, 3) := dk_182 0 116 (dk_at dksX0_look_0 2 rfl rfl)
theorem dX0_look_5 : decode cX0_look 5 = .ok (.ifCond .ne 8, 3) := dk_154 0 8 (dk_at dksX0_look_0 5 rfl rfl)
theorem dX0_look_8 : decode cX0_look 8 = .ok (.aload_n 0, 1) := dk_42 (dk_at dksX0_look_0 8 rfl rfl)
theorem dX0_look_9 : decode cX0_look 9 = .ok (.invokevirtual 102, 3) := dk_182 0 102 (dk_at dksX0_look_0 9 rfl rfl)
theorem dX0_look_12 : decode cX0_look 12 = .ok (.ireturn, 1) := dk_172 (dk_at dksX0_look_0 12 rfl rfl)
theorem dX0_look_13 : decode cX0_look 13 = .ok (.aload_n 0, 1) := dk_42 (dk_at dksX0_look_0 13 rfl rfl)
theorem dX0_look_14 : decode cX0_look 14 = .ok (.iload_n 1, 1) := dk_27 (dk_at dksX0_look_0 14 rfl rfl)
theorem dX0_look_15 : decode cX0_look 15 = .ok (.invokevirtual 292, 3) := dk_182 1 36 (dk_at dksX0_look_0 15 rfl rfl)
theorem dX0_look_18 : decode cX0_look 18 = .ok (.istore_n 2, 1) := dk_61 (dk_at dksX0_look_0 18 rfl rfl)
theorem dX0_look_19 : decode cX0_look 19 = .ok (.iconst (-1), 1) := dk_2 (dk_at dksX0_look_0 19 rfl rfl)
theorem dX0_look_20 : decode cX0_look 20 = .ok (.istore_n 3, 1) := dk_62 (dk_at dksX0_look_0 20 rfl rfl)
theorem dX0_look_21 : decode cX0_look 21 = .ok (.ldc 234, 2) := dk_18 234 (dk_at dksX0_look_0 21 rfl rfl)
theorem dX0_look_23 : decode cX0_look 23 = .ok (.istore 4, 2) := dk_54 4 (dk_at dksX0_look_1 0 rfl rfl)
theorem dX0_look_25 : decode cX0_look 25 = .ok (.bipush 10, 2) := dk_16 10 (dk_at dksX0_look_1 2 rfl rfl)
theorem dX0_look_27 : decode cX0_look 27 = .ok (.istore 5, 2) := dk_54 5 (dk_at dksX0_look_1 4 rfl rfl)
theorem dX0_look_29 : decode cX0_look 29 = .ok (.iload 5, 2) := dk_21 5 (dk_at dksX0_look_1 6 rfl rfl)
theorem dX0_look_31 : decode cX0_look 31 = .ok (.sipush 309, 3) := dk_17 1 53 (dk_at dksX0_look_1 8 rfl rfl)
theorem dX0_look_34 : decode cX0_look 34 = .ok (.if_icmp .ge 59, 3) := dk_162 0 59 (dk_at dksX0_look_1 11 rfl rfl)
theorem dX0_look_37 : decode cX0_look 37 = .ok (.iload_n 2, 1) := dk_28 (dk_at dksX0_look_1 14 rfl rfl)
theorem dX0_look_38 : decode cX0_look 38 = .ok (.ifCond .eq 55, 3) := dk_153 0 55 (dk_at dksX0_look_1 15 rfl rfl)
theorem dX0_look_41 : decode cX0_look 41 = .ok (.iload 5, 2) := dk_21 5 (dk_at dksX0_look_1 18 rfl rfl)
theorem dX0_look_43 : decode cX0_look 43 = .ok (.bipush 10, 2) := dk_16 10 (dk_at dksX0_look_1 20 rfl rfl)
theorem dX0_look_45 : decode cX0_look 45 = .ok (.irem, 1) := dk_112 (dk_at dksX0_look_1 22 rfl rfl)
theorem dX0_look_46 : decode cX0_look 46 = .ok (.bipush 8, 2) := dk_16 8 (dk_at dksX0_look_2 0 rfl rfl)
theorem dX0_look_48 : decode cX0_look 48 = .ok (.if_icmp .gt 12, 3) := dk_163 0 12 (dk_at dksX0_look_2 2 rfl rfl)
theorem dX0_look_51 : decode cX0_look 51 = .ok (.iload_n 2, 1) := dk_28 (dk_at dksX0_look_2 5 rfl rfl)
theorem dX0_look_52 : decode cX0_look 52 = .ok (.iload 5, 2) := dk_21 5 (dk_at dksX0_look_2 6 rfl rfl)
theorem dX0_look_54 : decode cX0_look 54 = .ok (.invokestatic 295, 3) := dk_184 1 39 (dk_at dksX0_look_2 8 rfl rfl)
theorem dX0_look_57 : decode cX0_look 57 = .ok (.goto 5, 3) := dk_167 0 5 (dk_at dksX0_look_2 11 rfl rfl)
theorem dX0_look_60 : decode cX0_look 60 = .ok (.ldc 234, 2) := dk_18 234 (dk_at dksX0_look_2 14 rfl rfl)
theorem dX0_look_62 : decode cX0_look 62 = .ok (.istore 6, 2) := dk_54 6 (dk_at dksX0_look_2 16 rfl rfl)
theorem dX0_look_64 : decode cX0_look 64 = .ok (.iload 6, 2) := dk_21 6 (dk_at dksX0_look_2 18 rfl rfl)
theorem dX0_look_66 : decode cX0_look 66 = .ok (.iload 4, 2) := dk_21 4 (dk_at dksX0_look_2 20 rfl rfl)
theorem dX0_look_68 : decode cX0_look 68 = .ok (.if_icmp .ge 8, 3) := dk_162 0 8 (dk_at dksX0_look_3 0 rfl rfl)
theorem dX0_look_71 : decode cX0_look 71 = .ok (.iload 5, 2) := dk_21 5 (dk_at dksX0_look_3 3 rfl rfl)
theorem dX0_look_73 : decode cX0_look 73 = .ok (.goto 4, 3) := dk_167 0 4 (dk_at dksX0_look_3 5 rfl rfl)
theorem dX0_look_76 : decode cX0_look 76 = .ok (.iload_n 3, 1) := dk_29 (dk_at dksX0_look_3 8 rfl rfl)
theorem dX0_look_77 : decode cX0_look 77 = .ok (.istore_n 3, 1) := dk_62 (dk_at dksX0_look_3 9 rfl rfl)
theorem dX0_look_78 : decode cX0_look 78 = .ok (.iload 4, 2) := dk_21 4 (dk_at dksX0_look_3 10 rfl rfl)
theorem dX0_look_80 : decode cX0_look 80 = .ok (.iload 6, 2) := dk_21 6 (dk_at dksX0_look_3 12 rfl rfl)
theorem dX0_look_82 : decode cX0_look 82 = .ok (.invokestatic 270, 3) := dk_184 1 14 (dk_at dksX0_look_3 14 rfl rfl)
theorem dX0_look_85 : decode cX0_look 85 = .ok (.istore 4, 2) := dk_54 4 (dk_at dksX0_look_3 17 rfl rfl)
theorem dX0_look_87 : decode cX0_look 87 = .ok (.iinc 5 1, 3) := dk_132 5 1 (dk_at dksX0_look_3 19 rfl rfl)
theorem dX0_look_90 : decode cX0_look 90 = .ok (.goto (-61), 3) := dk_167 255 195 (dk_at dksX0_look_4 0 rfl rfl)
theorem dX0_look_93 : decode cX0_look 93 = .ok (.iload_n 3, 1) := dk_29 (dk_at dksX0_look_4 3 rfl rfl)
theorem dX0_look_94 : decode cX0_look 94 = .ok (.ireturn, 1) := dk_172 (dk_at dksX0_look_4 4 rfl rfl)
abbrev cX0_needAlike : ByteArray := prog_1_method_45_code
def yX0_needAlike : MethodName := ⟨RX0, "needAlike", "(II)I"⟩
def dkwX0_needAlike_4 : List UInt8 := [54, 4, 132, 5, 1, 167, 255, 174, 28, 21, 4, 184, 1, 2, 61, 132, 3, 1, 167, 255, 149, 28, 172]
abbrev dktX0_needAlike_4 : List UInt8 := dkwX0_needAlike_4 ++ []
def dkwX0_needAlike_3 : List UInt8 := [122, 26, 21, 5, 122, 126, 4, 126, 4, 160, 0, 12, 21, 6, 153, 0, 7, 4, 167, 0, 4, 3, 96]
abbrev dktX0_needAlike_3 : List UInt8 := dkwX0_needAlike_3 ++ dktX0_needAlike_4
def dkwX0_needAlike_2 : List UInt8 := [16, 10, 108, 27, 16, 10, 112, 182, 1, 34, 160, 0, 7, 4, 167, 0, 4, 3, 54, 6, 21, 4, 26, 29]
abbrev dktX0_needAlike_2 : List UInt8 := dkwX0_needAlike_2 ++ dktX0_needAlike_3
def dkwX0_needAlike_1 : List UInt8 := [178, 1, 31, 29, 50, 27, 16, 10, 108, 27, 16, 10, 112, 182, 1, 34, 178, 1, 31, 21, 5, 50, 27]
abbrev dktX0_needAlike_1 : List UInt8 := dkwX0_needAlike_1 ++ dktX0_needAlike_2
def dkwX0_needAlike_0 : List UInt8 := [3, 61, 3, 62, 29, 16, 6, 162, 0, 107, 3, 54, 4, 3, 54, 5, 21, 5, 16, 6, 162, 0, 81]
abbrev dktX0_needAlike_0 : List UInt8 := dkwX0_needAlike_0 ++ dktX0_needAlike_1
theorem dksX0_needAlike_0 : cX0_needAlike.data.toList.drop 0 = dktX0_needAlike_0 := by decide +kernel
theorem dksX0_needAlike_1 : cX0_needAlike.data.toList.drop 23 = dktX0_needAlike_1 := dk_seg dksX0_needAlike_0 23 rfl rfl
theorem dksX0_needAlike_2 : cX0_needAlike.data.toList.drop 46 = dktX0_needAlike_2 := dk_seg dksX0_needAlike_1 23 rfl rfl
theorem dksX0_needAlike_3 : cX0_needAlike.data.toList.drop 70 = dktX0_needAlike_3 := dk_seg dksX0_needAlike_2 24 rfl rfl
theorem dksX0_needAlike_4 : cX0_needAlike.data.toList.drop 93 = dktX0_needAlike_4 := dk_seg dksX0_needAlike_3 23 rfl rfl
theorem dX0_needAlike_0 : decode cX0_needAlike 0 = .ok (.iconst 0, 1) := dk_3 (dk_at dksX0_needAlike_0 0 rfl rfl)
theorem dX0_needAlike_1 : decode cX0_needAlike 1 = .ok (.istore_n 2, 1) := dk_61 (dk_at dksX0_needAlike_0 1 rfl rfl)
theorem dX0_needAlike_2 : decode cX0_needAlike 2 = .ok (.iconst 0, 1) := dk_3 (dk_at dksX0_needAlike_0 2 rfl rfl)
theorem dX0_needAlike_3 : decode cX0_needAlike 3 = .ok (.istore_n 3, 1) := dk_62 (dk_at dksX0_needAlike_0 3 rfl rfl)
theorem dX0_needAlike_4 : decode cX0_needAlike 4 = .ok (.iload_n 3, 1) := dk_29 (dk_at dksX0_needAlike_0 4 rfl rfl)
theorem dX0_needAlike_5 : decode cX0_needAlike 5 = .ok (.bipush 6, 2) := dk_16 6 (dk_at dksX0_needAlike_0 5 rfl rfl)
theorem dX0_needAlike_7 : decode cX0_needAlike 7 = .ok (.if_icmp .ge 107, 3) := dk_162 0 107 (dk_at dksX0_needAlike_0 7 rfl rfl)
theorem dX0_needAlike_10 : decode cX0_needAlike 10 = .ok (.iconst 0, 1) := dk_3 (dk_at dksX0_needAlike_0 10 rfl rfl)
theorem dX0_needAlike_11 : decode cX0_needAlike 11 = .ok (.istore 4, 2) := dk_54 4 (dk_at dksX0_needAlike_0 11 rfl rfl)
theorem dX0_needAlike_13 : decode cX0_needAlike 13 = .ok (.iconst 0, 1) := dk_3 (dk_at dksX0_needAlike_0 13 rfl rfl)
theorem dX0_needAlike_14 : decode cX0_needAlike 14 = .ok (.istore 5, 2) := dk_54 5 (dk_at dksX0_needAlike_0 14 rfl rfl)
theorem dX0_needAlike_16 : decode cX0_needAlike 16 = .ok (.iload 5, 2) := dk_21 5 (dk_at dksX0_needAlike_0 16 rfl rfl)
theorem dX0_needAlike_18 : decode cX0_needAlike 18 = .ok (.bipush 6, 2) := dk_16 6 (dk_at dksX0_needAlike_0 18 rfl rfl)
theorem dX0_needAlike_20 : decode cX0_needAlike 20 = .ok (.if_icmp .ge 81, 3) := dk_162 0 81 (dk_at dksX0_needAlike_0 20 rfl rfl)
theorem dX0_needAlike_23 : decode cX0_needAlike 23 = .ok (.getstatic 287, 3) := dk_178 1 31 (dk_at dksX0_needAlike_1 0 rfl rfl)
theorem dX0_needAlike_26 : decode cX0_needAlike 26 = .ok (.iload_n 3, 1) := dk_29 (dk_at dksX0_needAlike_1 3 rfl rfl)
theorem dX0_needAlike_27 : decode cX0_needAlike 27 = .ok (.aaload, 1) := dk_50 (dk_at dksX0_needAlike_1 4 rfl rfl)
theorem dX0_needAlike_28 : decode cX0_needAlike 28 = .ok (.iload_n 1, 1) := dk_27 (dk_at dksX0_needAlike_1 5 rfl rfl)
theorem dX0_needAlike_29 : decode cX0_needAlike 29 = .ok (.bipush 10, 2) := dk_16 10 (dk_at dksX0_needAlike_1 6 rfl rfl)
theorem dX0_needAlike_31 : decode cX0_needAlike 31 = .ok (.idiv, 1) := dk_108 (dk_at dksX0_needAlike_1 8 rfl rfl)
theorem dX0_needAlike_32 : decode cX0_needAlike 32 = .ok (.iload_n 1, 1) := dk_27 (dk_at dksX0_needAlike_1 9 rfl rfl)
theorem dX0_needAlike_33 : decode cX0_needAlike 33 = .ok (.bipush 10, 2) := dk_16 10 (dk_at dksX0_needAlike_1 10 rfl rfl)
theorem dX0_needAlike_35 : decode cX0_needAlike 35 = .ok (.irem, 1) := dk_112 (dk_at dksX0_needAlike_1 12 rfl rfl)
theorem dX0_needAlike_36 : decode cX0_needAlike 36 = .ok (.invokevirtual 290, 3) := dk_182 1 34 (dk_at dksX0_needAlike_1 13 rfl rfl)
theorem dX0_needAlike_39 : decode cX0_needAlike 39 = .ok (.getstatic 287, 3) := dk_178 1 31 (dk_at dksX0_needAlike_1 16 rfl rfl)
theorem dX0_needAlike_42 : decode cX0_needAlike 42 = .ok (.iload 5, 2) := dk_21 5 (dk_at dksX0_needAlike_1 19 rfl rfl)
theorem dX0_needAlike_44 : decode cX0_needAlike 44 = .ok (.aaload, 1) := dk_50 (dk_at dksX0_needAlike_1 21 rfl rfl)
theorem dX0_needAlike_45 : decode cX0_needAlike 45 = .ok (.iload_n 1, 1) := dk_27 (dk_at dksX0_needAlike_1 22 rfl rfl)
theorem dX0_needAlike_46 : decode cX0_needAlike 46 = .ok (.bipush 10, 2) := dk_16 10 (dk_at dksX0_needAlike_2 0 rfl rfl)
theorem dX0_needAlike_48 : decode cX0_needAlike 48 = .ok (.idiv, 1) := dk_108 (dk_at dksX0_needAlike_2 2 rfl rfl)
theorem dX0_needAlike_49 : decode cX0_needAlike 49 = .ok (.iload_n 1, 1) := dk_27 (dk_at dksX0_needAlike_2 3 rfl rfl)
theorem dX0_needAlike_50 : decode cX0_needAlike 50 = .ok (.bipush 10, 2) := dk_16 10 (dk_at dksX0_needAlike_2 4 rfl rfl)
theorem dX0_needAlike_52 : decode cX0_needAlike 52 = .ok (.irem, 1) := dk_112 (dk_at dksX0_needAlike_2 6 rfl rfl)
theorem dX0_needAlike_53 : decode cX0_needAlike 53 = .ok (.invokevirtual 290, 3) := dk_182 1 34 (dk_at dksX0_needAlike_2 7 rfl rfl)
theorem dX0_needAlike_56 : decode cX0_needAlike 56 = .ok (.if_icmp .ne 7, 3) := dk_160 0 7 (dk_at dksX0_needAlike_2 10 rfl rfl)
theorem dX0_needAlike_59 : decode cX0_needAlike 59 = .ok (.iconst 1, 1) := dk_4 (dk_at dksX0_needAlike_2 13 rfl rfl)
theorem dX0_needAlike_60 : decode cX0_needAlike 60 = .ok (.goto 4, 3) := dk_167 0 4 (dk_at dksX0_needAlike_2 14 rfl rfl)
theorem dX0_needAlike_63 : decode cX0_needAlike 63 = .ok (.iconst 0, 1) := dk_3 (dk_at dksX0_needAlike_2 17 rfl rfl)
theorem dX0_needAlike_64 : decode cX0_needAlike 64 = .ok (.istore 6, 2) := dk_54 6 (dk_at dksX0_needAlike_2 18 rfl rfl)
theorem dX0_needAlike_66 : decode cX0_needAlike 66 = .ok (.iload 4, 2) := dk_21 4 (dk_at dksX0_needAlike_2 20 rfl rfl)
theorem dX0_needAlike_68 : decode cX0_needAlike 68 = .ok (.iload_n 0, 1) := dk_26 (dk_at dksX0_needAlike_2 22 rfl rfl)
theorem dX0_needAlike_69 : decode cX0_needAlike 69 = .ok (.iload_n 3, 1) := dk_29 (dk_at dksX0_needAlike_2 23 rfl rfl)
theorem dX0_needAlike_70 : decode cX0_needAlike 70 = .ok (.ishr, 1) := dk_122 (dk_at dksX0_needAlike_3 0 rfl rfl)
theorem dX0_needAlike_71 : decode cX0_needAlike 71 = .ok (.iload_n 0, 1) := dk_26 (dk_at dksX0_needAlike_3 1 rfl rfl)
theorem dX0_needAlike_72 : decode cX0_needAlike 72 = .ok (.iload 5, 2) := dk_21 5 (dk_at dksX0_needAlike_3 2 rfl rfl)
theorem dX0_needAlike_74 : decode cX0_needAlike 74 = .ok (.ishr, 1) := dk_122 (dk_at dksX0_needAlike_3 4 rfl rfl)
theorem dX0_needAlike_75 : decode cX0_needAlike 75 = .ok (.iand, 1) := dk_126 (dk_at dksX0_needAlike_3 5 rfl rfl)
theorem dX0_needAlike_76 : decode cX0_needAlike 76 = .ok (.iconst 1, 1) := dk_4 (dk_at dksX0_needAlike_3 6 rfl rfl)
theorem dX0_needAlike_77 : decode cX0_needAlike 77 = .ok (.iand, 1) := dk_126 (dk_at dksX0_needAlike_3 7 rfl rfl)
theorem dX0_needAlike_78 : decode cX0_needAlike 78 = .ok (.iconst 1, 1) := dk_4 (dk_at dksX0_needAlike_3 8 rfl rfl)
theorem dX0_needAlike_79 : decode cX0_needAlike 79 = .ok (.if_icmp .ne 12, 3) := dk_160 0 12 (dk_at dksX0_needAlike_3 9 rfl rfl)
theorem dX0_needAlike_82 : decode cX0_needAlike 82 = .ok (.iload 6, 2) := dk_21 6 (dk_at dksX0_needAlike_3 12 rfl rfl)
theorem dX0_needAlike_84 : decode cX0_needAlike 84 = .ok (.ifCond .eq 7, 3) := dk_153 0 7 (dk_at dksX0_needAlike_3 14 rfl rfl)
theorem dX0_needAlike_87 : decode cX0_needAlike 87 = .ok (.iconst 1, 1) := dk_4 (dk_at dksX0_needAlike_3 17 rfl rfl)
theorem dX0_needAlike_88 : decode cX0_needAlike 88 = .ok (.goto 4, 3) := dk_167 0 4 (dk_at dksX0_needAlike_3 18 rfl rfl)
theorem dX0_needAlike_91 : decode cX0_needAlike 91 = .ok (.iconst 0, 1) := dk_3 (dk_at dksX0_needAlike_3 21 rfl rfl)
theorem dX0_needAlike_92 : decode cX0_needAlike 92 = .ok (.iadd, 1) := dk_96 (dk_at dksX0_needAlike_3 22 rfl rfl)
theorem dX0_needAlike_93 : decode cX0_needAlike 93 = .ok (.istore 4, 2) := dk_54 4 (dk_at dksX0_needAlike_4 0 rfl rfl)
theorem dX0_needAlike_95 : decode cX0_needAlike 95 = .ok (.iinc 5 1, 3) := dk_132 5 1 (dk_at dksX0_needAlike_4 2 rfl rfl)
theorem dX0_needAlike_98 : decode cX0_needAlike 98 = .ok (.goto (-82), 3) := dk_167 255 174 (dk_at dksX0_needAlike_4 5 rfl rfl)
theorem dX0_needAlike_101 : decode cX0_needAlike 101 = .ok (.iload_n 2, 1) := dk_28 (dk_at dksX0_needAlike_4 8 rfl rfl)
theorem dX0_needAlike_102 : decode cX0_needAlike 102 = .ok (.iload 4, 2) := dk_21 4 (dk_at dksX0_needAlike_4 9 rfl rfl)
theorem dX0_needAlike_104 : decode cX0_needAlike 104 = .ok (.invokestatic 258, 3) := dk_184 1 2 (dk_at dksX0_needAlike_4 11 rfl rfl)
theorem dX0_needAlike_107 : decode cX0_needAlike 107 = .ok (.istore_n 2, 1) := dk_61 (dk_at dksX0_needAlike_4 14 rfl rfl)
theorem dX0_needAlike_108 : decode cX0_needAlike 108 = .ok (.iinc 3 1, 3) := dk_132 3 1 (dk_at dksX0_needAlike_4 15 rfl rfl)
theorem dX0_needAlike_111 : decode cX0_needAlike 111 = .ok (.goto (-107), 3) := dk_167 255 149 (dk_at dksX0_needAlike_4 18 rfl rfl)
theorem dX0_needAlike_114 : decode cX0_needAlike 114 = .ok (.iload_n 2, 1) := dk_28 (dk_at dksX0_needAlike_4 21 rfl rfl)
theorem dX0_needAlike_115 : decode cX0_needAlike 115 = .ok (.ireturn, 1) := dk_172 (dk_at dksX0_needAlike_4 22 rfl rfl)
abbrev cX0_kinds : ByteArray := prog_1_method_48_code
def yX0_kinds : MethodName := ⟨RX0, "kinds", "(I)I"⟩
def dkwX0_kinds_0 : List UInt8 := [42, 27, 182, 0, 152, 153, 0, 11, 42, 27, 182, 1, 45, 167, 0, 7, 42, 182, 0, 102, 172]
abbrev dktX0_kinds_0 : List UInt8 := dkwX0_kinds_0 ++ []
theorem dksX0_kinds_0 : cX0_kinds.data.toList.drop 0 = dktX0_kinds_0 := by decide +kernel
theorem dX0_kinds_0 : decode cX0_kinds 0 = .ok (.aload_n 0, 1) := dk_42 (dk_at dksX0_kinds_0 0 rfl rfl)
theorem dX0_kinds_1 : decode cX0_kinds 1 = .ok (.iload_n 1, 1) := dk_27 (dk_at dksX0_kinds_0 1 rfl rfl)
theorem dX0_kinds_2 : decode cX0_kinds 2 = .ok (.invokevirtual 152, 3) := dk_182 0 152 (dk_at dksX0_kinds_0 2 rfl rfl)
theorem dX0_kinds_5 : decode cX0_kinds 5 = .ok (.ifCond .eq 11, 3) := dk_153 0 11 (dk_at dksX0_kinds_0 5 rfl rfl)
theorem dX0_kinds_8 : decode cX0_kinds 8 = .ok (.aload_n 0, 1) := dk_42 (dk_at dksX0_kinds_0 8 rfl rfl)
theorem dX0_kinds_9 : decode cX0_kinds 9 = .ok (.iload_n 1, 1) := dk_27 (dk_at dksX0_kinds_0 9 rfl rfl)
theorem dX0_kinds_10 : decode cX0_kinds 10 = .ok (.invokevirtual 301, 3) := dk_182 1 45 (dk_at dksX0_kinds_0 10 rfl rfl)
theorem dX0_kinds_13 : decode cX0_kinds 13 = .ok (.goto 7, 3) := dk_167 0 7 (dk_at dksX0_kinds_0 13 rfl rfl)
theorem dX0_kinds_16 : decode cX0_kinds 16 = .ok (.aload_n 0, 1) := dk_42 (dk_at dksX0_kinds_0 16 rfl rfl)
theorem dX0_kinds_17 : decode cX0_kinds 17 = .ok (.invokevirtual 102, 3) := dk_182 0 102 (dk_at dksX0_kinds_0 17 rfl rfl)
theorem dX0_kinds_20 : decode cX0_kinds 20 = .ok (.ireturn, 1) := dk_172 (dk_at dksX0_kinds_0 20 rfl rfl)
abbrev cX0_beachOf : ByteArray := prog_1_method_47_code
def yX0_beachOf : MethodName := ⟨RX0, "beachOf", "(I)I"⟩
def dkwX0_beachOf_5 : List UInt8 := [132, 4, 1, 167, 255, 150, 28, 172]
abbrev dktX0_beachOf_5 : List UInt8 := dkwX0_beachOf_5 ++ []
def dkwX0_beachOf_4 : List UInt8 := [132, 6, 1, 167, 255, 185, 28, 21, 5, 153, 0, 10, 4, 21, 4, 120, 167, 0, 4, 3, 128, 61]
abbrev dktX0_beachOf_4 : List UInt8 := dkwX0_beachOf_4 ++ dktX0_beachOf_5
def dkwX0_beachOf_3 : List UInt8 := [21, 7, 5, 96, 46, 182, 0, 186, 45, 21, 7, 6, 96, 46, 160, 0, 7, 4, 167, 0, 4, 3, 54, 5]
abbrev dktX0_beachOf_3 : List UInt8 := dkwX0_beachOf_3 ++ dktX0_beachOf_4
def dkwX0_beachOf_2 : List UInt8 := [54, 7, 45, 21, 7, 46, 27, 160, 0, 33, 178, 1, 42, 21, 4, 50, 45, 21, 7, 4, 96, 46, 45]
abbrev dktX0_beachOf_2 : List UInt8 := dkwX0_beachOf_2 ++ dktX0_beachOf_3
def dkwX0_beachOf_1 : List UInt8 := [54, 6, 21, 6, 42, 180, 0, 10, 180, 1, 25, 162, 0, 65, 21, 5, 153, 0, 60, 7, 21, 6, 104]
abbrev dktX0_beachOf_1 : List UInt8 := dkwX0_beachOf_1 ++ dktX0_beachOf_2
def dkwX0_beachOf_0 : List UInt8 := [3, 61, 42, 180, 0, 10, 180, 1, 28, 78, 3, 54, 4, 21, 4, 16, 6, 162, 0, 105, 4, 54, 5, 3]
abbrev dktX0_beachOf_0 : List UInt8 := dkwX0_beachOf_0 ++ dktX0_beachOf_1
theorem dksX0_beachOf_0 : cX0_beachOf.data.toList.drop 0 = dktX0_beachOf_0 := by decide +kernel
theorem dksX0_beachOf_1 : cX0_beachOf.data.toList.drop 24 = dktX0_beachOf_1 := dk_seg dksX0_beachOf_0 24 rfl rfl
theorem dksX0_beachOf_2 : cX0_beachOf.data.toList.drop 47 = dktX0_beachOf_2 := dk_seg dksX0_beachOf_1 23 rfl rfl
theorem dksX0_beachOf_3 : cX0_beachOf.data.toList.drop 70 = dktX0_beachOf_3 := dk_seg dksX0_beachOf_2 23 rfl rfl
theorem dksX0_beachOf_4 : cX0_beachOf.data.toList.drop 94 = dktX0_beachOf_4 := dk_seg dksX0_beachOf_3 24 rfl rfl
theorem dksX0_beachOf_5 : cX0_beachOf.data.toList.drop 116 = dktX0_beachOf_5 := dk_seg dksX0_beachOf_4 22 rfl rfl
theorem dX0_beachOf_0 : decode cX0_beachOf 0 = .ok (.iconst 0, 1) := dk_3 (dk_at dksX0_beachOf_0 0 rfl rfl)
theorem dX0_beachOf_1 : decode cX0_beachOf 1 = .ok (.istore_n 2, 1) := dk_61 (dk_at dksX0_beachOf_0 1 rfl rfl)
theorem dX0_beachOf_2 : decode cX0_beachOf 2 = .ok (.aload_n 0, 1) := dk_42 (dk_at dksX0_beachOf_0 2 rfl rfl)
theorem dX0_beachOf_3 : decode cX0_beachOf 3 = .ok (.getfield 10, 3) := dk_180 0 10 (dk_at dksX0_beachOf_0 3 rfl rfl)
theorem dX0_beachOf_6 : decode cX0_beachOf 6 = .ok (.getfield 284, 3) := dk_180 1 28 (dk_at dksX0_beachOf_0 6 rfl rfl)
theorem dX0_beachOf_9 : decode cX0_beachOf 9 = .ok (.astore_n 3, 1) := dk_78 (dk_at dksX0_beachOf_0 9 rfl rfl)
theorem dX0_beachOf_10 : decode cX0_beachOf 10 = .ok (.iconst 0, 1) := dk_3 (dk_at dksX0_beachOf_0 10 rfl rfl)
theorem dX0_beachOf_11 : decode cX0_beachOf 11 = .ok (.istore 4, 2) := dk_54 4 (dk_at dksX0_beachOf_0 11 rfl rfl)
theorem dX0_beachOf_13 : decode cX0_beachOf 13 = .ok (.iload 4, 2) := dk_21 4 (dk_at dksX0_beachOf_0 13 rfl rfl)
theorem dX0_beachOf_15 : decode cX0_beachOf 15 = .ok (.bipush 6, 2) := dk_16 6 (dk_at dksX0_beachOf_0 15 rfl rfl)
theorem dX0_beachOf_17 : decode cX0_beachOf 17 = .ok (.if_icmp .ge 105, 3) := dk_162 0 105 (dk_at dksX0_beachOf_0 17 rfl rfl)
theorem dX0_beachOf_20 : decode cX0_beachOf 20 = .ok (.iconst 1, 1) := dk_4 (dk_at dksX0_beachOf_0 20 rfl rfl)
theorem dX0_beachOf_21 : decode cX0_beachOf 21 = .ok (.istore 5, 2) := dk_54 5 (dk_at dksX0_beachOf_0 21 rfl rfl)
theorem dX0_beachOf_23 : decode cX0_beachOf 23 = .ok (.iconst 0, 1) := dk_3 (dk_at dksX0_beachOf_0 23 rfl rfl)
theorem dX0_beachOf_24 : decode cX0_beachOf 24 = .ok (.istore 6, 2) := dk_54 6 (dk_at dksX0_beachOf_1 0 rfl rfl)
theorem dX0_beachOf_26 : decode cX0_beachOf 26 = .ok (.iload 6, 2) := dk_21 6 (dk_at dksX0_beachOf_1 2 rfl rfl)
theorem dX0_beachOf_28 : decode cX0_beachOf 28 = .ok (.aload_n 0, 1) := dk_42 (dk_at dksX0_beachOf_1 4 rfl rfl)
theorem dX0_beachOf_29 : decode cX0_beachOf 29 = .ok (.getfield 10, 3) := dk_180 0 10 (dk_at dksX0_beachOf_1 5 rfl rfl)
theorem dX0_beachOf_32 : decode cX0_beachOf 32 = .ok (.getfield 281, 3) := dk_180 1 25 (dk_at dksX0_beachOf_1 8 rfl rfl)
theorem dX0_beachOf_35 : decode cX0_beachOf 35 = .ok (.if_icmp .ge 65, 3) := dk_162 0 65 (dk_at dksX0_beachOf_1 11 rfl rfl)
theorem dX0_beachOf_38 : decode cX0_beachOf 38 = .ok (.iload 5, 2) := dk_21 5 (dk_at dksX0_beachOf_1 14 rfl rfl)
theorem dX0_beachOf_40 : decode cX0_beachOf 40 = .ok (.ifCond .eq 60, 3) := dk_153 0 60 (dk_at dksX0_beachOf_1 16 rfl rfl)
theorem dX0_beachOf_43 : decode cX0_beachOf 43 = .ok (.iconst 4, 1) := dk_7 (dk_at dksX0_beachOf_1 19 rfl rfl)
theorem dX0_beachOf_44 : decode cX0_beachOf 44 = .ok (.iload 6, 2) := dk_21 6 (dk_at dksX0_beachOf_1 20 rfl rfl)
theorem dX0_beachOf_46 : decode cX0_beachOf 46 = .ok (.imul, 1) := dk_104 (dk_at dksX0_beachOf_1 22 rfl rfl)
theorem dX0_beachOf_47 : decode cX0_beachOf 47 = .ok (.istore 7, 2) := dk_54 7 (dk_at dksX0_beachOf_2 0 rfl rfl)
theorem dX0_beachOf_49 : decode cX0_beachOf 49 = .ok (.aload_n 3, 1) := dk_45 (dk_at dksX0_beachOf_2 2 rfl rfl)
theorem dX0_beachOf_50 : decode cX0_beachOf 50 = .ok (.iload 7, 2) := dk_21 7 (dk_at dksX0_beachOf_2 3 rfl rfl)
theorem dX0_beachOf_52 : decode cX0_beachOf 52 = .ok (.iaload, 1) := dk_46 (dk_at dksX0_beachOf_2 5 rfl rfl)
theorem dX0_beachOf_53 : decode cX0_beachOf 53 = .ok (.iload_n 1, 1) := dk_27 (dk_at dksX0_beachOf_2 6 rfl rfl)
theorem dX0_beachOf_54 : decode cX0_beachOf 54 = .ok (.if_icmp .ne 33, 3) := dk_160 0 33 (dk_at dksX0_beachOf_2 7 rfl rfl)
theorem dX0_beachOf_57 : decode cX0_beachOf 57 = .ok (.getstatic 298, 3) := dk_178 1 42 (dk_at dksX0_beachOf_2 10 rfl rfl)
theorem dX0_beachOf_60 : decode cX0_beachOf 60 = .ok (.iload 4, 2) := dk_21 4 (dk_at dksX0_beachOf_2 13 rfl rfl)
theorem dX0_beachOf_62 : decode cX0_beachOf 62 = .ok (.aaload, 1) := dk_50 (dk_at dksX0_beachOf_2 15 rfl rfl)
theorem dX0_beachOf_63 : decode cX0_beachOf 63 = .ok (.aload_n 3, 1) := dk_45 (dk_at dksX0_beachOf_2 16 rfl rfl)
theorem dX0_beachOf_64 : decode cX0_beachOf 64 = .ok (.iload 7, 2) := dk_21 7 (dk_at dksX0_beachOf_2 17 rfl rfl)
theorem dX0_beachOf_66 : decode cX0_beachOf 66 = .ok (.iconst 1, 1) := dk_4 (dk_at dksX0_beachOf_2 19 rfl rfl)
theorem dX0_beachOf_67 : decode cX0_beachOf 67 = .ok (.iadd, 1) := dk_96 (dk_at dksX0_beachOf_2 20 rfl rfl)
theorem dX0_beachOf_68 : decode cX0_beachOf 68 = .ok (.iaload, 1) := dk_46 (dk_at dksX0_beachOf_2 21 rfl rfl)
theorem dX0_beachOf_69 : decode cX0_beachOf 69 = .ok (.aload_n 3, 1) := dk_45 (dk_at dksX0_beachOf_2 22 rfl rfl)
theorem dX0_beachOf_70 : decode cX0_beachOf 70 = .ok (.iload 7, 2) := dk_21 7 (dk_at dksX0_beachOf_3 0 rfl rfl)
theorem dX0_beachOf_72 : decode cX0_beachOf 72 = .ok (.iconst 2, 1) := dk_5 (dk_at dksX0_beachOf_3 2 rfl rfl)
theorem dX0_beachOf_73 : decode cX0_beachOf 73 = .ok (.iadd, 1) := dk_96 (dk_at dksX0_beachOf_3 3 rfl rfl)
theorem dX0_beachOf_74 : decode cX0_beachOf 74 = .ok (.iaload, 1) := dk_46 (dk_at dksX0_beachOf_3 4 rfl rfl)
theorem dX0_beachOf_75 : decode cX0_beachOf 75 = .ok (.invokevirtual 186, 3) := dk_182 0 186 (dk_at dksX0_beachOf_3 5 rfl rfl)
theorem dX0_beachOf_78 : decode cX0_beachOf 78 = .ok (.aload_n 3, 1) := dk_45 (dk_at dksX0_beachOf_3 8 rfl rfl)
theorem dX0_beachOf_79 : decode cX0_beachOf 79 = .ok (.iload 7, 2) := dk_21 7 (dk_at dksX0_beachOf_3 9 rfl rfl)
theorem dX0_beachOf_81 : decode cX0_beachOf 81 = .ok (.iconst 3, 1) := dk_6 (dk_at dksX0_beachOf_3 11 rfl rfl)
theorem dX0_beachOf_82 : decode cX0_beachOf 82 = .ok (.iadd, 1) := dk_96 (dk_at dksX0_beachOf_3 12 rfl rfl)
theorem dX0_beachOf_83 : decode cX0_beachOf 83 = .ok (.iaload, 1) := dk_46 (dk_at dksX0_beachOf_3 13 rfl rfl)
theorem dX0_beachOf_84 : decode cX0_beachOf 84 = .ok (.if_icmp .ne 7, 3) := dk_160 0 7 (dk_at dksX0_beachOf_3 14 rfl rfl)
theorem dX0_beachOf_87 : decode cX0_beachOf 87 = .ok (.iconst 1, 1) := dk_4 (dk_at dksX0_beachOf_3 17 rfl rfl)
theorem dX0_beachOf_88 : decode cX0_beachOf 88 = .ok (.goto 4, 3) := dk_167 0 4 (dk_at dksX0_beachOf_3 18 rfl rfl)
theorem dX0_beachOf_91 : decode cX0_beachOf 91 = .ok (.iconst 0, 1) := dk_3 (dk_at dksX0_beachOf_3 21 rfl rfl)
theorem dX0_beachOf_92 : decode cX0_beachOf 92 = .ok (.istore 5, 2) := dk_54 5 (dk_at dksX0_beachOf_3 22 rfl rfl)
theorem dX0_beachOf_94 : decode cX0_beachOf 94 = .ok (.iinc 6 1, 3) := dk_132 6 1 (dk_at dksX0_beachOf_4 0 rfl rfl)
theorem dX0_beachOf_97 : decode cX0_beachOf 97 = .ok (.goto (-71), 3) := dk_167 255 185 (dk_at dksX0_beachOf_4 3 rfl rfl)
theorem dX0_beachOf_100 : decode cX0_beachOf 100 = .ok (.iload_n 2, 1) := dk_28 (dk_at dksX0_beachOf_4 6 rfl rfl)
theorem dX0_beachOf_101 : decode cX0_beachOf 101 = .ok (.iload 5, 2) := dk_21 5 (dk_at dksX0_beachOf_4 7 rfl rfl)
theorem dX0_beachOf_103 : decode cX0_beachOf 103 = .ok (.ifCond .eq 10, 3) := dk_153 0 10 (dk_at dksX0_beachOf_4 9 rfl rfl)
theorem dX0_beachOf_106 : decode cX0_beachOf 106 = .ok (.iconst 1, 1) := dk_4 (dk_at dksX0_beachOf_4 12 rfl rfl)
theorem dX0_beachOf_107 : decode cX0_beachOf 107 = .ok (.iload 4, 2) := dk_21 4 (dk_at dksX0_beachOf_4 13 rfl rfl)
theorem dX0_beachOf_109 : decode cX0_beachOf 109 = .ok (.ishl, 1) := dk_120 (dk_at dksX0_beachOf_4 15 rfl rfl)
theorem dX0_beachOf_110 : decode cX0_beachOf 110 = .ok (.goto 4, 3) := dk_167 0 4 (dk_at dksX0_beachOf_4 16 rfl rfl)
theorem dX0_beachOf_113 : decode cX0_beachOf 113 = .ok (.iconst 0, 1) := dk_3 (dk_at dksX0_beachOf_4 19 rfl rfl)
theorem dX0_beachOf_114 : decode cX0_beachOf 114 = .ok (.ior, 1) := dk_128 (dk_at dksX0_beachOf_4 20 rfl rfl)
theorem dX0_beachOf_115 : decode cX0_beachOf 115 = .ok (.istore_n 2, 1) := dk_61 (dk_at dksX0_beachOf_4 21 rfl rfl)
theorem dX0_beachOf_116 : decode cX0_beachOf 116 = .ok (.iinc 4 1, 3) := dk_132 4 1 (dk_at dksX0_beachOf_5 0 rfl rfl)
theorem dX0_beachOf_119 : decode cX0_beachOf 119 = .ok (.goto (-106), 3) := dk_167 255 150 (dk_at dksX0_beachOf_5 3 rfl rfl)
theorem dX0_beachOf_122 : decode cX0_beachOf 122 = .ok (.iload_n 2, 1) := dk_28 (dk_at dksX0_beachOf_5 6 rfl rfl)
theorem dX0_beachOf_123 : decode cX0_beachOf 123 = .ok (.ireturn, 1) := dk_172 (dk_at dksX0_beachOf_5 7 rfl rfl)
abbrev cX0_ask : ByteArray := prog_1_method_49_code
def yX0_ask : MethodName := ⟨RX0, "ask", "(I)I"⟩
def dkwX0_ask_7 : List UInt8 := [21, 5, 21, 7, 184, 1, 14, 54, 5, 132, 6, 1, 167, 255, 118, 21, 4, 172]
abbrev dktX0_ask_7 : List UInt8 := dkwX0_ask_7 ++ []
def dkwX0_ask_6 : List UInt8 := [54, 7, 132, 8, 1, 167, 255, 166, 21, 7, 21, 5, 162, 0, 8, 21, 6, 167, 0, 5, 21, 4, 54, 4]
abbrev dktX0_ask_6 : List UInt8 := dkwX0_ask_6 ++ dktX0_ask_7
def dkwX0_ask_5 : List UInt8 := [160, 0, 7, 4, 167, 0, 4, 3, 96, 54, 9, 132, 10, 1, 167, 255, 194, 21, 7, 21, 9, 184, 1, 2]
abbrev dktX0_ask_5 : List UInt8 := dkwX0_ask_5 ++ dktX0_ask_6
def dkwX0_ask_4 : List UInt8 := [178, 1, 42, 21, 8, 50, 29, 21, 6, 182, 0, 186, 178, 1, 42, 21, 10, 50, 29, 21, 6, 182, 0, 186]
abbrev dktX0_ask_4 : List UInt8 := dkwX0_ask_4 ++ dktX0_ask_5
def dkwX0_ask_3 : List UInt8 := [16, 6, 162, 0, 61, 21, 9, 28, 21, 8, 122, 28, 21, 10, 122, 126, 4, 126, 4, 160, 0, 34]
abbrev dktX0_ask_3 : List UInt8 := dkwX0_ask_3 ++ dktX0_ask_4
def dkwX0_ask_2 : List UInt8 := [153, 0, 133, 3, 54, 7, 3, 54, 8, 21, 8, 16, 6, 162, 0, 89, 3, 54, 9, 3, 54, 10, 21, 10]
abbrev dktX0_ask_2 : List UInt8 := dkwX0_ask_2 ++ dktX0_ask_3
def dkwX0_ask_1 : List UInt8 := [180, 0, 181, 27, 46, 62, 2, 54, 4, 18, 234, 54, 5, 3, 54, 6, 21, 6, 16, 9, 163, 0, 137, 28]
abbrev dktX0_ask_1 : List UInt8 := dkwX0_ask_1 ++ dktX0_ask_2
def dkwX0_ask_0 : List UInt8 := [42, 27, 182, 0, 152, 154, 0, 8, 42, 182, 0, 102, 172, 42, 27, 182, 1, 45, 61, 42, 180, 0, 10]
abbrev dktX0_ask_0 : List UInt8 := dkwX0_ask_0 ++ dktX0_ask_1
theorem dksX0_ask_0 : cX0_ask.data.toList.drop 0 = dktX0_ask_0 := by decide +kernel
theorem dksX0_ask_1 : cX0_ask.data.toList.drop 23 = dktX0_ask_1 := dk_seg dksX0_ask_0 23 rfl rfl
theorem dksX0_ask_2 : cX0_ask.data.toList.drop 47 = dktX0_ask_2 := dk_seg dksX0_ask_1 24 rfl rfl
theorem dksX0_ask_3 : cX0_ask.data.toList.drop 71 = dktX0_ask_3 := dk_seg dksX0_ask_2 24 rfl rfl
theorem dksX0_ask_4 : cX0_ask.data.toList.drop 93 = dktX0_ask_4 := dk_seg dksX0_ask_3 22 rfl rfl
theorem dksX0_ask_5 : cX0_ask.data.toList.drop 117 = dktX0_ask_5 := dk_seg dksX0_ask_4 24 rfl rfl
theorem dksX0_ask_6 : cX0_ask.data.toList.drop 141 = dktX0_ask_6 := dk_seg dksX0_ask_5 24 rfl rfl
theorem dksX0_ask_7 : cX0_ask.data.toList.drop 165 = dktX0_ask_7 := dk_seg dksX0_ask_6 24 rfl rfl
theorem dX0_ask_0 : decode cX0_ask 0 = .ok (.aload_n 0, 1) := dk_42 (dk_at dksX0_ask_0 0 rfl rfl)
theorem dX0_ask_1 : decode cX0_ask 1 = .ok (.iload_n 1, 1) := dk_27 (dk_at dksX0_ask_0 1 rfl rfl)
theorem dX0_ask_2 : decode cX0_ask 2 = .ok (.invokevirtual 152, 3) := dk_182 0 152 (dk_at dksX0_ask_0 2 rfl rfl)
theorem dX0_ask_5 : decode cX0_ask 5 = .ok (.ifCond .ne 8, 3) := dk_154 0 8 (dk_at dksX0_ask_0 5 rfl rfl)
theorem dX0_ask_8 : decode cX0_ask 8 = .ok (.aload_n 0, 1) := dk_42 (dk_at dksX0_ask_0 8 rfl rfl)
theorem dX0_ask_9 : decode cX0_ask 9 = .ok (.invokevirtual 102, 3) := dk_182 0 102 (dk_at dksX0_ask_0 9 rfl rfl)
theorem dX0_ask_12 : decode cX0_ask 12 = .ok (.ireturn, 1) := dk_172 (dk_at dksX0_ask_0 12 rfl rfl)
theorem dX0_ask_13 : decode cX0_ask 13 = .ok (.aload_n 0, 1) := dk_42 (dk_at dksX0_ask_0 13 rfl rfl)
theorem dX0_ask_14 : decode cX0_ask 14 = .ok (.iload_n 1, 1) := dk_27 (dk_at dksX0_ask_0 14 rfl rfl)
theorem dX0_ask_15 : decode cX0_ask 15 = .ok (.invokevirtual 301, 3) := dk_182 1 45 (dk_at dksX0_ask_0 15 rfl rfl)
theorem dX0_ask_18 : decode cX0_ask 18 = .ok (.istore_n 2, 1) := dk_61 (dk_at dksX0_ask_0 18 rfl rfl)
theorem dX0_ask_19 : decode cX0_ask 19 = .ok (.aload_n 0, 1) := dk_42 (dk_at dksX0_ask_0 19 rfl rfl)
theorem dX0_ask_20 : decode cX0_ask 20 = .ok (.getfield 10, 3) := dk_180 0 10 (dk_at dksX0_ask_0 20 rfl rfl)
theorem dX0_ask_23 : decode cX0_ask 23 = .ok (.getfield 181, 3) := dk_180 0 181 (dk_at dksX0_ask_1 0 rfl rfl)
theorem dX0_ask_26 : decode cX0_ask 26 = .ok (.iload_n 1, 1) := dk_27 (dk_at dksX0_ask_1 3 rfl rfl)
theorem dX0_ask_27 : decode cX0_ask 27 = .ok (.iaload, 1) := dk_46 (dk_at dksX0_ask_1 4 rfl rfl)
theorem dX0_ask_28 : decode cX0_ask 28 = .ok (.istore_n 3, 1) := dk_62 (dk_at dksX0_ask_1 5 rfl rfl)
theorem dX0_ask_29 : decode cX0_ask 29 = .ok (.iconst (-1), 1) := dk_2 (dk_at dksX0_ask_1 6 rfl rfl)
theorem dX0_ask_30 : decode cX0_ask 30 = .ok (.istore 4, 2) := dk_54 4 (dk_at dksX0_ask_1 7 rfl rfl)
theorem dX0_ask_32 : decode cX0_ask 32 = .ok (.ldc 234, 2) := dk_18 234 (dk_at dksX0_ask_1 9 rfl rfl)
theorem dX0_ask_34 : decode cX0_ask 34 = .ok (.istore 5, 2) := dk_54 5 (dk_at dksX0_ask_1 11 rfl rfl)
theorem dX0_ask_36 : decode cX0_ask 36 = .ok (.iconst 0, 1) := dk_3 (dk_at dksX0_ask_1 13 rfl rfl)
theorem dX0_ask_37 : decode cX0_ask 37 = .ok (.istore 6, 2) := dk_54 6 (dk_at dksX0_ask_1 14 rfl rfl)
theorem dX0_ask_39 : decode cX0_ask 39 = .ok (.iload 6, 2) := dk_21 6 (dk_at dksX0_ask_1 16 rfl rfl)
theorem dX0_ask_41 : decode cX0_ask 41 = .ok (.bipush 9, 2) := dk_16 9 (dk_at dksX0_ask_1 18 rfl rfl)
theorem dX0_ask_43 : decode cX0_ask 43 = .ok (.if_icmp .gt 137, 3) := dk_163 0 137 (dk_at dksX0_ask_1 20 rfl rfl)
theorem dX0_ask_46 : decode cX0_ask 46 = .ok (.iload_n 2, 1) := dk_28 (dk_at dksX0_ask_1 23 rfl rfl)
theorem dX0_ask_47 : decode cX0_ask 47 = .ok (.ifCond .eq 133, 3) := dk_153 0 133 (dk_at dksX0_ask_2 0 rfl rfl)
theorem dX0_ask_50 : decode cX0_ask 50 = .ok (.iconst 0, 1) := dk_3 (dk_at dksX0_ask_2 3 rfl rfl)
theorem dX0_ask_51 : decode cX0_ask 51 = .ok (.istore 7, 2) := dk_54 7 (dk_at dksX0_ask_2 4 rfl rfl)
theorem dX0_ask_53 : decode cX0_ask 53 = .ok (.iconst 0, 1) := dk_3 (dk_at dksX0_ask_2 6 rfl rfl)
theorem dX0_ask_54 : decode cX0_ask 54 = .ok (.istore 8, 2) := dk_54 8 (dk_at dksX0_ask_2 7 rfl rfl)
theorem dX0_ask_56 : decode cX0_ask 56 = .ok (.iload 8, 2) := dk_21 8 (dk_at dksX0_ask_2 9 rfl rfl)
theorem dX0_ask_58 : decode cX0_ask 58 = .ok (.bipush 6, 2) := dk_16 6 (dk_at dksX0_ask_2 11 rfl rfl)
theorem dX0_ask_60 : decode cX0_ask 60 = .ok (.if_icmp .ge 89, 3) := dk_162 0 89 (dk_at dksX0_ask_2 13 rfl rfl)
theorem dX0_ask_63 : decode cX0_ask 63 = .ok (.iconst 0, 1) := dk_3 (dk_at dksX0_ask_2 16 rfl rfl)
theorem dX0_ask_64 : decode cX0_ask 64 = .ok (.istore 9, 2) := dk_54 9 (dk_at dksX0_ask_2 17 rfl rfl)
theorem dX0_ask_66 : decode cX0_ask 66 = .ok (.iconst 0, 1) := dk_3 (dk_at dksX0_ask_2 19 rfl rfl)
theorem dX0_ask_67 : decode cX0_ask 67 = .ok (.istore 10, 2) := dk_54 10 (dk_at dksX0_ask_2 20 rfl rfl)
theorem dX0_ask_69 : decode cX0_ask 69 = .ok (.iload 10, 2) := dk_21 10 (dk_at dksX0_ask_2 22 rfl rfl)
theorem dX0_ask_71 : decode cX0_ask 71 = .ok (.bipush 6, 2) := dk_16 6 (dk_at dksX0_ask_3 0 rfl rfl)
theorem dX0_ask_73 : decode cX0_ask 73 = .ok (.if_icmp .ge 61, 3) := dk_162 0 61 (dk_at dksX0_ask_3 2 rfl rfl)
theorem dX0_ask_76 : decode cX0_ask 76 = .ok (.iload 9, 2) := dk_21 9 (dk_at dksX0_ask_3 5 rfl rfl)
theorem dX0_ask_78 : decode cX0_ask 78 = .ok (.iload_n 2, 1) := dk_28 (dk_at dksX0_ask_3 7 rfl rfl)
theorem dX0_ask_79 : decode cX0_ask 79 = .ok (.iload 8, 2) := dk_21 8 (dk_at dksX0_ask_3 8 rfl rfl)
theorem dX0_ask_81 : decode cX0_ask 81 = .ok (.ishr, 1) := dk_122 (dk_at dksX0_ask_3 10 rfl rfl)
theorem dX0_ask_82 : decode cX0_ask 82 = .ok (.iload_n 2, 1) := dk_28 (dk_at dksX0_ask_3 11 rfl rfl)
theorem dX0_ask_83 : decode cX0_ask 83 = .ok (.iload 10, 2) := dk_21 10 (dk_at dksX0_ask_3 12 rfl rfl)
theorem dX0_ask_85 : decode cX0_ask 85 = .ok (.ishr, 1) := dk_122 (dk_at dksX0_ask_3 14 rfl rfl)
theorem dX0_ask_86 : decode cX0_ask 86 = .ok (.iand, 1) := dk_126 (dk_at dksX0_ask_3 15 rfl rfl)
theorem dX0_ask_87 : decode cX0_ask 87 = .ok (.iconst 1, 1) := dk_4 (dk_at dksX0_ask_3 16 rfl rfl)
theorem dX0_ask_88 : decode cX0_ask 88 = .ok (.iand, 1) := dk_126 (dk_at dksX0_ask_3 17 rfl rfl)
theorem dX0_ask_89 : decode cX0_ask 89 = .ok (.iconst 1, 1) := dk_4 (dk_at dksX0_ask_3 18 rfl rfl)
theorem dX0_ask_90 : decode cX0_ask 90 = .ok (.if_icmp .ne 34, 3) := dk_160 0 34 (dk_at dksX0_ask_3 19 rfl rfl)
theorem dX0_ask_93 : decode cX0_ask 93 = .ok (.getstatic 298, 3) := dk_178 1 42 (dk_at dksX0_ask_4 0 rfl rfl)
theorem dX0_ask_96 : decode cX0_ask 96 = .ok (.iload 8, 2) := dk_21 8 (dk_at dksX0_ask_4 3 rfl rfl)
theorem dX0_ask_98 : decode cX0_ask 98 = .ok (.aaload, 1) := dk_50 (dk_at dksX0_ask_4 5 rfl rfl)
theorem dX0_ask_99 : decode cX0_ask 99 = .ok (.iload_n 3, 1) := dk_29 (dk_at dksX0_ask_4 6 rfl rfl)
theorem dX0_ask_100 : decode cX0_ask 100 = .ok (.iload 6, 2) := dk_21 6 (dk_at dksX0_ask_4 7 rfl rfl)
theorem dX0_ask_102 : decode cX0_ask 102 = .ok (.invokevirtual 186, 3) := dk_182 0 186 (dk_at dksX0_ask_4 9 rfl rfl)
theorem dX0_ask_105 : decode cX0_ask 105 = .ok (.getstatic 298, 3) := dk_178 1 42 (dk_at dksX0_ask_4 12 rfl rfl)
theorem dX0_ask_108 : decode cX0_ask 108 = .ok (.iload 10, 2) := dk_21 10 (dk_at dksX0_ask_4 15 rfl rfl)
theorem dX0_ask_110 : decode cX0_ask 110 = .ok (.aaload, 1) := dk_50 (dk_at dksX0_ask_4 17 rfl rfl)
theorem dX0_ask_111 : decode cX0_ask 111 = .ok (.iload_n 3, 1) := dk_29 (dk_at dksX0_ask_4 18 rfl rfl)
theorem dX0_ask_112 : decode cX0_ask 112 = .ok (.iload 6, 2) := dk_21 6 (dk_at dksX0_ask_4 19 rfl rfl)
theorem dX0_ask_114 : decode cX0_ask 114 = .ok (.invokevirtual 186, 3) := dk_182 0 186 (dk_at dksX0_ask_4 21 rfl rfl)
theorem dX0_ask_117 : decode cX0_ask 117 = .ok (.if_icmp .ne 7, 3) := dk_160 0 7 (dk_at dksX0_ask_5 0 rfl rfl)
theorem dX0_ask_120 : decode cX0_ask 120 = .ok (.iconst 1, 1) := dk_4 (dk_at dksX0_ask_5 3 rfl rfl)
theorem dX0_ask_121 : decode cX0_ask 121 = .ok (.goto 4, 3) := dk_167 0 4 (dk_at dksX0_ask_5 4 rfl rfl)
theorem dX0_ask_124 : decode cX0_ask 124 = .ok (.iconst 0, 1) := dk_3 (dk_at dksX0_ask_5 7 rfl rfl)
theorem dX0_ask_125 : decode cX0_ask 125 = .ok (.iadd, 1) := dk_96 (dk_at dksX0_ask_5 8 rfl rfl)
theorem dX0_ask_126 : decode cX0_ask 126 = .ok (.istore 9, 2) := dk_54 9 (dk_at dksX0_ask_5 9 rfl rfl)
theorem dX0_ask_128 : decode cX0_ask 128 = .ok (.iinc 10 1, 3) := dk_132 10 1 (dk_at dksX0_ask_5 11 rfl rfl)
theorem dX0_ask_131 : decode cX0_ask 131 = .ok (.goto (-62), 3) := dk_167 255 194 (dk_at dksX0_ask_5 14 rfl rfl)
theorem dX0_ask_134 : decode cX0_ask 134 = .ok (.iload 7, 2) := dk_21 7 (dk_at dksX0_ask_5 17 rfl rfl)
theorem dX0_ask_136 : decode cX0_ask 136 = .ok (.iload 9, 2) := dk_21 9 (dk_at dksX0_ask_5 19 rfl rfl)
theorem dX0_ask_138 : decode cX0_ask 138 = .ok (.invokestatic 258, 3) := dk_184 1 2 (dk_at dksX0_ask_5 21 rfl rfl)
theorem dX0_ask_141 : decode cX0_ask 141 = .ok (.istore 7, 2) := dk_54 7 (dk_at dksX0_ask_6 0 rfl rfl)
theorem dX0_ask_143 : decode cX0_ask 143 = .ok (.iinc 8 1, 3) := dk_132 8 1 (dk_at dksX0_ask_6 2 rfl rfl)
theorem dX0_ask_146 : decode cX0_ask 146 = .ok (.goto (-90), 3) := dk_167 255 166 (dk_at dksX0_ask_6 5 rfl rfl)
theorem dX0_ask_149 : decode cX0_ask 149 = .ok (.iload 7, 2) := dk_21 7 (dk_at dksX0_ask_6 8 rfl rfl)
theorem dX0_ask_151 : decode cX0_ask 151 = .ok (.iload 5, 2) := dk_21 5 (dk_at dksX0_ask_6 10 rfl rfl)
theorem dX0_ask_153 : decode cX0_ask 153 = .ok (.if_icmp .ge 8, 3) := dk_162 0 8 (dk_at dksX0_ask_6 12 rfl rfl)
theorem dX0_ask_156 : decode cX0_ask 156 = .ok (.iload 6, 2) := dk_21 6 (dk_at dksX0_ask_6 15 rfl rfl)
theorem dX0_ask_158 : decode cX0_ask 158 = .ok (.goto 5, 3) := dk_167 0 5 (dk_at dksX0_ask_6 17 rfl rfl)
theorem dX0_ask_161 : decode cX0_ask 161 = .ok (.iload 4, 2) := dk_21 4 (dk_at dksX0_ask_6 20 rfl rfl)
theorem dX0_ask_163 : decode cX0_ask 163 = .ok (.istore 4, 2) := dk_54 4 (dk_at dksX0_ask_6 22 rfl rfl)
theorem dX0_ask_165 : decode cX0_ask 165 = .ok (.iload 5, 2) := dk_21 5 (dk_at dksX0_ask_7 0 rfl rfl)
theorem dX0_ask_167 : decode cX0_ask 167 = .ok (.iload 7, 2) := dk_21 7 (dk_at dksX0_ask_7 2 rfl rfl)
theorem dX0_ask_169 : decode cX0_ask 169 = .ok (.invokestatic 270, 3) := dk_184 1 14 (dk_at dksX0_ask_7 4 rfl rfl)
theorem dX0_ask_172 : decode cX0_ask 172 = .ok (.istore 5, 2) := dk_54 5 (dk_at dksX0_ask_7 7 rfl rfl)
theorem dX0_ask_174 : decode cX0_ask 174 = .ok (.iinc 6 1, 3) := dk_132 6 1 (dk_at dksX0_ask_7 9 rfl rfl)
theorem dX0_ask_177 : decode cX0_ask 177 = .ok (.goto (-138), 3) := dk_167 255 118 (dk_at dksX0_ask_7 12 rfl rfl)
theorem dX0_ask_180 : decode cX0_ask 180 = .ok (.iload 4, 2) := dk_21 4 (dk_at dksX0_ask_7 15 rfl rfl)
theorem dX0_ask_182 : decode cX0_ask 182 = .ok (.ireturn, 1) := dk_172 (dk_at dksX0_ask_7 17 rfl rfl)
abbrev cX0_water : ByteArray := prog_1_method_52_code
def yX0_water : MethodName := ⟨RX0, "water", "(III)I"⟩
def dkwX0_water_7 : List UInt8 := [167, 255, 132, 21, 4, 172]
abbrev dktX0_water_7 : List UInt8 := dkwX0_water_7 ++ []
def dkwX0_water_6 : List UInt8 := [3, 54, 8, 21, 4, 21, 8, 153, 0, 10, 4, 21, 5, 120, 167, 0, 4, 3, 128, 54, 4, 132, 5, 1]
abbrev dktX0_water_6 : List UInt8 := dkwX0_water_6 ++ dktX0_water_7
def dkwX0_water_5 : List UInt8 := [28, 29, 21, 7, 154, 0, 7, 4, 167, 0, 4, 3, 21, 6, 182, 1, 52, 161, 0, 7, 4, 167, 0, 4]
abbrev dktX0_water_5 : List UInt8 := dkwX0_water_5 ++ dktX0_water_6
def dkwX0_water_4 : List UInt8 := [4, 167, 0, 4, 3, 21, 7, 182, 1, 52, 161, 0, 38, 42, 28, 29, 21, 7, 21, 6, 182, 1, 52, 42]
abbrev dktX0_water_4 : List UInt8 := dkwX0_water_4 ++ dktX0_water_5
def dkwX0_water_3 : List UInt8 := [167, 0, 4, 3, 54, 7, 42, 27, 29, 21, 6, 21, 7, 182, 1, 52, 42, 27, 29, 21, 6, 154, 0, 7]
abbrev dktX0_water_3 : List UInt8 := dkwX0_water_3 ++ dktX0_water_4
def dkwX0_water_2 : List UInt8 := [21, 5, 4, 126, 4, 160, 0, 7, 4, 167, 0, 4, 3, 54, 6, 21, 5, 5, 161, 0, 7, 4]
abbrev dktX0_water_2 : List UInt8 := dkwX0_water_2 ++ dktX0_water_3
def dkwX0_water_1 : List UInt8 := [184, 0, 210, 154, 0, 8, 42, 182, 0, 102, 172, 3, 54, 4, 3, 54, 5, 21, 5, 7, 162, 0, 124]
abbrev dktX0_water_1 : List UInt8 := dkwX0_water_1 ++ dktX0_water_2
def dkwX0_water_0 : List UInt8 := [42, 27, 182, 0, 116, 153, 0, 23, 42, 28, 182, 0, 116, 153, 0, 15, 27, 28, 159, 0, 10, 29]
abbrev dktX0_water_0 : List UInt8 := dkwX0_water_0 ++ dktX0_water_1
theorem dksX0_water_0 : cX0_water.data.toList.drop 0 = dktX0_water_0 := by decide +kernel
theorem dksX0_water_1 : cX0_water.data.toList.drop 22 = dktX0_water_1 := dk_seg dksX0_water_0 22 rfl rfl
theorem dksX0_water_2 : cX0_water.data.toList.drop 45 = dktX0_water_2 := dk_seg dksX0_water_1 23 rfl rfl
theorem dksX0_water_3 : cX0_water.data.toList.drop 67 = dktX0_water_3 := dk_seg dksX0_water_2 22 rfl rfl
theorem dksX0_water_4 : cX0_water.data.toList.drop 91 = dktX0_water_4 := dk_seg dksX0_water_3 24 rfl rfl
theorem dksX0_water_5 : cX0_water.data.toList.drop 115 = dktX0_water_5 := dk_seg dksX0_water_4 24 rfl rfl
theorem dksX0_water_6 : cX0_water.data.toList.drop 139 = dktX0_water_6 := dk_seg dksX0_water_5 24 rfl rfl
theorem dksX0_water_7 : cX0_water.data.toList.drop 163 = dktX0_water_7 := dk_seg dksX0_water_6 24 rfl rfl
theorem dX0_water_0 : decode cX0_water 0 = .ok (.aload_n 0, 1) := dk_42 (dk_at dksX0_water_0 0 rfl rfl)
theorem dX0_water_1 : decode cX0_water 1 = .ok (.iload_n 1, 1) := dk_27 (dk_at dksX0_water_0 1 rfl rfl)
theorem dX0_water_2 : decode cX0_water 2 = .ok (.invokevirtual 116, 3) := dk_182 0 116 (dk_at dksX0_water_0 2 rfl rfl)
theorem dX0_water_5 : decode cX0_water 5 = .ok (.ifCond .eq 23, 3) := dk_153 0 23 (dk_at dksX0_water_0 5 rfl rfl)
theorem dX0_water_8 : decode cX0_water 8 = .ok (.aload_n 0, 1) := dk_42 (dk_at dksX0_water_0 8 rfl rfl)
theorem dX0_water_9 : decode cX0_water 9 = .ok (.iload_n 2, 1) := dk_28 (dk_at dksX0_water_0 9 rfl rfl)
theorem dX0_water_10 : decode cX0_water 10 = .ok (.invokevirtual 116, 3) := dk_182 0 116 (dk_at dksX0_water_0 10 rfl rfl)
theorem dX0_water_13 : decode cX0_water 13 = .ok (.ifCond .eq 15, 3) := dk_153 0 15 (dk_at dksX0_water_0 13 rfl rfl)
theorem dX0_water_16 : decode cX0_water 16 = .ok (.iload_n 1, 1) := dk_27 (dk_at dksX0_water_0 16 rfl rfl)
theorem dX0_water_17 : decode cX0_water 17 = .ok (.iload_n 2, 1) := dk_28 (dk_at dksX0_water_0 17 rfl rfl)
theorem dX0_water_18 : decode cX0_water 18 = .ok (.if_icmp .eq 10, 3) := dk_159 0 10 (dk_at dksX0_water_0 18 rfl rfl)
theorem dX0_water_21 : decode cX0_water 21 = .ok (.iload_n 3, 1) := dk_29 (dk_at dksX0_water_0 21 rfl rfl)
theorem dX0_water_22 : decode cX0_water 22 = .ok (.invokestatic 210, 3) := dk_184 0 210 (dk_at dksX0_water_1 0 rfl rfl)
theorem dX0_water_25 : decode cX0_water 25 = .ok (.ifCond .ne 8, 3) := dk_154 0 8 (dk_at dksX0_water_1 3 rfl rfl)
theorem dX0_water_28 : decode cX0_water 28 = .ok (.aload_n 0, 1) := dk_42 (dk_at dksX0_water_1 6 rfl rfl)
theorem dX0_water_29 : decode cX0_water 29 = .ok (.invokevirtual 102, 3) := dk_182 0 102 (dk_at dksX0_water_1 7 rfl rfl)
theorem dX0_water_32 : decode cX0_water 32 = .ok (.ireturn, 1) := dk_172 (dk_at dksX0_water_1 10 rfl rfl)
theorem dX0_water_33 : decode cX0_water 33 = .ok (.iconst 0, 1) := dk_3 (dk_at dksX0_water_1 11 rfl rfl)
theorem dX0_water_34 : decode cX0_water 34 = .ok (.istore 4, 2) := dk_54 4 (dk_at dksX0_water_1 12 rfl rfl)
theorem dX0_water_36 : decode cX0_water 36 = .ok (.iconst 0, 1) := dk_3 (dk_at dksX0_water_1 14 rfl rfl)
theorem dX0_water_37 : decode cX0_water 37 = .ok (.istore 5, 2) := dk_54 5 (dk_at dksX0_water_1 15 rfl rfl)
theorem dX0_water_39 : decode cX0_water 39 = .ok (.iload 5, 2) := dk_21 5 (dk_at dksX0_water_1 17 rfl rfl)
theorem dX0_water_41 : decode cX0_water 41 = .ok (.iconst 4, 1) := dk_7 (dk_at dksX0_water_1 19 rfl rfl)
theorem dX0_water_42 : decode cX0_water 42 = .ok (.if_icmp .ge 124, 3) := dk_162 0 124 (dk_at dksX0_water_1 20 rfl rfl)
theorem dX0_water_45 : decode cX0_water 45 = .ok (.iload 5, 2) := dk_21 5 (dk_at dksX0_water_2 0 rfl rfl)
theorem dX0_water_47 : decode cX0_water 47 = .ok (.iconst 1, 1) := dk_4 (dk_at dksX0_water_2 2 rfl rfl)
theorem dX0_water_48 : decode cX0_water 48 = .ok (.iand, 1) := dk_126 (dk_at dksX0_water_2 3 rfl rfl)
theorem dX0_water_49 : decode cX0_water 49 = .ok (.iconst 1, 1) := dk_4 (dk_at dksX0_water_2 4 rfl rfl)
theorem dX0_water_50 : decode cX0_water 50 = .ok (.if_icmp .ne 7, 3) := dk_160 0 7 (dk_at dksX0_water_2 5 rfl rfl)
theorem dX0_water_53 : decode cX0_water 53 = .ok (.iconst 1, 1) := dk_4 (dk_at dksX0_water_2 8 rfl rfl)
theorem dX0_water_54 : decode cX0_water 54 = .ok (.goto 4, 3) := dk_167 0 4 (dk_at dksX0_water_2 9 rfl rfl)
theorem dX0_water_57 : decode cX0_water 57 = .ok (.iconst 0, 1) := dk_3 (dk_at dksX0_water_2 12 rfl rfl)
theorem dX0_water_58 : decode cX0_water 58 = .ok (.istore 6, 2) := dk_54 6 (dk_at dksX0_water_2 13 rfl rfl)
theorem dX0_water_60 : decode cX0_water 60 = .ok (.iload 5, 2) := dk_21 5 (dk_at dksX0_water_2 15 rfl rfl)
theorem dX0_water_62 : decode cX0_water 62 = .ok (.iconst 2, 1) := dk_5 (dk_at dksX0_water_2 17 rfl rfl)
theorem dX0_water_63 : decode cX0_water 63 = .ok (.if_icmp .lt 7, 3) := dk_161 0 7 (dk_at dksX0_water_2 18 rfl rfl)
theorem dX0_water_66 : decode cX0_water 66 = .ok (.iconst 1, 1) := dk_4 (dk_at dksX0_water_2 21 rfl rfl)
theorem dX0_water_67 : decode cX0_water 67 = .ok (.goto 4, 3) := dk_167 0 4 (dk_at dksX0_water_3 0 rfl rfl)
theorem dX0_water_70 : decode cX0_water 70 = .ok (.iconst 0, 1) := dk_3 (dk_at dksX0_water_3 3 rfl rfl)
theorem dX0_water_71 : decode cX0_water 71 = .ok (.istore 7, 2) := dk_54 7 (dk_at dksX0_water_3 4 rfl rfl)
theorem dX0_water_73 : decode cX0_water 73 = .ok (.aload_n 0, 1) := dk_42 (dk_at dksX0_water_3 6 rfl rfl)
theorem dX0_water_74 : decode cX0_water 74 = .ok (.iload_n 1, 1) := dk_27 (dk_at dksX0_water_3 7 rfl rfl)
theorem dX0_water_75 : decode cX0_water 75 = .ok (.iload_n 3, 1) := dk_29 (dk_at dksX0_water_3 8 rfl rfl)
theorem dX0_water_76 : decode cX0_water 76 = .ok (.iload 6, 2) := dk_21 6 (dk_at dksX0_water_3 9 rfl rfl)
theorem dX0_water_78 : decode cX0_water 78 = .ok (.iload 7, 2) := dk_21 7 (dk_at dksX0_water_3 11 rfl rfl)
theorem dX0_water_80 : decode cX0_water 80 = .ok (.invokevirtual 308, 3) := dk_182 1 52 (dk_at dksX0_water_3 13 rfl rfl)
theorem dX0_water_83 : decode cX0_water 83 = .ok (.aload_n 0, 1) := dk_42 (dk_at dksX0_water_3 16 rfl rfl)
theorem dX0_water_84 : decode cX0_water 84 = .ok (.iload_n 1, 1) := dk_27 (dk_at dksX0_water_3 17 rfl rfl)
theorem dX0_water_85 : decode cX0_water 85 = .ok (.iload_n 3, 1) := dk_29 (dk_at dksX0_water_3 18 rfl rfl)
theorem dX0_water_86 : decode cX0_water 86 = .ok (.iload 6, 2) := dk_21 6 (dk_at dksX0_water_3 19 rfl rfl)
theorem dX0_water_88 : decode cX0_water 88 = .ok (.ifCond .ne 7, 3) := dk_154 0 7 (dk_at dksX0_water_3 21 rfl rfl)
theorem dX0_water_91 : decode cX0_water 91 = .ok (.iconst 1, 1) := dk_4 (dk_at dksX0_water_4 0 rfl rfl)
theorem dX0_water_92 : decode cX0_water 92 = .ok (.goto 4, 3) := dk_167 0 4 (dk_at dksX0_water_4 1 rfl rfl)
theorem dX0_water_95 : decode cX0_water 95 = .ok (.iconst 0, 1) := dk_3 (dk_at dksX0_water_4 4 rfl rfl)
theorem dX0_water_96 : decode cX0_water 96 = .ok (.iload 7, 2) := dk_21 7 (dk_at dksX0_water_4 5 rfl rfl)
theorem dX0_water_98 : decode cX0_water 98 = .ok (.invokevirtual 308, 3) := dk_182 1 52 (dk_at dksX0_water_4 7 rfl rfl)
theorem dX0_water_101 : decode cX0_water 101 = .ok (.if_icmp .lt 38, 3) := dk_161 0 38 (dk_at dksX0_water_4 10 rfl rfl)
theorem dX0_water_104 : decode cX0_water 104 = .ok (.aload_n 0, 1) := dk_42 (dk_at dksX0_water_4 13 rfl rfl)
theorem dX0_water_105 : decode cX0_water 105 = .ok (.iload_n 2, 1) := dk_28 (dk_at dksX0_water_4 14 rfl rfl)
theorem dX0_water_106 : decode cX0_water 106 = .ok (.iload_n 3, 1) := dk_29 (dk_at dksX0_water_4 15 rfl rfl)
theorem dX0_water_107 : decode cX0_water 107 = .ok (.iload 7, 2) := dk_21 7 (dk_at dksX0_water_4 16 rfl rfl)
theorem dX0_water_109 : decode cX0_water 109 = .ok (.iload 6, 2) := dk_21 6 (dk_at dksX0_water_4 18 rfl rfl)
theorem dX0_water_111 : decode cX0_water 111 = .ok (.invokevirtual 308, 3) := dk_182 1 52 (dk_at dksX0_water_4 20 rfl rfl)
theorem dX0_water_114 : decode cX0_water 114 = .ok (.aload_n 0, 1) := dk_42 (dk_at dksX0_water_4 23 rfl rfl)
theorem dX0_water_115 : decode cX0_water 115 = .ok (.iload_n 2, 1) := dk_28 (dk_at dksX0_water_5 0 rfl rfl)
theorem dX0_water_116 : decode cX0_water 116 = .ok (.iload_n 3, 1) := dk_29 (dk_at dksX0_water_5 1 rfl rfl)
theorem dX0_water_117 : decode cX0_water 117 = .ok (.iload 7, 2) := dk_21 7 (dk_at dksX0_water_5 2 rfl rfl)
theorem dX0_water_119 : decode cX0_water 119 = .ok (.ifCond .ne 7, 3) := dk_154 0 7 (dk_at dksX0_water_5 4 rfl rfl)
theorem dX0_water_122 : decode cX0_water 122 = .ok (.iconst 1, 1) := dk_4 (dk_at dksX0_water_5 7 rfl rfl)
theorem dX0_water_123 : decode cX0_water 123 = .ok (.goto 4, 3) := dk_167 0 4 (dk_at dksX0_water_5 8 rfl rfl)
theorem dX0_water_126 : decode cX0_water 126 = .ok (.iconst 0, 1) := dk_3 (dk_at dksX0_water_5 11 rfl rfl)
theorem dX0_water_127 : decode cX0_water 127 = .ok (.iload 6, 2) := dk_21 6 (dk_at dksX0_water_5 12 rfl rfl)
theorem dX0_water_129 : decode cX0_water 129 = .ok (.invokevirtual 308, 3) := dk_182 1 52 (dk_at dksX0_water_5 14 rfl rfl)
theorem dX0_water_132 : decode cX0_water 132 = .ok (.if_icmp .lt 7, 3) := dk_161 0 7 (dk_at dksX0_water_5 17 rfl rfl)
theorem dX0_water_135 : decode cX0_water 135 = .ok (.iconst 1, 1) := dk_4 (dk_at dksX0_water_5 20 rfl rfl)
theorem dX0_water_136 : decode cX0_water 136 = .ok (.goto 4, 3) := dk_167 0 4 (dk_at dksX0_water_5 21 rfl rfl)
theorem dX0_water_139 : decode cX0_water 139 = .ok (.iconst 0, 1) := dk_3 (dk_at dksX0_water_6 0 rfl rfl)
theorem dX0_water_140 : decode cX0_water 140 = .ok (.istore 8, 2) := dk_54 8 (dk_at dksX0_water_6 1 rfl rfl)
theorem dX0_water_142 : decode cX0_water 142 = .ok (.iload 4, 2) := dk_21 4 (dk_at dksX0_water_6 3 rfl rfl)
theorem dX0_water_144 : decode cX0_water 144 = .ok (.iload 8, 2) := dk_21 8 (dk_at dksX0_water_6 5 rfl rfl)
theorem dX0_water_146 : decode cX0_water 146 = .ok (.ifCond .eq 10, 3) := dk_153 0 10 (dk_at dksX0_water_6 7 rfl rfl)
theorem dX0_water_149 : decode cX0_water 149 = .ok (.iconst 1, 1) := dk_4 (dk_at dksX0_water_6 10 rfl rfl)
theorem dX0_water_150 : decode cX0_water 150 = .ok (.iload 5, 2) := dk_21 5 (dk_at dksX0_water_6 11 rfl rfl)
theorem dX0_water_152 : decode cX0_water 152 = .ok (.ishl, 1) := dk_120 (dk_at dksX0_water_6 13 rfl rfl)
theorem dX0_water_153 : decode cX0_water 153 = .ok (.goto 4, 3) := dk_167 0 4 (dk_at dksX0_water_6 14 rfl rfl)
theorem dX0_water_156 : decode cX0_water 156 = .ok (.iconst 0, 1) := dk_3 (dk_at dksX0_water_6 17 rfl rfl)
theorem dX0_water_157 : decode cX0_water 157 = .ok (.ior, 1) := dk_128 (dk_at dksX0_water_6 18 rfl rfl)
theorem dX0_water_158 : decode cX0_water 158 = .ok (.istore 4, 2) := dk_54 4 (dk_at dksX0_water_6 19 rfl rfl)
theorem dX0_water_160 : decode cX0_water 160 = .ok (.iinc 5 1, 3) := dk_132 5 1 (dk_at dksX0_water_6 21 rfl rfl)
theorem dX0_water_163 : decode cX0_water 163 = .ok (.goto (-124), 3) := dk_167 255 132 (dk_at dksX0_water_7 0 rfl rfl)
theorem dX0_water_166 : decode cX0_water 166 = .ok (.iload 4, 2) := dk_21 4 (dk_at dksX0_water_7 3 rfl rfl)
theorem dX0_water_168 : decode cX0_water 168 = .ok (.ireturn, 1) := dk_172 (dk_at dksX0_water_7 5 rfl rfl)
abbrev cX0_gets : ByteArray := prog_1_method_51_code
def yX0_gets : MethodName := ⟨RX0, "gets", "(IIZZ)I"⟩
def dkwX0_gets_2 : List UInt8 := [100, 167, 0, 5, 21, 5, 172]
abbrev dktX0_gets_2 : List UInt8 := dkwX0_gets_2 ++ []
def dkwX0_gets_1 : List UInt8 := [153, 0, 8, 16, 252, 167, 0, 5, 16, 254, 54, 5, 29, 153, 0, 15, 21, 4, 153, 0, 10, 21, 5, 6]
abbrev dktX0_gets_1 : List UInt8 := dkwX0_gets_1 ++ dktX0_gets_2
def dkwX0_gets_0 : List UInt8 := [42, 27, 28, 29, 182, 1, 48, 153, 0, 16, 29, 153, 0, 8, 16, 6, 167, 0, 18, 5, 167, 0, 14, 29]
abbrev dktX0_gets_0 : List UInt8 := dkwX0_gets_0 ++ dktX0_gets_1
theorem dksX0_gets_0 : cX0_gets.data.toList.drop 0 = dktX0_gets_0 := by decide +kernel
theorem dksX0_gets_1 : cX0_gets.data.toList.drop 24 = dktX0_gets_1 := dk_seg dksX0_gets_0 24 rfl rfl
theorem dksX0_gets_2 : cX0_gets.data.toList.drop 48 = dktX0_gets_2 := dk_seg dksX0_gets_1 24 rfl rfl
theorem dX0_gets_0 : decode cX0_gets 0 = .ok (.aload_n 0, 1) := dk_42 (dk_at dksX0_gets_0 0 rfl rfl)
theorem dX0_gets_1 : decode cX0_gets 1 = .ok (.iload_n 1, 1) := dk_27 (dk_at dksX0_gets_0 1 rfl rfl)
theorem dX0_gets_2 : decode cX0_gets 2 = .ok (.iload_n 2, 1) := dk_28 (dk_at dksX0_gets_0 2 rfl rfl)
theorem dX0_gets_3 : decode cX0_gets 3 = .ok (.iload_n 3, 1) := dk_29 (dk_at dksX0_gets_0 3 rfl rfl)
theorem dX0_gets_4 : decode cX0_gets 4 = .ok (.invokevirtual 304, 3) := dk_182 1 48 (dk_at dksX0_gets_0 4 rfl rfl)
theorem dX0_gets_7 : decode cX0_gets 7 = .ok (.ifCond .eq 16, 3) := dk_153 0 16 (dk_at dksX0_gets_0 7 rfl rfl)
theorem dX0_gets_10 : decode cX0_gets 10 = .ok (.iload_n 3, 1) := dk_29 (dk_at dksX0_gets_0 10 rfl rfl)
theorem dX0_gets_11 : decode cX0_gets 11 = .ok (.ifCond .eq 8, 3) := dk_153 0 8 (dk_at dksX0_gets_0 11 rfl rfl)
theorem dX0_gets_14 : decode cX0_gets 14 = .ok (.bipush 6, 2) := dk_16 6 (dk_at dksX0_gets_0 14 rfl rfl)
theorem dX0_gets_16 : decode cX0_gets 16 = .ok (.goto 18, 3) := dk_167 0 18 (dk_at dksX0_gets_0 16 rfl rfl)
theorem dX0_gets_19 : decode cX0_gets 19 = .ok (.iconst 2, 1) := dk_5 (dk_at dksX0_gets_0 19 rfl rfl)
theorem dX0_gets_20 : decode cX0_gets 20 = .ok (.goto 14, 3) := dk_167 0 14 (dk_at dksX0_gets_0 20 rfl rfl)
theorem dX0_gets_23 : decode cX0_gets 23 = .ok (.iload_n 3, 1) := dk_29 (dk_at dksX0_gets_0 23 rfl rfl)
theorem dX0_gets_24 : decode cX0_gets 24 = .ok (.ifCond .eq 8, 3) := dk_153 0 8 (dk_at dksX0_gets_1 0 rfl rfl)
theorem dX0_gets_27 : decode cX0_gets 27 = .ok (.bipush (-4), 2) := dk_16 252 (dk_at dksX0_gets_1 3 rfl rfl)
theorem dX0_gets_29 : decode cX0_gets 29 = .ok (.goto 5, 3) := dk_167 0 5 (dk_at dksX0_gets_1 5 rfl rfl)
theorem dX0_gets_32 : decode cX0_gets 32 = .ok (.bipush (-2), 2) := dk_16 254 (dk_at dksX0_gets_1 8 rfl rfl)
theorem dX0_gets_34 : decode cX0_gets 34 = .ok (.istore 5, 2) := dk_54 5 (dk_at dksX0_gets_1 10 rfl rfl)
theorem dX0_gets_36 : decode cX0_gets 36 = .ok (.iload_n 3, 1) := dk_29 (dk_at dksX0_gets_1 12 rfl rfl)
theorem dX0_gets_37 : decode cX0_gets 37 = .ok (.ifCond .eq 15, 3) := dk_153 0 15 (dk_at dksX0_gets_1 13 rfl rfl)
theorem dX0_gets_40 : decode cX0_gets 40 = .ok (.iload 4, 2) := dk_21 4 (dk_at dksX0_gets_1 16 rfl rfl)
theorem dX0_gets_42 : decode cX0_gets 42 = .ok (.ifCond .eq 10, 3) := dk_153 0 10 (dk_at dksX0_gets_1 18 rfl rfl)
theorem dX0_gets_45 : decode cX0_gets 45 = .ok (.iload 5, 2) := dk_21 5 (dk_at dksX0_gets_1 21 rfl rfl)
theorem dX0_gets_47 : decode cX0_gets 47 = .ok (.iconst 3, 1) := dk_6 (dk_at dksX0_gets_1 23 rfl rfl)
theorem dX0_gets_48 : decode cX0_gets 48 = .ok (.isub, 1) := dk_100 (dk_at dksX0_gets_2 0 rfl rfl)
theorem dX0_gets_49 : decode cX0_gets 49 = .ok (.goto 5, 3) := dk_167 0 5 (dk_at dksX0_gets_2 1 rfl rfl)
theorem dX0_gets_52 : decode cX0_gets 52 = .ok (.iload 5, 2) := dk_21 5 (dk_at dksX0_gets_2 4 rfl rfl)
theorem dX0_gets_54 : decode cX0_gets 54 = .ok (.ireturn, 1) := dk_172 (dk_at dksX0_gets_2 6 rfl rfl)
abbrev cX0_could : ByteArray := prog_1_method_50_code
def yX0_could : MethodName := ⟨RX0, "could", "(IIZ)Z"⟩
def dkwX0_could_2 : List UInt8 := [180, 0, 26, 27, 28, 182, 0, 217, 172]
abbrev dktX0_could_2 : List UInt8 := dkwX0_could_2 ++ []
def dkwX0_could_1 : List UInt8 := [29, 153, 0, 16, 42, 180, 0, 10, 42, 180, 0, 26, 27, 182, 0, 149, 87, 42, 180, 0, 10, 42]
abbrev dktX0_could_1 : List UInt8 := dkwX0_could_1 ++ dktX0_could_2
def dkwX0_could_0 : List UInt8 := [42, 27, 182, 0, 140, 154, 0, 5, 3, 172, 42, 180, 0, 26, 42, 180, 0, 10, 180, 0, 91, 182, 0, 171]
abbrev dktX0_could_0 : List UInt8 := dkwX0_could_0 ++ dktX0_could_1
theorem dksX0_could_0 : cX0_could.data.toList.drop 0 = dktX0_could_0 := by decide +kernel
theorem dksX0_could_1 : cX0_could.data.toList.drop 24 = dktX0_could_1 := dk_seg dksX0_could_0 24 rfl rfl
theorem dksX0_could_2 : cX0_could.data.toList.drop 46 = dktX0_could_2 := dk_seg dksX0_could_1 22 rfl rfl
theorem dX0_could_0 : decode cX0_could 0 = .ok (.aload_n 0, 1) := dk_42 (dk_at dksX0_could_0 0 rfl rfl)
theorem dX0_could_1 : decode cX0_could 1 = .ok (.iload_n 1, 1) := dk_27 (dk_at dksX0_could_0 1 rfl rfl)
theorem dX0_could_2 : decode cX0_could 2 = .ok (.invokevirtual 140, 3) := dk_182 0 140 (dk_at dksX0_could_0 2 rfl rfl)
theorem dX0_could_5 : decode cX0_could 5 = .ok (.ifCond .ne 5, 3) := dk_154 0 5 (dk_at dksX0_could_0 5 rfl rfl)
theorem dX0_could_8 : decode cX0_could 8 = .ok (.iconst 0, 1) := dk_3 (dk_at dksX0_could_0 8 rfl rfl)
theorem dX0_could_9 : decode cX0_could 9 = .ok (.ireturn, 1) := dk_172 (dk_at dksX0_could_0 9 rfl rfl)
theorem dX0_could_10 : decode cX0_could 10 = .ok (.aload_n 0, 1) := dk_42 (dk_at dksX0_could_0 10 rfl rfl)
theorem dX0_could_11 : decode cX0_could 11 = .ok (.getfield 26, 3) := dk_180 0 26 (dk_at dksX0_could_0 11 rfl rfl)
theorem dX0_could_14 : decode cX0_could 14 = .ok (.aload_n 0, 1) := dk_42 (dk_at dksX0_could_0 14 rfl rfl)
theorem dX0_could_15 : decode cX0_could 15 = .ok (.getfield 10, 3) := dk_180 0 10 (dk_at dksX0_could_0 15 rfl rfl)
theorem dX0_could_18 : decode cX0_could 18 = .ok (.getfield 91, 3) := dk_180 0 91 (dk_at dksX0_could_0 18 rfl rfl)
theorem dX0_could_21 : decode cX0_could 21 = .ok (.invokevirtual 171, 3) := dk_182 0 171 (dk_at dksX0_could_0 21 rfl rfl)
theorem dX0_could_24 : decode cX0_could 24 = .ok (.iload_n 3, 1) := dk_29 (dk_at dksX0_could_1 0 rfl rfl)
theorem dX0_could_25 : decode cX0_could 25 = .ok (.ifCond .eq 16, 3) := dk_153 0 16 (dk_at dksX0_could_1 1 rfl rfl)
theorem dX0_could_28 : decode cX0_could 28 = .ok (.aload_n 0, 1) := dk_42 (dk_at dksX0_could_1 4 rfl rfl)
theorem dX0_could_29 : decode cX0_could 29 = .ok (.getfield 10, 3) := dk_180 0 10 (dk_at dksX0_could_1 5 rfl rfl)
theorem dX0_could_32 : decode cX0_could 32 = .ok (.aload_n 0, 1) := dk_42 (dk_at dksX0_could_1 8 rfl rfl)
theorem dX0_could_33 : decode cX0_could 33 = .ok (.getfield 26, 3) := dk_180 0 26 (dk_at dksX0_could_1 9 rfl rfl)
theorem dX0_could_36 : decode cX0_could 36 = .ok (.iload_n 1, 1) := dk_27 (dk_at dksX0_could_1 12 rfl rfl)
theorem dX0_could_37 : decode cX0_could 37 = .ok (.invokevirtual 149, 3) := dk_182 0 149 (dk_at dksX0_could_1 13 rfl rfl)
theorem dX0_could_40 : decode cX0_could 40 = .ok (.pop, 1) := dk_87 (dk_at dksX0_could_1 16 rfl rfl)
theorem dX0_could_41 : decode cX0_could 41 = .ok (.aload_n 0, 1) := dk_42 (dk_at dksX0_could_1 17 rfl rfl)
theorem dX0_could_42 : decode cX0_could 42 = .ok (.getfield 10, 3) := dk_180 0 10 (dk_at dksX0_could_1 18 rfl rfl)
theorem dX0_could_45 : decode cX0_could 45 = .ok (.aload_n 0, 1) := dk_42 (dk_at dksX0_could_1 21 rfl rfl)
theorem dX0_could_46 : decode cX0_could 46 = .ok (.getfield 26, 3) := dk_180 0 26 (dk_at dksX0_could_2 0 rfl rfl)
theorem dX0_could_49 : decode cX0_could 49 = .ok (.iload_n 1, 1) := dk_27 (dk_at dksX0_could_2 3 rfl rfl)
theorem dX0_could_50 : decode cX0_could 50 = .ok (.iload_n 2, 1) := dk_28 (dk_at dksX0_could_2 4 rfl rfl)
theorem dX0_could_51 : decode cX0_could 51 = .ok (.invokevirtual 217, 3) := dk_182 0 217 (dk_at dksX0_could_2 5 rfl rfl)
theorem dX0_could_54 : decode cX0_could 54 = .ok (.ireturn, 1) := dk_172 (dk_at dksX0_could_2 8 rfl rfl)
abbrev cX0_lots : ByteArray := prog_1_method_54_code
def yX0_lots : MethodName := ⟨RX0, "lots", "(II)I"⟩
def dkwX0_lots_4 : List UInt8 := [181, 1, 60, 42, 21, 4, 133, 22, 7, 109, 181, 0, 38, 4, 172]
abbrev dktX0_lots_4 : List UInt8 := dkwX0_lots_4 ++ []
def dkwX0_lots_3 : List UInt8 := [184, 1, 14, 133, 55, 5, 22, 5, 21, 4, 133, 184, 1, 56, 55, 7, 42, 22, 5, 22, 7, 109]
abbrev dktX0_lots_3 : List UInt8 := dkwX0_lots_3 ++ dktX0_lots_4
def dkwX0_lots_2 : List UInt8 := [42, 180, 0, 10, 42, 180, 0, 10, 180, 0, 91, 29, 182, 0, 94, 184, 0, 158, 54, 4, 28, 21, 4]
abbrev dktX0_lots_2 : List UInt8 := dkwX0_lots_2 ++ dktX0_lots_3
def dkwX0_lots_1 : List UInt8 := [172, 42, 180, 0, 10, 180, 0, 91, 180, 0, 155, 27, 46, 62, 29, 2, 160, 0, 8, 42, 182, 0, 143, 172]
abbrev dktX0_lots_1 : List UInt8 := dkwX0_lots_1 ++ dktX0_lots_2
def dkwX0_lots_0 : List UInt8 := [42, 27, 182, 0, 152, 153, 0, 15, 28, 133, 9, 20, 0, 221, 184, 0, 74, 154, 0, 8, 42, 182, 0, 102]
abbrev dktX0_lots_0 : List UInt8 := dkwX0_lots_0 ++ dktX0_lots_1
theorem dksX0_lots_0 : cX0_lots.data.toList.drop 0 = dktX0_lots_0 := by decide +kernel
theorem dksX0_lots_1 : cX0_lots.data.toList.drop 24 = dktX0_lots_1 := dk_seg dksX0_lots_0 24 rfl rfl
theorem dksX0_lots_2 : cX0_lots.data.toList.drop 48 = dktX0_lots_2 := dk_seg dksX0_lots_1 24 rfl rfl
theorem dksX0_lots_3 : cX0_lots.data.toList.drop 71 = dktX0_lots_3 := dk_seg dksX0_lots_2 23 rfl rfl
theorem dksX0_lots_4 : cX0_lots.data.toList.drop 93 = dktX0_lots_4 := dk_seg dksX0_lots_3 22 rfl rfl
theorem dX0_lots_0 : decode cX0_lots 0 = .ok (.aload_n 0, 1) := dk_42 (dk_at dksX0_lots_0 0 rfl rfl)
theorem dX0_lots_1 : decode cX0_lots 1 = .ok (.iload_n 1, 1) := dk_27 (dk_at dksX0_lots_0 1 rfl rfl)
theorem dX0_lots_2 : decode cX0_lots 2 = .ok (.invokevirtual 152, 3) := dk_182 0 152 (dk_at dksX0_lots_0 2 rfl rfl)
theorem dX0_lots_5 : decode cX0_lots 5 = .ok (.ifCond .eq 15, 3) := dk_153 0 15 (dk_at dksX0_lots_0 5 rfl rfl)
theorem dX0_lots_8 : decode cX0_lots 8 = .ok (.iload_n 2, 1) := dk_28 (dk_at dksX0_lots_0 8 rfl rfl)
theorem dX0_lots_9 : decode cX0_lots 9 = .ok (.i2l, 1) := dk_133 (dk_at dksX0_lots_0 9 rfl rfl)
theorem dX0_lots_10 : decode cX0_lots 10 = .ok (.lconst 0, 1) := dk_9 (dk_at dksX0_lots_0 10 rfl rfl)
theorem dX0_lots_11 : decode cX0_lots 11 = .ok (.ldc2_w 221, 3) := dk_20 0 221 (dk_at dksX0_lots_0 11 rfl rfl)
theorem dX0_lots_14 : decode cX0_lots 14 = .ok (.invokestatic 74, 3) := dk_184 0 74 (dk_at dksX0_lots_0 14 rfl rfl)
theorem dX0_lots_17 : decode cX0_lots 17 = .ok (.ifCond .ne 8, 3) := dk_154 0 8 (dk_at dksX0_lots_0 17 rfl rfl)
theorem dX0_lots_20 : decode cX0_lots 20 = .ok (.aload_n 0, 1) := dk_42 (dk_at dksX0_lots_0 20 rfl rfl)
theorem dX0_lots_21 : decode cX0_lots 21 = .ok (.invokevirtual 102, 3) := dk_182 0 102 (dk_at dksX0_lots_0 21 rfl rfl)
theorem dX0_lots_24 : decode cX0_lots 24 = .ok (.ireturn, 1) := dk_172 (dk_at dksX0_lots_1 0 rfl rfl)
theorem dX0_lots_25 : decode cX0_lots 25 = .ok (.aload_n 0, 1) := dk_42 (dk_at dksX0_lots_1 1 rfl rfl)
theorem dX0_lots_26 : decode cX0_lots 26 = .ok (.getfield 10, 3) := dk_180 0 10 (dk_at dksX0_lots_1 2 rfl rfl)
theorem dX0_lots_29 : decode cX0_lots 29 = .ok (.getfield 91, 3) := dk_180 0 91 (dk_at dksX0_lots_1 5 rfl rfl)
theorem dX0_lots_32 : decode cX0_lots 32 = .ok (.getfield 155, 3) := dk_180 0 155 (dk_at dksX0_lots_1 8 rfl rfl)
theorem dX0_lots_35 : decode cX0_lots 35 = .ok (.iload_n 1, 1) := dk_27 (dk_at dksX0_lots_1 11 rfl rfl)
theorem dX0_lots_36 : decode cX0_lots 36 = .ok (.iaload, 1) := dk_46 (dk_at dksX0_lots_1 12 rfl rfl)
theorem dX0_lots_37 : decode cX0_lots 37 = .ok (.istore_n 3, 1) := dk_62 (dk_at dksX0_lots_1 13 rfl rfl)
theorem dX0_lots_38 : decode cX0_lots 38 = .ok (.iload_n 3, 1) := dk_29 (dk_at dksX0_lots_1 14 rfl rfl)
theorem dX0_lots_39 : decode cX0_lots 39 = .ok (.iconst (-1), 1) := dk_2 (dk_at dksX0_lots_1 15 rfl rfl)
theorem dX0_lots_40 : decode cX0_lots 40 = .ok (.if_icmp .ne 8, 3) := dk_160 0 8 (dk_at dksX0_lots_1 16 rfl rfl)
theorem dX0_lots_43 : decode cX0_lots 43 = .ok (.aload_n 0, 1) := dk_42 (dk_at dksX0_lots_1 19 rfl rfl)
theorem dX0_lots_44 : decode cX0_lots 44 = .ok (.invokevirtual 143, 3) := dk_182 0 143 (dk_at dksX0_lots_1 20 rfl rfl)
theorem dX0_lots_47 : decode cX0_lots 47 = .ok (.ireturn, 1) := dk_172 (dk_at dksX0_lots_1 23 rfl rfl)
theorem dX0_lots_48 : decode cX0_lots 48 = .ok (.aload_n 0, 1) := dk_42 (dk_at dksX0_lots_2 0 rfl rfl)
theorem dX0_lots_49 : decode cX0_lots 49 = .ok (.getfield 10, 3) := dk_180 0 10 (dk_at dksX0_lots_2 1 rfl rfl)
theorem dX0_lots_52 : decode cX0_lots 52 = .ok (.aload_n 0, 1) := dk_42 (dk_at dksX0_lots_2 4 rfl rfl)
theorem dX0_lots_53 : decode cX0_lots 53 = .ok (.getfield 10, 3) := dk_180 0 10 (dk_at dksX0_lots_2 5 rfl rfl)
theorem dX0_lots_56 : decode cX0_lots 56 = .ok (.getfield 91, 3) := dk_180 0 91 (dk_at dksX0_lots_2 8 rfl rfl)
theorem dX0_lots_59 : decode cX0_lots 59 = .ok (.iload_n 3, 1) := dk_29 (dk_at dksX0_lots_2 11 rfl rfl)
theorem dX0_lots_60 : decode cX0_lots 60 = .ok (.invokevirtual 94, 3) := dk_182 0 94 (dk_at dksX0_lots_2 12 rfl rfl)
theorem dX0_lots_63 : decode cX0_lots 63 = .ok (.invokestatic 158, 3) := dk_184 0 158 (dk_at dksX0_lots_2 15 rfl rfl)
theorem dX0_lots_66 : decode cX0_lots 66 = .ok (.istore 4, 2) := dk_54 4 (dk_at dksX0_lots_2 18 rfl rfl)
theorem dX0_lots_68 : decode cX0_lots 68 = .ok (.iload_n 2, 1) := dk_28 (dk_at dksX0_lots_2 20 rfl rfl)
theorem dX0_lots_69 : decode cX0_lots 69 = .ok (.iload 4, 2) := dk_21 4 (dk_at dksX0_lots_2 21 rfl rfl)
theorem dX0_lots_71 : decode cX0_lots 71 = .ok (.invokestatic 270, 3) := dk_184 1 14 (dk_at dksX0_lots_3 0 rfl rfl)
theorem dX0_lots_74 : decode cX0_lots 74 = .ok (.i2l, 1) := dk_133 (dk_at dksX0_lots_3 3 rfl rfl)
theorem dX0_lots_75 : decode cX0_lots 75 = .ok (.lstore 5, 2) := dk_55 5 (dk_at dksX0_lots_3 4 rfl rfl)
theorem dX0_lots_77 : decode cX0_lots 77 = .ok (.lload 5, 2) := dk_22 5 (dk_at dksX0_lots_3 6 rfl rfl)
theorem dX0_lots_79 : decode cX0_lots 79 = .ok (.iload 4, 2) := dk_21 4 (dk_at dksX0_lots_3 8 rfl rfl)
theorem dX0_lots_81 : decode cX0_lots 81 = .ok (.i2l, 1) := dk_133 (dk_at dksX0_lots_3 10 rfl rfl)
theorem dX0_lots_82 : decode cX0_lots 82 = .ok (.invokestatic 312, 3) := dk_184 1 56 (dk_at dksX0_lots_3 11 rfl rfl)
theorem dX0_lots_85 : decode cX0_lots 85 = .ok (.lstore 7, 2) := dk_55 7 (dk_at dksX0_lots_3 14 rfl rfl)
theorem dX0_lots_87 : decode cX0_lots 87 = .ok (.aload_n 0, 1) := dk_42 (dk_at dksX0_lots_3 16 rfl rfl)
theorem dX0_lots_88 : decode cX0_lots 88 = .ok (.lload 5, 2) := dk_22 5 (dk_at dksX0_lots_3 17 rfl rfl)
theorem dX0_lots_90 : decode cX0_lots 90 = .ok (.lload 7, 2) := dk_22 7 (dk_at dksX0_lots_3 19 rfl rfl)
theorem dX0_lots_92 : decode cX0_lots 92 = .ok (.ldiv, 1) := dk_109 (dk_at dksX0_lots_3 21 rfl rfl)
theorem dX0_lots_93 : decode cX0_lots 93 = .ok (.putfield 316, 3) := dk_181 1 60 (dk_at dksX0_lots_4 0 rfl rfl)
theorem dX0_lots_96 : decode cX0_lots 96 = .ok (.aload_n 0, 1) := dk_42 (dk_at dksX0_lots_4 3 rfl rfl)
theorem dX0_lots_97 : decode cX0_lots 97 = .ok (.iload 4, 2) := dk_21 4 (dk_at dksX0_lots_4 4 rfl rfl)
theorem dX0_lots_99 : decode cX0_lots 99 = .ok (.i2l, 1) := dk_133 (dk_at dksX0_lots_4 6 rfl rfl)
theorem dX0_lots_100 : decode cX0_lots 100 = .ok (.lload 7, 2) := dk_22 7 (dk_at dksX0_lots_4 7 rfl rfl)
theorem dX0_lots_102 : decode cX0_lots 102 = .ok (.ldiv, 1) := dk_109 (dk_at dksX0_lots_4 9 rfl rfl)
theorem dX0_lots_103 : decode cX0_lots 103 = .ok (.putfield 38, 3) := dk_181 0 38 (dk_at dksX0_lots_4 10 rfl rfl)
theorem dX0_lots_106 : decode cX0_lots 106 = .ok (.iconst 1, 1) := dk_4 (dk_at dksX0_lots_4 13 rfl rfl)
theorem dX0_lots_107 : decode cX0_lots 107 = .ok (.ireturn, 1) := dk_172 (dk_at dksX0_lots_4 14 rfl rfl)
abbrev cX0_divisor : ByteArray := prog_1_method_53_code
def yX0_divisor : MethodName := ⟨RX0, "divisor", "(JJ)J"⟩
def dkwX0_divisor_1 : List UInt8 := [22, 8, 55, 6, 167, 255, 234, 22, 4, 173]
abbrev dktX0_divisor_1 : List UInt8 := dkwX0_divisor_1 ++ []
def dkwX0_divisor_0 : List UInt8 := [30, 55, 4, 32, 55, 6, 22, 6, 9, 148, 153, 0, 21, 22, 4, 22, 6, 113, 55, 8, 22, 6, 55, 4]
abbrev dktX0_divisor_0 : List UInt8 := dkwX0_divisor_0 ++ dktX0_divisor_1
theorem dksX0_divisor_0 : cX0_divisor.data.toList.drop 0 = dktX0_divisor_0 := by decide +kernel
theorem dksX0_divisor_1 : cX0_divisor.data.toList.drop 24 = dktX0_divisor_1 := dk_seg dksX0_divisor_0 24 rfl rfl
theorem dX0_divisor_0 : decode cX0_divisor 0 = .ok (.lload_n 0, 1) := dk_30 (dk_at dksX0_divisor_0 0 rfl rfl)
theorem dX0_divisor_1 : decode cX0_divisor 1 = .ok (.lstore 4, 2) := dk_55 4 (dk_at dksX0_divisor_0 1 rfl rfl)
theorem dX0_divisor_3 : decode cX0_divisor 3 = .ok (.lload_n 2, 1) := dk_32 (dk_at dksX0_divisor_0 3 rfl rfl)
theorem dX0_divisor_4 : decode cX0_divisor 4 = .ok (.lstore 6, 2) := dk_55 6 (dk_at dksX0_divisor_0 4 rfl rfl)
theorem dX0_divisor_6 : decode cX0_divisor 6 = .ok (.lload 6, 2) := dk_22 6 (dk_at dksX0_divisor_0 6 rfl rfl)
theorem dX0_divisor_8 : decode cX0_divisor 8 = .ok (.lconst 0, 1) := dk_9 (dk_at dksX0_divisor_0 8 rfl rfl)
theorem dX0_divisor_9 : decode cX0_divisor 9 = .ok (.lcmp, 1) := dk_148 (dk_at dksX0_divisor_0 9 rfl rfl)
theorem dX0_divisor_10 : decode cX0_divisor 10 = .ok (.ifCond .eq 21, 3) := dk_153 0 21 (dk_at dksX0_divisor_0 10 rfl rfl)
theorem dX0_divisor_13 : decode cX0_divisor 13 = .ok (.lload 4, 2) := dk_22 4 (dk_at dksX0_divisor_0 13 rfl rfl)
theorem dX0_divisor_15 : decode cX0_divisor 15 = .ok (.lload 6, 2) := dk_22 6 (dk_at dksX0_divisor_0 15 rfl rfl)
theorem dX0_divisor_17 : decode cX0_divisor 17 = .ok (.lrem, 1) := dk_113 (dk_at dksX0_divisor_0 17 rfl rfl)
theorem dX0_divisor_18 : decode cX0_divisor 18 = .ok (.lstore 8, 2) := dk_55 8 (dk_at dksX0_divisor_0 18 rfl rfl)
theorem dX0_divisor_20 : decode cX0_divisor 20 = .ok (.lload 6, 2) := dk_22 6 (dk_at dksX0_divisor_0 20 rfl rfl)
theorem dX0_divisor_22 : decode cX0_divisor 22 = .ok (.lstore 4, 2) := dk_55 4 (dk_at dksX0_divisor_0 22 rfl rfl)
theorem dX0_divisor_24 : decode cX0_divisor 24 = .ok (.lload 8, 2) := dk_22 8 (dk_at dksX0_divisor_1 0 rfl rfl)
theorem dX0_divisor_26 : decode cX0_divisor 26 = .ok (.lstore 6, 2) := dk_55 6 (dk_at dksX0_divisor_1 2 rfl rfl)
theorem dX0_divisor_28 : decode cX0_divisor 28 = .ok (.goto (-22), 3) := dk_167 255 234 (dk_at dksX0_divisor_1 4 rfl rfl)
theorem dX0_divisor_31 : decode cX0_divisor 31 = .ok (.lload 4, 2) := dk_22 4 (dk_at dksX0_divisor_1 7 rfl rfl)
theorem dX0_divisor_33 : decode cX0_divisor 33 = .ok (.lreturn, 1) := dk_173 (dk_at dksX0_divisor_1 9 rfl rfl)
abbrev cX0_centuries : ByteArray := prog_1_method_56_code
def yX0_centuries : MethodName := ⟨RX0, "centuries", "(II)I"⟩
def dkwX0_centuries_5 : List UInt8 := [180, 0, 10, 42, 180, 0, 10, 42, 180, 0, 26, 2, 182, 0, 94, 182, 0, 204, 172]
abbrev dktX0_centuries_5 : List UInt8 := dkwX0_centuries_5 ++ []
def dkwX0_centuries_4 : List UInt8 := [21, 6, 33, 20, 1, 77, 109, 20, 1, 79, 113, 136, 182, 1, 81, 132, 5, 1, 167, 255, 193, 42]
abbrev dktX0_centuries_4 : List UInt8 := dkwX0_centuries_4 ++ dktX0_centuries_5
def dkwX0_centuries_3 : List UInt8 := [20, 1, 73, 109, 20, 1, 75, 113, 136, 54, 6, 21, 6, 42, 180, 0, 10, 180, 0, 84, 162, 0, 19, 42]
abbrev dktX0_centuries_3 : List UInt8 := dkwX0_centuries_3 ++ dktX0_centuries_4
def dkwX0_centuries_2 : List UInt8 := [54, 5, 21, 5, 28, 162, 0, 63, 33, 20, 1, 67, 105, 20, 1, 69, 97, 20, 1, 71, 113, 66, 33]
abbrev dktX0_centuries_2 : List UInt8 := dkwX0_centuries_2 ++ dktX0_centuries_3
def dkwX0_centuries_1 : List UInt8 := [42, 182, 0, 102, 172, 42, 180, 0, 26, 42, 180, 0, 10, 180, 0, 91, 182, 0, 171, 27, 133, 66, 3]
abbrev dktX0_centuries_1 : List UInt8 := dkwX0_centuries_1 ++ dktX0_centuries_2
def dkwX0_centuries_0 : List UInt8 := [27, 133, 9, 20, 1, 63, 184, 0, 74, 153, 0, 15, 28, 133, 9, 20, 1, 65, 184, 0, 74, 154, 0, 8]
abbrev dktX0_centuries_0 : List UInt8 := dkwX0_centuries_0 ++ dktX0_centuries_1
theorem dksX0_centuries_0 : cX0_centuries.data.toList.drop 0 = dktX0_centuries_0 := by decide +kernel
theorem dksX0_centuries_1 : cX0_centuries.data.toList.drop 24 = dktX0_centuries_1 := dk_seg dksX0_centuries_0 24 rfl rfl
theorem dksX0_centuries_2 : cX0_centuries.data.toList.drop 47 = dktX0_centuries_2 := dk_seg dksX0_centuries_1 23 rfl rfl
theorem dksX0_centuries_3 : cX0_centuries.data.toList.drop 70 = dktX0_centuries_3 := dk_seg dksX0_centuries_2 23 rfl rfl
theorem dksX0_centuries_4 : cX0_centuries.data.toList.drop 94 = dktX0_centuries_4 := dk_seg dksX0_centuries_3 24 rfl rfl
theorem dksX0_centuries_5 : cX0_centuries.data.toList.drop 116 = dktX0_centuries_5 := dk_seg dksX0_centuries_4 22 rfl rfl
theorem dX0_centuries_0 : decode cX0_centuries 0 = .ok (.iload_n 1, 1) := dk_27 (dk_at dksX0_centuries_0 0 rfl rfl)
theorem dX0_centuries_1 : decode cX0_centuries 1 = .ok (.i2l, 1) := dk_133 (dk_at dksX0_centuries_0 1 rfl rfl)
theorem dX0_centuries_2 : decode cX0_centuries 2 = .ok (.lconst 0, 1) := dk_9 (dk_at dksX0_centuries_0 2 rfl rfl)
theorem dX0_centuries_3 : decode cX0_centuries 3 = .ok (.ldc2_w 319, 3) := dk_20 1 63 (dk_at dksX0_centuries_0 3 rfl rfl)
theorem dX0_centuries_6 : decode cX0_centuries 6 = .ok (.invokestatic 74, 3) := dk_184 0 74 (dk_at dksX0_centuries_0 6 rfl rfl)
theorem dX0_centuries_9 : decode cX0_centuries 9 = .ok (.ifCond .eq 15, 3) := dk_153 0 15 (dk_at dksX0_centuries_0 9 rfl rfl)
theorem dX0_centuries_12 : decode cX0_centuries 12 = .ok (.iload_n 2, 1) := dk_28 (dk_at dksX0_centuries_0 12 rfl rfl)
theorem dX0_centuries_13 : decode cX0_centuries 13 = .ok (.i2l, 1) := dk_133 (dk_at dksX0_centuries_0 13 rfl rfl)
theorem dX0_centuries_14 : decode cX0_centuries 14 = .ok (.lconst 0, 1) := dk_9 (dk_at dksX0_centuries_0 14 rfl rfl)
theorem dX0_centuries_15 : decode cX0_centuries 15 = .ok (.ldc2_w 321, 3) := dk_20 1 65 (dk_at dksX0_centuries_0 15 rfl rfl)
theorem dX0_centuries_18 : decode cX0_centuries 18 = .ok (.invokestatic 74, 3) := dk_184 0 74 (dk_at dksX0_centuries_0 18 rfl rfl)
theorem dX0_centuries_21 : decode cX0_centuries 21 = .ok (.ifCond .ne 8, 3) := dk_154 0 8 (dk_at dksX0_centuries_0 21 rfl rfl)
theorem dX0_centuries_24 : decode cX0_centuries 24 = .ok (.aload_n 0, 1) := dk_42 (dk_at dksX0_centuries_1 0 rfl rfl)
theorem dX0_centuries_25 : decode cX0_centuries 25 = .ok (.invokevirtual 102, 3) := dk_182 0 102 (dk_at dksX0_centuries_1 1 rfl rfl)
theorem dX0_centuries_28 : decode cX0_centuries 28 = .ok (.ireturn, 1) := dk_172 (dk_at dksX0_centuries_1 4 rfl rfl)
theorem dX0_centuries_29 : decode cX0_centuries 29 = .ok (.aload_n 0, 1) := dk_42 (dk_at dksX0_centuries_1 5 rfl rfl)
theorem dX0_centuries_30 : decode cX0_centuries 30 = .ok (.getfield 26, 3) := dk_180 0 26 (dk_at dksX0_centuries_1 6 rfl rfl)
theorem dX0_centuries_33 : decode cX0_centuries 33 = .ok (.aload_n 0, 1) := dk_42 (dk_at dksX0_centuries_1 9 rfl rfl)
theorem dX0_centuries_34 : decode cX0_centuries 34 = .ok (.getfield 10, 3) := dk_180 0 10 (dk_at dksX0_centuries_1 10 rfl rfl)
theorem dX0_centuries_37 : decode cX0_centuries 37 = .ok (.getfield 91, 3) := dk_180 0 91 (dk_at dksX0_centuries_1 13 rfl rfl)
theorem dX0_centuries_40 : decode cX0_centuries 40 = .ok (.invokevirtual 171, 3) := dk_182 0 171 (dk_at dksX0_centuries_1 16 rfl rfl)
theorem dX0_centuries_43 : decode cX0_centuries 43 = .ok (.iload_n 1, 1) := dk_27 (dk_at dksX0_centuries_1 19 rfl rfl)
theorem dX0_centuries_44 : decode cX0_centuries 44 = .ok (.i2l, 1) := dk_133 (dk_at dksX0_centuries_1 20 rfl rfl)
theorem dX0_centuries_45 : decode cX0_centuries 45 = .ok (.lstore_n 3, 1) := dk_66 (dk_at dksX0_centuries_1 21 rfl rfl)
theorem dX0_centuries_46 : decode cX0_centuries 46 = .ok (.iconst 0, 1) := dk_3 (dk_at dksX0_centuries_1 22 rfl rfl)
theorem dX0_centuries_47 : decode cX0_centuries 47 = .ok (.istore 5, 2) := dk_54 5 (dk_at dksX0_centuries_2 0 rfl rfl)
theorem dX0_centuries_49 : decode cX0_centuries 49 = .ok (.iload 5, 2) := dk_21 5 (dk_at dksX0_centuries_2 2 rfl rfl)
theorem dX0_centuries_51 : decode cX0_centuries 51 = .ok (.iload_n 2, 1) := dk_28 (dk_at dksX0_centuries_2 4 rfl rfl)
theorem dX0_centuries_52 : decode cX0_centuries 52 = .ok (.if_icmp .ge 63, 3) := dk_162 0 63 (dk_at dksX0_centuries_2 5 rfl rfl)
theorem dX0_centuries_55 : decode cX0_centuries 55 = .ok (.lload_n 3, 1) := dk_33 (dk_at dksX0_centuries_2 8 rfl rfl)
theorem dX0_centuries_56 : decode cX0_centuries 56 = .ok (.ldc2_w 323, 3) := dk_20 1 67 (dk_at dksX0_centuries_2 9 rfl rfl)
theorem dX0_centuries_59 : decode cX0_centuries 59 = .ok (.lmul, 1) := dk_105 (dk_at dksX0_centuries_2 12 rfl rfl)
theorem dX0_centuries_60 : decode cX0_centuries 60 = .ok (.ldc2_w 325, 3) := dk_20 1 69 (dk_at dksX0_centuries_2 13 rfl rfl)
theorem dX0_centuries_63 : decode cX0_centuries 63 = .ok (.ladd, 1) := dk_97 (dk_at dksX0_centuries_2 16 rfl rfl)
theorem dX0_centuries_64 : decode cX0_centuries 64 = .ok (.ldc2_w 327, 3) := dk_20 1 71 (dk_at dksX0_centuries_2 17 rfl rfl)
theorem dX0_centuries_67 : decode cX0_centuries 67 = .ok (.lrem, 1) := dk_113 (dk_at dksX0_centuries_2 20 rfl rfl)
theorem dX0_centuries_68 : decode cX0_centuries 68 = .ok (.lstore_n 3, 1) := dk_66 (dk_at dksX0_centuries_2 21 rfl rfl)
theorem dX0_centuries_69 : decode cX0_centuries 69 = .ok (.lload_n 3, 1) := dk_33 (dk_at dksX0_centuries_2 22 rfl rfl)
theorem dX0_centuries_70 : decode cX0_centuries 70 = .ok (.ldc2_w 329, 3) := dk_20 1 73 (dk_at dksX0_centuries_3 0 rfl rfl)
theorem dX0_centuries_73 : decode cX0_centuries 73 = .ok (.ldiv, 1) := dk_109 (dk_at dksX0_centuries_3 3 rfl rfl)
theorem dX0_centuries_74 : decode cX0_centuries 74 = .ok (.ldc2_w 331, 3) := dk_20 1 75 (dk_at dksX0_centuries_3 4 rfl rfl)
theorem dX0_centuries_77 : decode cX0_centuries 77 = .ok (.lrem, 1) := dk_113 (dk_at dksX0_centuries_3 7 rfl rfl)
theorem dX0_centuries_78 : decode cX0_centuries 78 = .ok (.l2i, 1) := dk_136 (dk_at dksX0_centuries_3 8 rfl rfl)
theorem dX0_centuries_79 : decode cX0_centuries 79 = .ok (.istore 6, 2) := dk_54 6 (dk_at dksX0_centuries_3 9 rfl rfl)
theorem dX0_centuries_81 : decode cX0_centuries 81 = .ok (.iload 6, 2) := dk_21 6 (dk_at dksX0_centuries_3 11 rfl rfl)
theorem dX0_centuries_83 : decode cX0_centuries 83 = .ok (.aload_n 0, 1) := dk_42 (dk_at dksX0_centuries_3 13 rfl rfl)
theorem dX0_centuries_84 : decode cX0_centuries 84 = .ok (.getfield 10, 3) := dk_180 0 10 (dk_at dksX0_centuries_3 14 rfl rfl)
theorem dX0_centuries_87 : decode cX0_centuries 87 = .ok (.getfield 84, 3) := dk_180 0 84 (dk_at dksX0_centuries_3 17 rfl rfl)
theorem dX0_centuries_90 : decode cX0_centuries 90 = .ok (.if_icmp .ge 19, 3) := dk_162 0 19 (dk_at dksX0_centuries_3 20 rfl rfl)
theorem dX0_centuries_93 : decode cX0_centuries 93 = .ok (.aload_n 0, 1) := dk_42 (dk_at dksX0_centuries_3 23 rfl rfl)
theorem dX0_centuries_94 : decode cX0_centuries 94 = .ok (.iload 6, 2) := dk_21 6 (dk_at dksX0_centuries_4 0 rfl rfl)
theorem dX0_centuries_96 : decode cX0_centuries 96 = .ok (.lload_n 3, 1) := dk_33 (dk_at dksX0_centuries_4 2 rfl rfl)
theorem dX0_centuries_97 : decode cX0_centuries 97 = .ok (.ldc2_w 333, 3) := dk_20 1 77 (dk_at dksX0_centuries_4 3 rfl rfl)
theorem dX0_centuries_100 : decode cX0_centuries 100 = .ok (.ldiv, 1) := dk_109 (dk_at dksX0_centuries_4 6 rfl rfl)
theorem dX0_centuries_101 : decode cX0_centuries 101 = .ok (.ldc2_w 335, 3) := dk_20 1 79 (dk_at dksX0_centuries_4 7 rfl rfl)
theorem dX0_centuries_104 : decode cX0_centuries 104 = .ok (.lrem, 1) := dk_113 (dk_at dksX0_centuries_4 10 rfl rfl)
theorem dX0_centuries_105 : decode cX0_centuries 105 = .ok (.l2i, 1) := dk_136 (dk_at dksX0_centuries_4 11 rfl rfl)
theorem dX0_centuries_106 : decode cX0_centuries 106 = .ok (.invokevirtual 337, 3) := dk_182 1 81 (dk_at dksX0_centuries_4 12 rfl rfl)
theorem dX0_centuries_109 : decode cX0_centuries 109 = .ok (.iinc 5 1, 3) := dk_132 5 1 (dk_at dksX0_centuries_4 15 rfl rfl)
theorem dX0_centuries_112 : decode cX0_centuries 112 = .ok (.goto (-63), 3) := dk_167 255 193 (dk_at dksX0_centuries_4 18 rfl rfl)
theorem dX0_centuries_115 : decode cX0_centuries 115 = .ok (.aload_n 0, 1) := dk_42 (dk_at dksX0_centuries_4 21 rfl rfl)
theorem dX0_centuries_116 : decode cX0_centuries 116 = .ok (.getfield 10, 3) := dk_180 0 10 (dk_at dksX0_centuries_5 0 rfl rfl)
theorem dX0_centuries_119 : decode cX0_centuries 119 = .ok (.aload_n 0, 1) := dk_42 (dk_at dksX0_centuries_5 3 rfl rfl)
theorem dX0_centuries_120 : decode cX0_centuries 120 = .ok (.getfield 10, 3) := dk_180 0 10 (dk_at dksX0_centuries_5 4 rfl rfl)
theorem dX0_centuries_123 : decode cX0_centuries 123 = .ok (.aload_n 0, 1) := dk_42 (dk_at dksX0_centuries_5 7 rfl rfl)
theorem dX0_centuries_124 : decode cX0_centuries 124 = .ok (.getfield 26, 3) := dk_180 0 26 (dk_at dksX0_centuries_5 8 rfl rfl)
theorem dX0_centuries_127 : decode cX0_centuries 127 = .ok (.iconst (-1), 1) := dk_2 (dk_at dksX0_centuries_5 11 rfl rfl)
theorem dX0_centuries_128 : decode cX0_centuries 128 = .ok (.invokevirtual 94, 3) := dk_182 0 94 (dk_at dksX0_centuries_5 12 rfl rfl)
theorem dX0_centuries_131 : decode cX0_centuries 131 = .ok (.invokevirtual 204, 3) := dk_182 0 204 (dk_at dksX0_centuries_5 15 rfl rfl)
theorem dX0_centuries_134 : decode cX0_centuries 134 = .ok (.ireturn, 1) := dk_172 (dk_at dksX0_centuries_5 18 rfl rfl)
abbrev cX0_turns : ByteArray := prog_1_method_55_code
def yX0_turns : MethodName := ⟨RX0, "turns", "(II)V"⟩
def dkwX0_turns_2 : List UInt8 := [180, 0, 26, 180, 0, 155, 28, 46, 2, 160, 0, 13, 42, 180, 0, 26, 180, 0, 155, 28, 27, 79, 177]
abbrev dktX0_turns_2 : List UInt8 := dkwX0_turns_2 ++ []
def dkwX0_turns_1 : List UInt8 := [180, 0, 10, 42, 180, 0, 26, 27, 182, 0, 149, 87, 28, 42, 180, 0, 10, 180, 0, 88, 162, 0, 26, 42]
abbrev dktX0_turns_1 : List UInt8 := dkwX0_turns_1 ++ dktX0_turns_2
def dkwX0_turns_0 : List UInt8 := [28, 16, 8, 161, 0, 31, 42, 180, 0, 10, 42, 180, 0, 26, 27, 182, 0, 94, 153, 0, 16, 42]
abbrev dktX0_turns_0 : List UInt8 := dkwX0_turns_0 ++ dktX0_turns_1
theorem dksX0_turns_0 : cX0_turns.data.toList.drop 0 = dktX0_turns_0 := by decide +kernel
theorem dksX0_turns_1 : cX0_turns.data.toList.drop 22 = dktX0_turns_1 := dk_seg dksX0_turns_0 22 rfl rfl
theorem dksX0_turns_2 : cX0_turns.data.toList.drop 46 = dktX0_turns_2 := dk_seg dksX0_turns_1 24 rfl rfl
theorem dX0_turns_0 : decode cX0_turns 0 = .ok (.iload_n 2, 1) := dk_28 (dk_at dksX0_turns_0 0 rfl rfl)
theorem dX0_turns_1 : decode cX0_turns 1 = .ok (.bipush 8, 2) := dk_16 8 (dk_at dksX0_turns_0 1 rfl rfl)
theorem dX0_turns_3 : decode cX0_turns 3 = .ok (.if_icmp .lt 31, 3) := dk_161 0 31 (dk_at dksX0_turns_0 3 rfl rfl)
theorem dX0_turns_6 : decode cX0_turns 6 = .ok (.aload_n 0, 1) := dk_42 (dk_at dksX0_turns_0 6 rfl rfl)
theorem dX0_turns_7 : decode cX0_turns 7 = .ok (.getfield 10, 3) := dk_180 0 10 (dk_at dksX0_turns_0 7 rfl rfl)
theorem dX0_turns_10 : decode cX0_turns 10 = .ok (.aload_n 0, 1) := dk_42 (dk_at dksX0_turns_0 10 rfl rfl)
theorem dX0_turns_11 : decode cX0_turns 11 = .ok (.getfield 26, 3) := dk_180 0 26 (dk_at dksX0_turns_0 11 rfl rfl)
theorem dX0_turns_14 : decode cX0_turns 14 = .ok (.iload_n 1, 1) := dk_27 (dk_at dksX0_turns_0 14 rfl rfl)
theorem dX0_turns_15 : decode cX0_turns 15 = .ok (.invokevirtual 94, 3) := dk_182 0 94 (dk_at dksX0_turns_0 15 rfl rfl)
theorem dX0_turns_18 : decode cX0_turns 18 = .ok (.ifCond .eq 16, 3) := dk_153 0 16 (dk_at dksX0_turns_0 18 rfl rfl)
theorem dX0_turns_21 : decode cX0_turns 21 = .ok (.aload_n 0, 1) := dk_42 (dk_at dksX0_turns_0 21 rfl rfl)
theorem dX0_turns_22 : decode cX0_turns 22 = .ok (.getfield 10, 3) := dk_180 0 10 (dk_at dksX0_turns_1 0 rfl rfl)
theorem dX0_turns_25 : decode cX0_turns 25 = .ok (.aload_n 0, 1) := dk_42 (dk_at dksX0_turns_1 3 rfl rfl)
theorem dX0_turns_26 : decode cX0_turns 26 = .ok (.getfield 26, 3) := dk_180 0 26 (dk_at dksX0_turns_1 4 rfl rfl)
theorem dX0_turns_29 : decode cX0_turns 29 = .ok (.iload_n 1, 1) := dk_27 (dk_at dksX0_turns_1 7 rfl rfl)
theorem dX0_turns_30 : decode cX0_turns 30 = .ok (.invokevirtual 149, 3) := dk_182 0 149 (dk_at dksX0_turns_1 8 rfl rfl)
theorem dX0_turns_33 : decode cX0_turns 33 = .ok (.pop, 1) := dk_87 (dk_at dksX0_turns_1 11 rfl rfl)
theorem dX0_turns_34 : decode cX0_turns 34 = .ok (.iload_n 2, 1) := dk_28 (dk_at dksX0_turns_1 12 rfl rfl)
theorem dX0_turns_35 : decode cX0_turns 35 = .ok (.aload_n 0, 1) := dk_42 (dk_at dksX0_turns_1 13 rfl rfl)
theorem dX0_turns_36 : decode cX0_turns 36 = .ok (.getfield 10, 3) := dk_180 0 10 (dk_at dksX0_turns_1 14 rfl rfl)
theorem dX0_turns_39 : decode cX0_turns 39 = .ok (.getfield 88, 3) := dk_180 0 88 (dk_at dksX0_turns_1 17 rfl rfl)
theorem dX0_turns_42 : decode cX0_turns 42 = .ok (.if_icmp .ge 26, 3) := dk_162 0 26 (dk_at dksX0_turns_1 20 rfl rfl)
theorem dX0_turns_45 : decode cX0_turns 45 = .ok (.aload_n 0, 1) := dk_42 (dk_at dksX0_turns_1 23 rfl rfl)
theorem dX0_turns_46 : decode cX0_turns 46 = .ok (.getfield 26, 3) := dk_180 0 26 (dk_at dksX0_turns_2 0 rfl rfl)
theorem dX0_turns_49 : decode cX0_turns 49 = .ok (.getfield 155, 3) := dk_180 0 155 (dk_at dksX0_turns_2 3 rfl rfl)
theorem dX0_turns_52 : decode cX0_turns 52 = .ok (.iload_n 2, 1) := dk_28 (dk_at dksX0_turns_2 6 rfl rfl)
theorem dX0_turns_53 : decode cX0_turns 53 = .ok (.iaload, 1) := dk_46 (dk_at dksX0_turns_2 7 rfl rfl)
theorem dX0_turns_54 : decode cX0_turns 54 = .ok (.iconst (-1), 1) := dk_2 (dk_at dksX0_turns_2 8 rfl rfl)
theorem dX0_turns_55 : decode cX0_turns 55 = .ok (.if_icmp .ne 13, 3) := dk_160 0 13 (dk_at dksX0_turns_2 9 rfl rfl)
theorem dX0_turns_58 : decode cX0_turns 58 = .ok (.aload_n 0, 1) := dk_42 (dk_at dksX0_turns_2 12 rfl rfl)
theorem dX0_turns_59 : decode cX0_turns 59 = .ok (.getfield 26, 3) := dk_180 0 26 (dk_at dksX0_turns_2 13 rfl rfl)
theorem dX0_turns_62 : decode cX0_turns 62 = .ok (.getfield 155, 3) := dk_180 0 155 (dk_at dksX0_turns_2 16 rfl rfl)
theorem dX0_turns_65 : decode cX0_turns 65 = .ok (.iload_n 2, 1) := dk_28 (dk_at dksX0_turns_2 19 rfl rfl)
theorem dX0_turns_66 : decode cX0_turns 66 = .ok (.iload_n 1, 1) := dk_27 (dk_at dksX0_turns_2 20 rfl rfl)
theorem dX0_turns_67 : decode cX0_turns 67 = .ok (.iastore, 1) := dk_79 (dk_at dksX0_turns_2 21 rfl rfl)
theorem dX0_turns_68 : decode cX0_turns 68 = .ok (.return_, 1) := dk_177 (dk_at dksX0_turns_2 22 rfl rfl)
abbrev cX0_part : ByteArray := prog_1_method_57_code
def yX0_part : MethodName := ⟨RX0, "part", "(I)J"⟩
def dkwX0_part_1 : List UInt8 := [182, 0, 102, 133, 173]
abbrev dktX0_part_1 : List UInt8 := dkwX0_part_1 ++ []
def dkwX0_part_0 : List UInt8 := [27, 154, 0, 10, 42, 180, 1, 60, 167, 0, 20, 27, 4, 160, 0, 10, 42, 180, 0, 38, 167, 0, 8, 42]
abbrev dktX0_part_0 : List UInt8 := dkwX0_part_0 ++ dktX0_part_1
theorem dksX0_part_0 : cX0_part.data.toList.drop 0 = dktX0_part_0 := by decide +kernel
theorem dksX0_part_1 : cX0_part.data.toList.drop 24 = dktX0_part_1 := dk_seg dksX0_part_0 24 rfl rfl
theorem dX0_part_0 : decode cX0_part 0 = .ok (.iload_n 1, 1) := dk_27 (dk_at dksX0_part_0 0 rfl rfl)
theorem dX0_part_1 : decode cX0_part 1 = .ok (.ifCond .ne 10, 3) := dk_154 0 10 (dk_at dksX0_part_0 1 rfl rfl)
theorem dX0_part_4 : decode cX0_part 4 = .ok (.aload_n 0, 1) := dk_42 (dk_at dksX0_part_0 4 rfl rfl)
theorem dX0_part_5 : decode cX0_part 5 = .ok (.getfield 316, 3) := dk_180 1 60 (dk_at dksX0_part_0 5 rfl rfl)
theorem dX0_part_8 : decode cX0_part 8 = .ok (.goto 20, 3) := dk_167 0 20 (dk_at dksX0_part_0 8 rfl rfl)
theorem dX0_part_11 : decode cX0_part 11 = .ok (.iload_n 1, 1) := dk_27 (dk_at dksX0_part_0 11 rfl rfl)
theorem dX0_part_12 : decode cX0_part 12 = .ok (.iconst 1, 1) := dk_4 (dk_at dksX0_part_0 12 rfl rfl)
theorem dX0_part_13 : decode cX0_part 13 = .ok (.if_icmp .ne 10, 3) := dk_160 0 10 (dk_at dksX0_part_0 13 rfl rfl)
theorem dX0_part_16 : decode cX0_part 16 = .ok (.aload_n 0, 1) := dk_42 (dk_at dksX0_part_0 16 rfl rfl)
theorem dX0_part_17 : decode cX0_part 17 = .ok (.getfield 38, 3) := dk_180 0 38 (dk_at dksX0_part_0 17 rfl rfl)
theorem dX0_part_20 : decode cX0_part 20 = .ok (.goto 8, 3) := dk_167 0 8 (dk_at dksX0_part_0 20 rfl rfl)
theorem dX0_part_23 : decode cX0_part 23 = .ok (.aload_n 0, 1) := dk_42 (dk_at dksX0_part_0 23 rfl rfl)
theorem dX0_part_24 : decode cX0_part 24 = .ok (.invokevirtual 102, 3) := dk_182 0 102 (dk_at dksX0_part_1 0 rfl rfl)
theorem dX0_part_27 : decode cX0_part 27 = .ok (.i2l, 1) := dk_133 (dk_at dksX0_part_1 3 rfl rfl)
theorem dX0_part_28 : decode cX0_part 28 = .ok (.lreturn, 1) := dk_173 (dk_at dksX0_part_1 4 rfl rfl)
abbrev cX0_image : ByteArray := prog_1_method_58_code
def yX0_image : MethodName := ⟨RX0, "image", "(I)I"⟩
def dkwX0_image_2 : List UInt8 := [182, 0, 131, 4, 172]
abbrev dktX0_image_2 : List UInt8 := dkwX0_image_2 ++ []
def dkwX0_image_1 : List UInt8 := [42, 180, 0, 19, 27, 187, 0, 7, 89, 183, 0, 9, 83, 42, 180, 0, 19, 27, 50, 42, 180, 0, 10]
abbrev dktX0_image_1 : List UInt8 := dkwX0_image_1 ++ dktX0_image_2
def dkwX0_image_0 : List UInt8 := [27, 133, 9, 10, 184, 0, 74, 154, 0, 8, 42, 182, 0, 102, 172, 42, 180, 0, 19, 27, 50, 199, 0, 16]
abbrev dktX0_image_0 : List UInt8 := dkwX0_image_0 ++ dktX0_image_1
theorem dksX0_image_0 : cX0_image.data.toList.drop 0 = dktX0_image_0 := by decide +kernel
theorem dksX0_image_1 : cX0_image.data.toList.drop 24 = dktX0_image_1 := dk_seg dksX0_image_0 24 rfl rfl
theorem dksX0_image_2 : cX0_image.data.toList.drop 47 = dktX0_image_2 := dk_seg dksX0_image_1 23 rfl rfl
theorem dX0_image_0 : decode cX0_image 0 = .ok (.iload_n 1, 1) := dk_27 (dk_at dksX0_image_0 0 rfl rfl)
theorem dX0_image_1 : decode cX0_image 1 = .ok (.i2l, 1) := dk_133 (dk_at dksX0_image_0 1 rfl rfl)
theorem dX0_image_2 : decode cX0_image 2 = .ok (.lconst 0, 1) := dk_9 (dk_at dksX0_image_0 2 rfl rfl)
theorem dX0_image_3 : decode cX0_image 3 = .ok (.lconst 1, 1) := dk_10 (dk_at dksX0_image_0 3 rfl rfl)
theorem dX0_image_4 : decode cX0_image 4 = .ok (.invokestatic 74, 3) := dk_184 0 74 (dk_at dksX0_image_0 4 rfl rfl)
theorem dX0_image_7 : decode cX0_image 7 = .ok (.ifCond .ne 8, 3) := dk_154 0 8 (dk_at dksX0_image_0 7 rfl rfl)
theorem dX0_image_10 : decode cX0_image 10 = .ok (.aload_n 0, 1) := dk_42 (dk_at dksX0_image_0 10 rfl rfl)
theorem dX0_image_11 : decode cX0_image 11 = .ok (.invokevirtual 102, 3) := dk_182 0 102 (dk_at dksX0_image_0 11 rfl rfl)
theorem dX0_image_14 : decode cX0_image 14 = .ok (.ireturn, 1) := dk_172 (dk_at dksX0_image_0 14 rfl rfl)
theorem dX0_image_15 : decode cX0_image 15 = .ok (.aload_n 0, 1) := dk_42 (dk_at dksX0_image_0 15 rfl rfl)
theorem dX0_image_16 : decode cX0_image 16 = .ok (.getfield 19, 3) := dk_180 0 19 (dk_at dksX0_image_0 16 rfl rfl)
theorem dX0_image_19 : decode cX0_image 19 = .ok (.iload_n 1, 1) := dk_27 (dk_at dksX0_image_0 19 rfl rfl)
theorem dX0_image_20 : decode cX0_image 20 = .ok (.aaload, 1) := dk_50 (dk_at dksX0_image_0 20 rfl rfl)
theorem dX0_image_21 : decode cX0_image 21 = .ok (.ifnonnull 16, 3) := dk_199 0 16 (dk_at dksX0_image_0 21 rfl rfl)
theorem dX0_image_24 : decode cX0_image 24 = .ok (.aload_n 0, 1) := dk_42 (dk_at dksX0_image_1 0 rfl rfl)
theorem dX0_image_25 : decode cX0_image 25 = .ok (.getfield 19, 3) := dk_180 0 19 (dk_at dksX0_image_1 1 rfl rfl)
theorem dX0_image_28 : decode cX0_image 28 = .ok (.iload_n 1, 1) := dk_27 (dk_at dksX0_image_1 4 rfl rfl)
theorem dX0_image_29 : decode cX0_image 29 = .ok (.new 7, 3) := dk_187 0 7 (dk_at dksX0_image_1 5 rfl rfl)
theorem dX0_image_32 : decode cX0_image 32 = .ok (.dup, 1) := dk_89 (dk_at dksX0_image_1 8 rfl rfl)
theorem dX0_image_33 : decode cX0_image 33 = .ok (.invokespecial 9, 3) := dk_183 0 9 (dk_at dksX0_image_1 9 rfl rfl)
theorem dX0_image_36 : decode cX0_image 36 = .ok (.aastore, 1) := dk_83 (dk_at dksX0_image_1 12 rfl rfl)
theorem dX0_image_37 : decode cX0_image 37 = .ok (.aload_n 0, 1) := dk_42 (dk_at dksX0_image_1 13 rfl rfl)
theorem dX0_image_38 : decode cX0_image 38 = .ok (.getfield 19, 3) := dk_180 0 19 (dk_at dksX0_image_1 14 rfl rfl)
theorem dX0_image_41 : decode cX0_image 41 = .ok (.iload_n 1, 1) := dk_27 (dk_at dksX0_image_1 17 rfl rfl)
theorem dX0_image_42 : decode cX0_image 42 = .ok (.aaload, 1) := dk_50 (dk_at dksX0_image_1 18 rfl rfl)
theorem dX0_image_43 : decode cX0_image 43 = .ok (.aload_n 0, 1) := dk_42 (dk_at dksX0_image_1 19 rfl rfl)
theorem dX0_image_44 : decode cX0_image 44 = .ok (.getfield 10, 3) := dk_180 0 10 (dk_at dksX0_image_1 20 rfl rfl)
theorem dX0_image_47 : decode cX0_image 47 = .ok (.invokevirtual 131, 3) := dk_182 0 131 (dk_at dksX0_image_2 0 rfl rfl)
theorem dX0_image_50 : decode cX0_image 50 = .ok (.iconst 1, 1) := dk_4 (dk_at dksX0_image_2 3 rfl rfl)
theorem dX0_image_51 : decode cX0_image 51 = .ok (.ireturn, 1) := dk_172 (dk_at dksX0_image_2 4 rfl rfl)
abbrev cX0_from : ByteArray := prog_1_method_59_code
def yX0_from : MethodName := ⟨RX0, "from", "(I)I"⟩
def dkwX0_from_1 : List UInt8 := [42, 182, 0, 143, 172, 42, 180, 0, 10, 42, 180, 0, 19, 27, 50, 182, 0, 131, 4, 172]
abbrev dktX0_from_1 : List UInt8 := dkwX0_from_1 ++ []
def dkwX0_from_0 : List UInt8 := [27, 133, 9, 10, 184, 0, 74, 154, 0, 8, 42, 182, 0, 102, 172, 42, 180, 0, 19, 27, 50, 199, 0, 8]
abbrev dktX0_from_0 : List UInt8 := dkwX0_from_0 ++ dktX0_from_1
theorem dksX0_from_0 : cX0_from.data.toList.drop 0 = dktX0_from_0 := by decide +kernel
theorem dksX0_from_1 : cX0_from.data.toList.drop 24 = dktX0_from_1 := dk_seg dksX0_from_0 24 rfl rfl
theorem dX0_from_0 : decode cX0_from 0 = .ok (.iload_n 1, 1) := dk_27 (dk_at dksX0_from_0 0 rfl rfl)
theorem dX0_from_1 : decode cX0_from 1 = .ok (.i2l, 1) := dk_133 (dk_at dksX0_from_0 1 rfl rfl)
theorem dX0_from_2 : decode cX0_from 2 = .ok (.lconst 0, 1) := dk_9 (dk_at dksX0_from_0 2 rfl rfl)
theorem dX0_from_3 : decode cX0_from 3 = .ok (.lconst 1, 1) := dk_10 (dk_at dksX0_from_0 3 rfl rfl)
theorem dX0_from_4 : decode cX0_from 4 = .ok (.invokestatic 74, 3) := dk_184 0 74 (dk_at dksX0_from_0 4 rfl rfl)
theorem dX0_from_7 : decode cX0_from 7 = .ok (.ifCond .ne 8, 3) := dk_154 0 8 (dk_at dksX0_from_0 7 rfl rfl)
theorem dX0_from_10 : decode cX0_from 10 = .ok (.aload_n 0, 1) := dk_42 (dk_at dksX0_from_0 10 rfl rfl)
theorem dX0_from_11 : decode cX0_from 11 = .ok (.invokevirtual 102, 3) := dk_182 0 102 (dk_at dksX0_from_0 11 rfl rfl)
theorem dX0_from_14 : decode cX0_from 14 = .ok (.ireturn, 1) := dk_172 (dk_at dksX0_from_0 14 rfl rfl)
theorem dX0_from_15 : decode cX0_from 15 = .ok (.aload_n 0, 1) := dk_42 (dk_at dksX0_from_0 15 rfl rfl)
theorem dX0_from_16 : decode cX0_from 16 = .ok (.getfield 19, 3) := dk_180 0 19 (dk_at dksX0_from_0 16 rfl rfl)
theorem dX0_from_19 : decode cX0_from 19 = .ok (.iload_n 1, 1) := dk_27 (dk_at dksX0_from_0 19 rfl rfl)
theorem dX0_from_20 : decode cX0_from 20 = .ok (.aaload, 1) := dk_50 (dk_at dksX0_from_0 20 rfl rfl)
theorem dX0_from_21 : decode cX0_from 21 = .ok (.ifnonnull 8, 3) := dk_199 0 8 (dk_at dksX0_from_0 21 rfl rfl)
theorem dX0_from_24 : decode cX0_from 24 = .ok (.aload_n 0, 1) := dk_42 (dk_at dksX0_from_1 0 rfl rfl)
theorem dX0_from_25 : decode cX0_from 25 = .ok (.invokevirtual 143, 3) := dk_182 0 143 (dk_at dksX0_from_1 1 rfl rfl)
theorem dX0_from_28 : decode cX0_from 28 = .ok (.ireturn, 1) := dk_172 (dk_at dksX0_from_1 4 rfl rfl)
theorem dX0_from_29 : decode cX0_from 29 = .ok (.aload_n 0, 1) := dk_42 (dk_at dksX0_from_1 5 rfl rfl)
theorem dX0_from_30 : decode cX0_from 30 = .ok (.getfield 10, 3) := dk_180 0 10 (dk_at dksX0_from_1 6 rfl rfl)
theorem dX0_from_33 : decode cX0_from 33 = .ok (.aload_n 0, 1) := dk_42 (dk_at dksX0_from_1 9 rfl rfl)
theorem dX0_from_34 : decode cX0_from 34 = .ok (.getfield 19, 3) := dk_180 0 19 (dk_at dksX0_from_1 10 rfl rfl)
theorem dX0_from_37 : decode cX0_from 37 = .ok (.iload_n 1, 1) := dk_27 (dk_at dksX0_from_1 13 rfl rfl)
theorem dX0_from_38 : decode cX0_from 38 = .ok (.aaload, 1) := dk_50 (dk_at dksX0_from_1 14 rfl rfl)
theorem dX0_from_39 : decode cX0_from 39 = .ok (.invokevirtual 131, 3) := dk_182 0 131 (dk_at dksX0_from_1 15 rfl rfl)
theorem dX0_from_42 : decode cX0_from 42 = .ok (.iconst 1, 1) := dk_4 (dk_at dksX0_from_1 18 rfl rfl)
theorem dX0_from_43 : decode cX0_from 43 = .ok (.ireturn, 1) := dk_172 (dk_at dksX0_from_1 19 rfl rfl)
abbrev cX0_status : ByteArray := prog_1_method_60_code
def yX0_status : MethodName := ⟨RX0, "status", "(I)I"⟩
def dkwX0_status_1 : List UInt8 := [182, 0, 68, 172]
abbrev dktX0_status_1 : List UInt8 := dkwX0_status_1 ++ []
def dkwX0_status_0 : List UInt8 := [27, 133, 9, 20, 0, 252, 184, 0, 74, 153, 0, 12, 42, 180, 0, 34, 27, 46, 167, 0, 9, 42, 3, 2]
abbrev dktX0_status_0 : List UInt8 := dkwX0_status_0 ++ dktX0_status_1
theorem dksX0_status_0 : cX0_status.data.toList.drop 0 = dktX0_status_0 := by decide +kernel
theorem dksX0_status_1 : cX0_status.data.toList.drop 24 = dktX0_status_1 := dk_seg dksX0_status_0 24 rfl rfl
theorem dX0_status_0 : decode cX0_status 0 = .ok (.iload_n 1, 1) := dk_27 (dk_at dksX0_status_0 0 rfl rfl)
theorem dX0_status_1 : decode cX0_status 1 = .ok (.i2l, 1) := dk_133 (dk_at dksX0_status_0 1 rfl rfl)
theorem dX0_status_2 : decode cX0_status 2 = .ok (.lconst 0, 1) := dk_9 (dk_at dksX0_status_0 2 rfl rfl)
theorem dX0_status_3 : decode cX0_status 3 = .ok (.ldc2_w 252, 3) := dk_20 0 252 (dk_at dksX0_status_0 3 rfl rfl)
theorem dX0_status_6 : decode cX0_status 6 = .ok (.invokestatic 74, 3) := dk_184 0 74 (dk_at dksX0_status_0 6 rfl rfl)
theorem dX0_status_9 : decode cX0_status 9 = .ok (.ifCond .eq 12, 3) := dk_153 0 12 (dk_at dksX0_status_0 9 rfl rfl)
theorem dX0_status_12 : decode cX0_status 12 = .ok (.aload_n 0, 1) := dk_42 (dk_at dksX0_status_0 12 rfl rfl)
theorem dX0_status_13 : decode cX0_status 13 = .ok (.getfield 34, 3) := dk_180 0 34 (dk_at dksX0_status_0 13 rfl rfl)
theorem dX0_status_16 : decode cX0_status 16 = .ok (.iload_n 1, 1) := dk_27 (dk_at dksX0_status_0 16 rfl rfl)
theorem dX0_status_17 : decode cX0_status 17 = .ok (.iaload, 1) := dk_46 (dk_at dksX0_status_0 17 rfl rfl)
theorem dX0_status_18 : decode cX0_status 18 = .ok (.goto 9, 3) := dk_167 0 9 (dk_at dksX0_status_0 18 rfl rfl)
theorem dX0_status_21 : decode cX0_status 21 = .ok (.aload_n 0, 1) := dk_42 (dk_at dksX0_status_0 21 rfl rfl)
theorem dX0_status_22 : decode cX0_status 22 = .ok (.iconst 0, 1) := dk_3 (dk_at dksX0_status_0 22 rfl rfl)
theorem dX0_status_23 : decode cX0_status 23 = .ok (.iconst (-1), 1) := dk_2 (dk_at dksX0_status_0 23 rfl rfl)
theorem dX0_status_24 : decode cX0_status 24 = .ok (.invokevirtual 68, 3) := dk_182 0 68 (dk_at dksX0_status_1 0 rfl rfl)
theorem dX0_status_27 : decode cX0_status 27 = .ok (.ireturn, 1) := dk_172 (dk_at dksX0_status_1 3 rfl rfl)
abbrev cX0_count : ByteArray := prog_1_method_63_code
def yX0_count : MethodName := ⟨RX0, "count", "(I)I"⟩
def dkwX0_count_1 : List UInt8 := [172]
abbrev dktX0_count_1 : List UInt8 := dkwX0_count_1 ++ []
def dkwX0_count_0 : List UInt8 := [27, 133, 9, 20, 0, 78, 184, 0, 74, 153, 0, 11, 42, 27, 182, 1, 88, 167, 0, 7, 42, 182, 0, 102]
abbrev dktX0_count_0 : List UInt8 := dkwX0_count_0 ++ dktX0_count_1
theorem dksX0_count_0 : cX0_count.data.toList.drop 0 = dktX0_count_0 := by decide +kernel
theorem dksX0_count_1 : cX0_count.data.toList.drop 24 = dktX0_count_1 := dk_seg dksX0_count_0 24 rfl rfl
theorem dX0_count_0 : decode cX0_count 0 = .ok (.iload_n 1, 1) := dk_27 (dk_at dksX0_count_0 0 rfl rfl)
theorem dX0_count_1 : decode cX0_count 1 = .ok (.i2l, 1) := dk_133 (dk_at dksX0_count_0 1 rfl rfl)
theorem dX0_count_2 : decode cX0_count 2 = .ok (.lconst 0, 1) := dk_9 (dk_at dksX0_count_0 2 rfl rfl)
theorem dX0_count_3 : decode cX0_count 3 = .ok (.ldc2_w 78, 3) := dk_20 0 78 (dk_at dksX0_count_0 3 rfl rfl)
theorem dX0_count_6 : decode cX0_count 6 = .ok (.invokestatic 74, 3) := dk_184 0 74 (dk_at dksX0_count_0 6 rfl rfl)
theorem dX0_count_9 : decode cX0_count 9 = .ok (.ifCond .eq 11, 3) := dk_153 0 11 (dk_at dksX0_count_0 9 rfl rfl)
theorem dX0_count_12 : decode cX0_count 12 = .ok (.aload_n 0, 1) := dk_42 (dk_at dksX0_count_0 12 rfl rfl)
theorem dX0_count_13 : decode cX0_count 13 = .ok (.iload_n 1, 1) := dk_27 (dk_at dksX0_count_0 13 rfl rfl)
theorem dX0_count_14 : decode cX0_count 14 = .ok (.invokevirtual 344, 3) := dk_182 1 88 (dk_at dksX0_count_0 14 rfl rfl)
theorem dX0_count_17 : decode cX0_count 17 = .ok (.goto 7, 3) := dk_167 0 7 (dk_at dksX0_count_0 17 rfl rfl)
theorem dX0_count_20 : decode cX0_count 20 = .ok (.aload_n 0, 1) := dk_42 (dk_at dksX0_count_0 20 rfl rfl)
theorem dX0_count_21 : decode cX0_count 21 = .ok (.invokevirtual 102, 3) := dk_182 0 102 (dk_at dksX0_count_0 21 rfl rfl)
theorem dX0_count_24 : decode cX0_count 24 = .ok (.ireturn, 1) := dk_172 (dk_at dksX0_count_1 0 rfl rfl)
abbrev cX0_countOf : ByteArray := prog_1_method_62_code
def yX0_countOf : MethodName := ⟨RX0, "countOf", "(I)I"⟩
def dkwX0_countOf_5 : List UInt8 := [172, 42, 180, 0, 125, 172]
abbrev dktX0_countOf_5 : List UInt8 := dkwX0_countOf_5 ++ []
def dkwX0_countOf_4 : List UInt8 := [172, 42, 180, 0, 10, 180, 1, 17, 172, 42, 180, 0, 10, 180, 1, 25, 172, 42, 180, 0, 10, 180, 0, 164]
abbrev dktX0_countOf_4 : List UInt8 := dkwX0_countOf_4 ++ dktX0_countOf_5
def dkwX0_countOf_3 : List UInt8 := [42, 180, 0, 10, 42, 182, 0, 174, 182, 0, 204, 172, 42, 182, 1, 85, 172, 42, 180, 0, 10, 180, 0, 246]
abbrev dktX0_countOf_3 : List UInt8 := dkwX0_countOf_3 ++ dktX0_countOf_4
def dkwX0_countOf_2 : List UInt8 := [42, 180, 0, 10, 180, 0, 88, 172, 42, 180, 0, 10, 180, 0, 84, 172, 42, 182, 0, 174, 184, 0, 158, 172]
abbrev dktX0_countOf_2 : List UInt8 := dkwX0_countOf_2 ++ dktX0_countOf_3
def dkwX0_countOf_1 : List UInt8 := [170, 0, 0, 0, 0, 0, 124, 0, 0, 0, 0, 0, 0, 0, 8, 0, 0, 0, 51, 0, 0, 0, 59, 0, 0, 0, 67, 0, 0, 0, 75, 0, 0, 0, 87, 0, 0, 0, 92, 0, 0, 0, 100, 0, 0, 0, 108, 0, 0, 0, 116]
abbrev dktX0_countOf_1 : List UInt8 := dkwX0_countOf_1 ++ dktX0_countOf_2
def dkwX0_countOf_0 : List UInt8 := [27]
abbrev dktX0_countOf_0 : List UInt8 := dkwX0_countOf_0 ++ dktX0_countOf_1
theorem dksX0_countOf_0 : cX0_countOf.data.toList.drop 0 = dktX0_countOf_0 := by decide +kernel
theorem dksX0_countOf_1 : cX0_countOf.data.toList.drop 1 = dktX0_countOf_1 := dk_seg dksX0_countOf_0 1 rfl rfl
theorem dksX0_countOf_2 : cX0_countOf.data.toList.drop 52 = dktX0_countOf_2 := dk_seg dksX0_countOf_1 51 rfl rfl
theorem dksX0_countOf_3 : cX0_countOf.data.toList.drop 76 = dktX0_countOf_3 := dk_seg dksX0_countOf_2 24 rfl rfl
theorem dksX0_countOf_4 : cX0_countOf.data.toList.drop 100 = dktX0_countOf_4 := dk_seg dksX0_countOf_3 24 rfl rfl
theorem dksX0_countOf_5 : cX0_countOf.data.toList.drop 124 = dktX0_countOf_5 := dk_seg dksX0_countOf_4 24 rfl rfl
theorem dX0_countOf_0 : decode cX0_countOf 0 = .ok (.iload_n 1, 1) := dk_27 (dk_at dksX0_countOf_0 0 rfl rfl)
theorem dX0_countOf_1 : decode cX0_countOf 1 = .ok (.tableswitch 124 0 8 #[51, 59, 67, 75, 87, 92, 100, 108, 116], 51) := by decide +kernel
theorem dX0_countOf_52 : decode cX0_countOf 52 = .ok (.aload_n 0, 1) := dk_42 (dk_at dksX0_countOf_2 0 rfl rfl)
theorem dX0_countOf_53 : decode cX0_countOf 53 = .ok (.getfield 10, 3) := dk_180 0 10 (dk_at dksX0_countOf_2 1 rfl rfl)
theorem dX0_countOf_56 : decode cX0_countOf 56 = .ok (.getfield 88, 3) := dk_180 0 88 (dk_at dksX0_countOf_2 4 rfl rfl)
theorem dX0_countOf_59 : decode cX0_countOf 59 = .ok (.ireturn, 1) := dk_172 (dk_at dksX0_countOf_2 7 rfl rfl)
theorem dX0_countOf_60 : decode cX0_countOf 60 = .ok (.aload_n 0, 1) := dk_42 (dk_at dksX0_countOf_2 8 rfl rfl)
theorem dX0_countOf_61 : decode cX0_countOf 61 = .ok (.getfield 10, 3) := dk_180 0 10 (dk_at dksX0_countOf_2 9 rfl rfl)
theorem dX0_countOf_64 : decode cX0_countOf 64 = .ok (.getfield 84, 3) := dk_180 0 84 (dk_at dksX0_countOf_2 12 rfl rfl)
theorem dX0_countOf_67 : decode cX0_countOf 67 = .ok (.ireturn, 1) := dk_172 (dk_at dksX0_countOf_2 15 rfl rfl)
theorem dX0_countOf_68 : decode cX0_countOf 68 = .ok (.aload_n 0, 1) := dk_42 (dk_at dksX0_countOf_2 16 rfl rfl)
theorem dX0_countOf_69 : decode cX0_countOf 69 = .ok (.invokevirtual 174, 3) := dk_182 0 174 (dk_at dksX0_countOf_2 17 rfl rfl)
theorem dX0_countOf_72 : decode cX0_countOf 72 = .ok (.invokestatic 158, 3) := dk_184 0 158 (dk_at dksX0_countOf_2 20 rfl rfl)
theorem dX0_countOf_75 : decode cX0_countOf 75 = .ok (.ireturn, 1) := dk_172 (dk_at dksX0_countOf_2 23 rfl rfl)
theorem dX0_countOf_76 : decode cX0_countOf 76 = .ok (.aload_n 0, 1) := dk_42 (dk_at dksX0_countOf_3 0 rfl rfl)
theorem dX0_countOf_77 : decode cX0_countOf 77 = .ok (.getfield 10, 3) := dk_180 0 10 (dk_at dksX0_countOf_3 1 rfl rfl)
theorem dX0_countOf_80 : decode cX0_countOf 80 = .ok (.aload_n 0, 1) := dk_42 (dk_at dksX0_countOf_3 4 rfl rfl)
theorem dX0_countOf_81 : decode cX0_countOf 81 = .ok (.invokevirtual 174, 3) := dk_182 0 174 (dk_at dksX0_countOf_3 5 rfl rfl)
theorem dX0_countOf_84 : decode cX0_countOf 84 = .ok (.invokevirtual 204, 3) := dk_182 0 204 (dk_at dksX0_countOf_3 8 rfl rfl)
theorem dX0_countOf_87 : decode cX0_countOf 87 = .ok (.ireturn, 1) := dk_172 (dk_at dksX0_countOf_3 11 rfl rfl)
theorem dX0_countOf_88 : decode cX0_countOf 88 = .ok (.aload_n 0, 1) := dk_42 (dk_at dksX0_countOf_3 12 rfl rfl)
theorem dX0_countOf_89 : decode cX0_countOf 89 = .ok (.invokevirtual 341, 3) := dk_182 1 85 (dk_at dksX0_countOf_3 13 rfl rfl)
theorem dX0_countOf_92 : decode cX0_countOf 92 = .ok (.ireturn, 1) := dk_172 (dk_at dksX0_countOf_3 16 rfl rfl)
theorem dX0_countOf_93 : decode cX0_countOf 93 = .ok (.aload_n 0, 1) := dk_42 (dk_at dksX0_countOf_3 17 rfl rfl)
theorem dX0_countOf_94 : decode cX0_countOf 94 = .ok (.getfield 10, 3) := dk_180 0 10 (dk_at dksX0_countOf_3 18 rfl rfl)
theorem dX0_countOf_97 : decode cX0_countOf 97 = .ok (.getfield 246, 3) := dk_180 0 246 (dk_at dksX0_countOf_3 21 rfl rfl)
theorem dX0_countOf_100 : decode cX0_countOf 100 = .ok (.ireturn, 1) := dk_172 (dk_at dksX0_countOf_4 0 rfl rfl)
theorem dX0_countOf_101 : decode cX0_countOf 101 = .ok (.aload_n 0, 1) := dk_42 (dk_at dksX0_countOf_4 1 rfl rfl)
theorem dX0_countOf_102 : decode cX0_countOf 102 = .ok (.getfield 10, 3) := dk_180 0 10 (dk_at dksX0_countOf_4 2 rfl rfl)
theorem dX0_countOf_105 : decode cX0_countOf 105 = .ok (.getfield 273, 3) := dk_180 1 17 (dk_at dksX0_countOf_4 5 rfl rfl)
theorem dX0_countOf_108 : decode cX0_countOf 108 = .ok (.ireturn, 1) := dk_172 (dk_at dksX0_countOf_4 8 rfl rfl)
theorem dX0_countOf_109 : decode cX0_countOf 109 = .ok (.aload_n 0, 1) := dk_42 (dk_at dksX0_countOf_4 9 rfl rfl)
theorem dX0_countOf_110 : decode cX0_countOf 110 = .ok (.getfield 10, 3) := dk_180 0 10 (dk_at dksX0_countOf_4 10 rfl rfl)
theorem dX0_countOf_113 : decode cX0_countOf 113 = .ok (.getfield 281, 3) := dk_180 1 25 (dk_at dksX0_countOf_4 13 rfl rfl)
theorem dX0_countOf_116 : decode cX0_countOf 116 = .ok (.ireturn, 1) := dk_172 (dk_at dksX0_countOf_4 16 rfl rfl)
theorem dX0_countOf_117 : decode cX0_countOf 117 = .ok (.aload_n 0, 1) := dk_42 (dk_at dksX0_countOf_4 17 rfl rfl)
theorem dX0_countOf_118 : decode cX0_countOf 118 = .ok (.getfield 10, 3) := dk_180 0 10 (dk_at dksX0_countOf_4 18 rfl rfl)
theorem dX0_countOf_121 : decode cX0_countOf 121 = .ok (.getfield 164, 3) := dk_180 0 164 (dk_at dksX0_countOf_4 21 rfl rfl)
theorem dX0_countOf_124 : decode cX0_countOf 124 = .ok (.ireturn, 1) := dk_172 (dk_at dksX0_countOf_5 0 rfl rfl)
theorem dX0_countOf_125 : decode cX0_countOf 125 = .ok (.aload_n 0, 1) := dk_42 (dk_at dksX0_countOf_5 1 rfl rfl)
theorem dX0_countOf_126 : decode cX0_countOf 126 = .ok (.getfield 125, 3) := dk_180 0 125 (dk_at dksX0_countOf_5 2 rfl rfl)
theorem dX0_countOf_129 : decode cX0_countOf 129 = .ok (.ireturn, 1) := dk_172 (dk_at dksX0_countOf_5 5 rfl rfl)
abbrev cX0_allCalls : ByteArray := prog_1_method_61_code
def yX0_allCalls : MethodName := ⟨RX0, "allCalls", "()I"⟩
def dkwX0_allCalls_1 : List UInt8 := [180, 0, 184, 28, 46, 96, 60, 132, 2, 1, 167, 255, 227, 27, 172]
abbrev dktX0_allCalls_1 : List UInt8 := dkwX0_allCalls_1 ++ []
def dkwX0_allCalls_0 : List UInt8 := [3, 60, 3, 61, 28, 42, 180, 0, 10, 180, 0, 84, 162, 0, 24, 27, 42, 180, 0, 10, 180, 0, 91]
abbrev dktX0_allCalls_0 : List UInt8 := dkwX0_allCalls_0 ++ dktX0_allCalls_1
theorem dksX0_allCalls_0 : cX0_allCalls.data.toList.drop 0 = dktX0_allCalls_0 := by decide +kernel
theorem dksX0_allCalls_1 : cX0_allCalls.data.toList.drop 23 = dktX0_allCalls_1 := dk_seg dksX0_allCalls_0 23 rfl rfl
theorem dX0_allCalls_0 : decode cX0_allCalls 0 = .ok (.iconst 0, 1) := dk_3 (dk_at dksX0_allCalls_0 0 rfl rfl)
theorem dX0_allCalls_1 : decode cX0_allCalls 1 = .ok (.istore_n 1, 1) := dk_60 (dk_at dksX0_allCalls_0 1 rfl rfl)
theorem dX0_allCalls_2 : decode cX0_allCalls 2 = .ok (.iconst 0, 1) := dk_3 (dk_at dksX0_allCalls_0 2 rfl rfl)
theorem dX0_allCalls_3 : decode cX0_allCalls 3 = .ok (.istore_n 2, 1) := dk_61 (dk_at dksX0_allCalls_0 3 rfl rfl)
theorem dX0_allCalls_4 : decode cX0_allCalls 4 = .ok (.iload_n 2, 1) := dk_28 (dk_at dksX0_allCalls_0 4 rfl rfl)
theorem dX0_allCalls_5 : decode cX0_allCalls 5 = .ok (.aload_n 0, 1) := dk_42 (dk_at dksX0_allCalls_0 5 rfl rfl)
theorem dX0_allCalls_6 : decode cX0_allCalls 6 = .ok (.getfield 10, 3) := dk_180 0 10 (dk_at dksX0_allCalls_0 6 rfl rfl)
theorem dX0_allCalls_9 : decode cX0_allCalls 9 = .ok (.getfield 84, 3) := dk_180 0 84 (dk_at dksX0_allCalls_0 9 rfl rfl)
theorem dX0_allCalls_12 : decode cX0_allCalls 12 = .ok (.if_icmp .ge 24, 3) := dk_162 0 24 (dk_at dksX0_allCalls_0 12 rfl rfl)
theorem dX0_allCalls_15 : decode cX0_allCalls 15 = .ok (.iload_n 1, 1) := dk_27 (dk_at dksX0_allCalls_0 15 rfl rfl)
theorem dX0_allCalls_16 : decode cX0_allCalls 16 = .ok (.aload_n 0, 1) := dk_42 (dk_at dksX0_allCalls_0 16 rfl rfl)
theorem dX0_allCalls_17 : decode cX0_allCalls 17 = .ok (.getfield 10, 3) := dk_180 0 10 (dk_at dksX0_allCalls_0 17 rfl rfl)
theorem dX0_allCalls_20 : decode cX0_allCalls 20 = .ok (.getfield 91, 3) := dk_180 0 91 (dk_at dksX0_allCalls_0 20 rfl rfl)
theorem dX0_allCalls_23 : decode cX0_allCalls 23 = .ok (.getfield 184, 3) := dk_180 0 184 (dk_at dksX0_allCalls_1 0 rfl rfl)
theorem dX0_allCalls_26 : decode cX0_allCalls 26 = .ok (.iload_n 2, 1) := dk_28 (dk_at dksX0_allCalls_1 3 rfl rfl)
theorem dX0_allCalls_27 : decode cX0_allCalls 27 = .ok (.iaload, 1) := dk_46 (dk_at dksX0_allCalls_1 4 rfl rfl)
theorem dX0_allCalls_28 : decode cX0_allCalls 28 = .ok (.iadd, 1) := dk_96 (dk_at dksX0_allCalls_1 5 rfl rfl)
theorem dX0_allCalls_29 : decode cX0_allCalls 29 = .ok (.istore_n 1, 1) := dk_60 (dk_at dksX0_allCalls_1 6 rfl rfl)
theorem dX0_allCalls_30 : decode cX0_allCalls 30 = .ok (.iinc 2 1, 3) := dk_132 2 1 (dk_at dksX0_allCalls_1 7 rfl rfl)
theorem dX0_allCalls_33 : decode cX0_allCalls 33 = .ok (.goto (-29), 3) := dk_167 255 227 (dk_at dksX0_allCalls_1 10 rfl rfl)
theorem dX0_allCalls_36 : decode cX0_allCalls 36 = .ok (.iload_n 1, 1) := dk_27 (dk_at dksX0_allCalls_1 13 rfl rfl)
theorem dX0_allCalls_37 : decode cX0_allCalls 37 = .ok (.ireturn, 1) := dk_172 (dk_at dksX0_allCalls_1 14 rfl rfl)
abbrev cX0_digest : ByteArray := prog_1_method_64_code
def yX0_digest : MethodName := ⟨RX0, "digest", "()J"⟩
def dkwX0_digest_11 : List UInt8 := [180, 1, 60, 97, 105, 42, 180, 0, 38, 97, 173]
abbrev dktX0_digest_11 : List UInt8 := dkwX0_digest_11 ++ []
def dkwX0_digest_10 : List UInt8 := [180, 1, 28, 29, 46, 133, 97, 64, 132, 3, 1, 167, 255, 223, 20, 1, 93, 20, 1, 93, 31, 105, 42]
abbrev dktX0_digest_10 : List UInt8 := dkwX0_digest_10 ++ dktX0_digest_11
def dkwX0_digest_9 : List UInt8 := [62, 29, 7, 42, 180, 0, 10, 180, 1, 25, 104, 162, 0, 26, 20, 1, 93, 31, 105, 42, 180, 0, 10]
abbrev dktX0_digest_9 : List UInt8 := dkwX0_digest_9 ++ dktX0_digest_10
def dkwX0_digest_8 : List UInt8 := [20, 1, 93, 31, 105, 42, 180, 0, 10, 180, 1, 20, 29, 46, 133, 97, 64, 132, 3, 1, 167, 255, 223, 3]
abbrev dktX0_digest_8 : List UInt8 := dkwX0_digest_8 ++ dktX0_digest_9
def dkwX0_digest_7 : List UInt8 := [133, 97, 64, 132, 3, 1, 167, 255, 223, 3, 62, 29, 7, 42, 180, 0, 10, 180, 1, 17, 104, 162, 0, 26]
abbrev dktX0_digest_7 : List UInt8 := dkwX0_digest_7 ++ dktX0_digest_8
def dkwX0_digest_6 : List UInt8 := [180, 0, 10, 180, 0, 246, 104, 162, 0, 26, 20, 1, 93, 31, 105, 42, 180, 0, 10, 180, 0, 249, 29, 46]
abbrev dktX0_digest_6 : List UInt8 := dkwX0_digest_6 ++ dktX0_digest_7
def dkwX0_digest_5 : List UInt8 := [182, 1, 95, 133, 97, 64, 132, 4, 1, 167, 255, 232, 132, 3, 1, 167, 255, 212, 3, 62, 29, 7, 42]
abbrev dktX0_digest_5 : List UInt8 := dkwX0_digest_5 ++ dktX0_digest_6
def dkwX0_digest_4 : List UInt8 := [180, 0, 88, 162, 0, 39, 3, 54, 4, 21, 4, 6, 162, 0, 24, 20, 1, 93, 31, 105, 42, 29, 21, 4]
abbrev dktX0_digest_4 : List UInt8 := dkwX0_digest_4 ++ dktX0_digest_5
def dkwX0_digest_3 : List UInt8 := [180, 0, 91, 180, 0, 184, 29, 46, 133, 97, 64, 132, 3, 1, 167, 255, 204, 3, 62, 29, 42, 180, 0, 10]
abbrev dktX0_digest_3 : List UInt8 := dkwX0_digest_3 ++ dktX0_digest_4
def dkwX0_digest_2 : List UInt8 := [20, 1, 93, 31, 105, 42, 180, 0, 10, 180, 0, 197, 29, 50, 182, 0, 201, 133, 97, 105, 42, 180, 0, 10]
abbrev dktX0_digest_2 : List UInt8 := dkwX0_digest_2 ++ dktX0_digest_3
def dkwX0_digest_1 : List UInt8 := [64, 132, 3, 1, 167, 255, 234, 3, 62, 29, 42, 180, 0, 10, 180, 0, 84, 162, 0, 47, 20, 1, 93]
abbrev dktX0_digest_1 : List UInt8 := dkwX0_digest_1 ++ dktX0_digest_2
def dkwX0_digest_0 : List UInt8 := [20, 1, 91, 64, 3, 62, 29, 16, 10, 162, 0, 22, 20, 1, 93, 31, 105, 42, 29, 182, 1, 88, 133, 97]
abbrev dktX0_digest_0 : List UInt8 := dkwX0_digest_0 ++ dktX0_digest_1
theorem dksX0_digest_0 : cX0_digest.data.toList.drop 0 = dktX0_digest_0 := by decide +kernel
theorem dksX0_digest_1 : cX0_digest.data.toList.drop 24 = dktX0_digest_1 := dk_seg dksX0_digest_0 24 rfl rfl
theorem dksX0_digest_2 : cX0_digest.data.toList.drop 47 = dktX0_digest_2 := dk_seg dksX0_digest_1 23 rfl rfl
theorem dksX0_digest_3 : cX0_digest.data.toList.drop 71 = dktX0_digest_3 := dk_seg dksX0_digest_2 24 rfl rfl
theorem dksX0_digest_4 : cX0_digest.data.toList.drop 95 = dktX0_digest_4 := dk_seg dksX0_digest_3 24 rfl rfl
theorem dksX0_digest_5 : cX0_digest.data.toList.drop 119 = dktX0_digest_5 := dk_seg dksX0_digest_4 24 rfl rfl
theorem dksX0_digest_6 : cX0_digest.data.toList.drop 142 = dktX0_digest_6 := dk_seg dksX0_digest_5 23 rfl rfl
theorem dksX0_digest_7 : cX0_digest.data.toList.drop 166 = dktX0_digest_7 := dk_seg dksX0_digest_6 24 rfl rfl
theorem dksX0_digest_8 : cX0_digest.data.toList.drop 190 = dktX0_digest_8 := dk_seg dksX0_digest_7 24 rfl rfl
theorem dksX0_digest_9 : cX0_digest.data.toList.drop 214 = dktX0_digest_9 := dk_seg dksX0_digest_8 24 rfl rfl
theorem dksX0_digest_10 : cX0_digest.data.toList.drop 237 = dktX0_digest_10 := dk_seg dksX0_digest_9 23 rfl rfl
theorem dksX0_digest_11 : cX0_digest.data.toList.drop 260 = dktX0_digest_11 := dk_seg dksX0_digest_10 23 rfl rfl
theorem dX0_digest_0 : decode cX0_digest 0 = .ok (.ldc2_w 347, 3) := dk_20 1 91 (dk_at dksX0_digest_0 0 rfl rfl)
theorem dX0_digest_3 : decode cX0_digest 3 = .ok (.lstore_n 1, 1) := dk_64 (dk_at dksX0_digest_0 3 rfl rfl)
theorem dX0_digest_4 : decode cX0_digest 4 = .ok (.iconst 0, 1) := dk_3 (dk_at dksX0_digest_0 4 rfl rfl)
theorem dX0_digest_5 : decode cX0_digest 5 = .ok (.istore_n 3, 1) := dk_62 (dk_at dksX0_digest_0 5 rfl rfl)
theorem dX0_digest_6 : decode cX0_digest 6 = .ok (.iload_n 3, 1) := dk_29 (dk_at dksX0_digest_0 6 rfl rfl)
theorem dX0_digest_7 : decode cX0_digest 7 = .ok (.bipush 10, 2) := dk_16 10 (dk_at dksX0_digest_0 7 rfl rfl)
theorem dX0_digest_9 : decode cX0_digest 9 = .ok (.if_icmp .ge 22, 3) := dk_162 0 22 (dk_at dksX0_digest_0 9 rfl rfl)
theorem dX0_digest_12 : decode cX0_digest 12 = .ok (.ldc2_w 349, 3) := dk_20 1 93 (dk_at dksX0_digest_0 12 rfl rfl)
theorem dX0_digest_15 : decode cX0_digest 15 = .ok (.lload_n 1, 1) := dk_31 (dk_at dksX0_digest_0 15 rfl rfl)
theorem dX0_digest_16 : decode cX0_digest 16 = .ok (.lmul, 1) := dk_105 (dk_at dksX0_digest_0 16 rfl rfl)
theorem dX0_digest_17 : decode cX0_digest 17 = .ok (.aload_n 0, 1) := dk_42 (dk_at dksX0_digest_0 17 rfl rfl)
theorem dX0_digest_18 : decode cX0_digest 18 = .ok (.iload_n 3, 1) := dk_29 (dk_at dksX0_digest_0 18 rfl rfl)
theorem dX0_digest_19 : decode cX0_digest 19 = .ok (.invokevirtual 344, 3) := dk_182 1 88 (dk_at dksX0_digest_0 19 rfl rfl)
theorem dX0_digest_22 : decode cX0_digest 22 = .ok (.i2l, 1) := dk_133 (dk_at dksX0_digest_0 22 rfl rfl)
theorem dX0_digest_23 : decode cX0_digest 23 = .ok (.ladd, 1) := dk_97 (dk_at dksX0_digest_0 23 rfl rfl)
theorem dX0_digest_24 : decode cX0_digest 24 = .ok (.lstore_n 1, 1) := dk_64 (dk_at dksX0_digest_1 0 rfl rfl)
theorem dX0_digest_25 : decode cX0_digest 25 = .ok (.iinc 3 1, 3) := dk_132 3 1 (dk_at dksX0_digest_1 1 rfl rfl)
theorem dX0_digest_28 : decode cX0_digest 28 = .ok (.goto (-22), 3) := dk_167 255 234 (dk_at dksX0_digest_1 4 rfl rfl)
theorem dX0_digest_31 : decode cX0_digest 31 = .ok (.iconst 0, 1) := dk_3 (dk_at dksX0_digest_1 7 rfl rfl)
theorem dX0_digest_32 : decode cX0_digest 32 = .ok (.istore_n 3, 1) := dk_62 (dk_at dksX0_digest_1 8 rfl rfl)
theorem dX0_digest_33 : decode cX0_digest 33 = .ok (.iload_n 3, 1) := dk_29 (dk_at dksX0_digest_1 9 rfl rfl)
theorem dX0_digest_34 : decode cX0_digest 34 = .ok (.aload_n 0, 1) := dk_42 (dk_at dksX0_digest_1 10 rfl rfl)
theorem dX0_digest_35 : decode cX0_digest 35 = .ok (.getfield 10, 3) := dk_180 0 10 (dk_at dksX0_digest_1 11 rfl rfl)
theorem dX0_digest_38 : decode cX0_digest 38 = .ok (.getfield 84, 3) := dk_180 0 84 (dk_at dksX0_digest_1 14 rfl rfl)
theorem dX0_digest_41 : decode cX0_digest 41 = .ok (.if_icmp .ge 47, 3) := dk_162 0 47 (dk_at dksX0_digest_1 17 rfl rfl)
theorem dX0_digest_44 : decode cX0_digest 44 = .ok (.ldc2_w 349, 3) := dk_20 1 93 (dk_at dksX0_digest_1 20 rfl rfl)
theorem dX0_digest_47 : decode cX0_digest 47 = .ok (.ldc2_w 349, 3) := dk_20 1 93 (dk_at dksX0_digest_2 0 rfl rfl)
theorem dX0_digest_50 : decode cX0_digest 50 = .ok (.lload_n 1, 1) := dk_31 (dk_at dksX0_digest_2 3 rfl rfl)
theorem dX0_digest_51 : decode cX0_digest 51 = .ok (.lmul, 1) := dk_105 (dk_at dksX0_digest_2 4 rfl rfl)
theorem dX0_digest_52 : decode cX0_digest 52 = .ok (.aload_n 0, 1) := dk_42 (dk_at dksX0_digest_2 5 rfl rfl)
theorem dX0_digest_53 : decode cX0_digest 53 = .ok (.getfield 10, 3) := dk_180 0 10 (dk_at dksX0_digest_2 6 rfl rfl)
theorem dX0_digest_56 : decode cX0_digest 56 = .ok (.getfield 197, 3) := dk_180 0 197 (dk_at dksX0_digest_2 9 rfl rfl)
theorem dX0_digest_59 : decode cX0_digest 59 = .ok (.iload_n 3, 1) := dk_29 (dk_at dksX0_digest_2 12 rfl rfl)
theorem dX0_digest_60 : decode cX0_digest 60 = .ok (.aaload, 1) := dk_50 (dk_at dksX0_digest_2 13 rfl rfl)
theorem dX0_digest_61 : decode cX0_digest 61 = .ok (.invokevirtual 201, 3) := dk_182 0 201 (dk_at dksX0_digest_2 14 rfl rfl)
theorem dX0_digest_64 : decode cX0_digest 64 = .ok (.i2l, 1) := dk_133 (dk_at dksX0_digest_2 17 rfl rfl)
theorem dX0_digest_65 : decode cX0_digest 65 = .ok (.ladd, 1) := dk_97 (dk_at dksX0_digest_2 18 rfl rfl)
theorem dX0_digest_66 : decode cX0_digest 66 = .ok (.lmul, 1) := dk_105 (dk_at dksX0_digest_2 19 rfl rfl)
theorem dX0_digest_67 : decode cX0_digest 67 = .ok (.aload_n 0, 1) := dk_42 (dk_at dksX0_digest_2 20 rfl rfl)
theorem dX0_digest_68 : decode cX0_digest 68 = .ok (.getfield 10, 3) := dk_180 0 10 (dk_at dksX0_digest_2 21 rfl rfl)
theorem dX0_digest_71 : decode cX0_digest 71 = .ok (.getfield 91, 3) := dk_180 0 91 (dk_at dksX0_digest_3 0 rfl rfl)
theorem dX0_digest_74 : decode cX0_digest 74 = .ok (.getfield 184, 3) := dk_180 0 184 (dk_at dksX0_digest_3 3 rfl rfl)
theorem dX0_digest_77 : decode cX0_digest 77 = .ok (.iload_n 3, 1) := dk_29 (dk_at dksX0_digest_3 6 rfl rfl)
theorem dX0_digest_78 : decode cX0_digest 78 = .ok (.iaload, 1) := dk_46 (dk_at dksX0_digest_3 7 rfl rfl)
theorem dX0_digest_79 : decode cX0_digest 79 = .ok (.i2l, 1) := dk_133 (dk_at dksX0_digest_3 8 rfl rfl)
theorem dX0_digest_80 : decode cX0_digest 80 = .ok (.ladd, 1) := dk_97 (dk_at dksX0_digest_3 9 rfl rfl)
theorem dX0_digest_81 : decode cX0_digest 81 = .ok (.lstore_n 1, 1) := dk_64 (dk_at dksX0_digest_3 10 rfl rfl)
theorem dX0_digest_82 : decode cX0_digest 82 = .ok (.iinc 3 1, 3) := dk_132 3 1 (dk_at dksX0_digest_3 11 rfl rfl)
theorem dX0_digest_85 : decode cX0_digest 85 = .ok (.goto (-52), 3) := dk_167 255 204 (dk_at dksX0_digest_3 14 rfl rfl)
theorem dX0_digest_88 : decode cX0_digest 88 = .ok (.iconst 0, 1) := dk_3 (dk_at dksX0_digest_3 17 rfl rfl)
theorem dX0_digest_89 : decode cX0_digest 89 = .ok (.istore_n 3, 1) := dk_62 (dk_at dksX0_digest_3 18 rfl rfl)
theorem dX0_digest_90 : decode cX0_digest 90 = .ok (.iload_n 3, 1) := dk_29 (dk_at dksX0_digest_3 19 rfl rfl)
theorem dX0_digest_91 : decode cX0_digest 91 = .ok (.aload_n 0, 1) := dk_42 (dk_at dksX0_digest_3 20 rfl rfl)
theorem dX0_digest_92 : decode cX0_digest 92 = .ok (.getfield 10, 3) := dk_180 0 10 (dk_at dksX0_digest_3 21 rfl rfl)
theorem dX0_digest_95 : decode cX0_digest 95 = .ok (.getfield 88, 3) := dk_180 0 88 (dk_at dksX0_digest_4 0 rfl rfl)
theorem dX0_digest_98 : decode cX0_digest 98 = .ok (.if_icmp .ge 39, 3) := dk_162 0 39 (dk_at dksX0_digest_4 3 rfl rfl)
theorem dX0_digest_101 : decode cX0_digest 101 = .ok (.iconst 0, 1) := dk_3 (dk_at dksX0_digest_4 6 rfl rfl)
theorem dX0_digest_102 : decode cX0_digest 102 = .ok (.istore 4, 2) := dk_54 4 (dk_at dksX0_digest_4 7 rfl rfl)
theorem dX0_digest_104 : decode cX0_digest 104 = .ok (.iload 4, 2) := dk_21 4 (dk_at dksX0_digest_4 9 rfl rfl)
theorem dX0_digest_106 : decode cX0_digest 106 = .ok (.iconst 3, 1) := dk_6 (dk_at dksX0_digest_4 11 rfl rfl)
theorem dX0_digest_107 : decode cX0_digest 107 = .ok (.if_icmp .ge 24, 3) := dk_162 0 24 (dk_at dksX0_digest_4 12 rfl rfl)
theorem dX0_digest_110 : decode cX0_digest 110 = .ok (.ldc2_w 349, 3) := dk_20 1 93 (dk_at dksX0_digest_4 15 rfl rfl)
theorem dX0_digest_113 : decode cX0_digest 113 = .ok (.lload_n 1, 1) := dk_31 (dk_at dksX0_digest_4 18 rfl rfl)
theorem dX0_digest_114 : decode cX0_digest 114 = .ok (.lmul, 1) := dk_105 (dk_at dksX0_digest_4 19 rfl rfl)
theorem dX0_digest_115 : decode cX0_digest 115 = .ok (.aload_n 0, 1) := dk_42 (dk_at dksX0_digest_4 20 rfl rfl)
theorem dX0_digest_116 : decode cX0_digest 116 = .ok (.iload_n 3, 1) := dk_29 (dk_at dksX0_digest_4 21 rfl rfl)
theorem dX0_digest_117 : decode cX0_digest 117 = .ok (.iload 4, 2) := dk_21 4 (dk_at dksX0_digest_4 22 rfl rfl)
theorem dX0_digest_119 : decode cX0_digest 119 = .ok (.invokevirtual 351, 3) := dk_182 1 95 (dk_at dksX0_digest_5 0 rfl rfl)
theorem dX0_digest_122 : decode cX0_digest 122 = .ok (.i2l, 1) := dk_133 (dk_at dksX0_digest_5 3 rfl rfl)
theorem dX0_digest_123 : decode cX0_digest 123 = .ok (.ladd, 1) := dk_97 (dk_at dksX0_digest_5 4 rfl rfl)
theorem dX0_digest_124 : decode cX0_digest 124 = .ok (.lstore_n 1, 1) := dk_64 (dk_at dksX0_digest_5 5 rfl rfl)
theorem dX0_digest_125 : decode cX0_digest 125 = .ok (.iinc 4 1, 3) := dk_132 4 1 (dk_at dksX0_digest_5 6 rfl rfl)
theorem dX0_digest_128 : decode cX0_digest 128 = .ok (.goto (-24), 3) := dk_167 255 232 (dk_at dksX0_digest_5 9 rfl rfl)
theorem dX0_digest_131 : decode cX0_digest 131 = .ok (.iinc 3 1, 3) := dk_132 3 1 (dk_at dksX0_digest_5 12 rfl rfl)
theorem dX0_digest_134 : decode cX0_digest 134 = .ok (.goto (-44), 3) := dk_167 255 212 (dk_at dksX0_digest_5 15 rfl rfl)
theorem dX0_digest_137 : decode cX0_digest 137 = .ok (.iconst 0, 1) := dk_3 (dk_at dksX0_digest_5 18 rfl rfl)
theorem dX0_digest_138 : decode cX0_digest 138 = .ok (.istore_n 3, 1) := dk_62 (dk_at dksX0_digest_5 19 rfl rfl)
theorem dX0_digest_139 : decode cX0_digest 139 = .ok (.iload_n 3, 1) := dk_29 (dk_at dksX0_digest_5 20 rfl rfl)
theorem dX0_digest_140 : decode cX0_digest 140 = .ok (.iconst 4, 1) := dk_7 (dk_at dksX0_digest_5 21 rfl rfl)
theorem dX0_digest_141 : decode cX0_digest 141 = .ok (.aload_n 0, 1) := dk_42 (dk_at dksX0_digest_5 22 rfl rfl)
theorem dX0_digest_142 : decode cX0_digest 142 = .ok (.getfield 10, 3) := dk_180 0 10 (dk_at dksX0_digest_6 0 rfl rfl)
theorem dX0_digest_145 : decode cX0_digest 145 = .ok (.getfield 246, 3) := dk_180 0 246 (dk_at dksX0_digest_6 3 rfl rfl)
theorem dX0_digest_148 : decode cX0_digest 148 = .ok (.imul, 1) := dk_104 (dk_at dksX0_digest_6 6 rfl rfl)
theorem dX0_digest_149 : decode cX0_digest 149 = .ok (.if_icmp .ge 26, 3) := dk_162 0 26 (dk_at dksX0_digest_6 7 rfl rfl)
theorem dX0_digest_152 : decode cX0_digest 152 = .ok (.ldc2_w 349, 3) := dk_20 1 93 (dk_at dksX0_digest_6 10 rfl rfl)
theorem dX0_digest_155 : decode cX0_digest 155 = .ok (.lload_n 1, 1) := dk_31 (dk_at dksX0_digest_6 13 rfl rfl)
theorem dX0_digest_156 : decode cX0_digest 156 = .ok (.lmul, 1) := dk_105 (dk_at dksX0_digest_6 14 rfl rfl)
theorem dX0_digest_157 : decode cX0_digest 157 = .ok (.aload_n 0, 1) := dk_42 (dk_at dksX0_digest_6 15 rfl rfl)
theorem dX0_digest_158 : decode cX0_digest 158 = .ok (.getfield 10, 3) := dk_180 0 10 (dk_at dksX0_digest_6 16 rfl rfl)
theorem dX0_digest_161 : decode cX0_digest 161 = .ok (.getfield 249, 3) := dk_180 0 249 (dk_at dksX0_digest_6 19 rfl rfl)
theorem dX0_digest_164 : decode cX0_digest 164 = .ok (.iload_n 3, 1) := dk_29 (dk_at dksX0_digest_6 22 rfl rfl)
theorem dX0_digest_165 : decode cX0_digest 165 = .ok (.iaload, 1) := dk_46 (dk_at dksX0_digest_6 23 rfl rfl)
theorem dX0_digest_166 : decode cX0_digest 166 = .ok (.i2l, 1) := dk_133 (dk_at dksX0_digest_7 0 rfl rfl)
theorem dX0_digest_167 : decode cX0_digest 167 = .ok (.ladd, 1) := dk_97 (dk_at dksX0_digest_7 1 rfl rfl)
theorem dX0_digest_168 : decode cX0_digest 168 = .ok (.lstore_n 1, 1) := dk_64 (dk_at dksX0_digest_7 2 rfl rfl)
theorem dX0_digest_169 : decode cX0_digest 169 = .ok (.iinc 3 1, 3) := dk_132 3 1 (dk_at dksX0_digest_7 3 rfl rfl)
theorem dX0_digest_172 : decode cX0_digest 172 = .ok (.goto (-33), 3) := dk_167 255 223 (dk_at dksX0_digest_7 6 rfl rfl)
theorem dX0_digest_175 : decode cX0_digest 175 = .ok (.iconst 0, 1) := dk_3 (dk_at dksX0_digest_7 9 rfl rfl)
theorem dX0_digest_176 : decode cX0_digest 176 = .ok (.istore_n 3, 1) := dk_62 (dk_at dksX0_digest_7 10 rfl rfl)
theorem dX0_digest_177 : decode cX0_digest 177 = .ok (.iload_n 3, 1) := dk_29 (dk_at dksX0_digest_7 11 rfl rfl)
theorem dX0_digest_178 : decode cX0_digest 178 = .ok (.iconst 4, 1) := dk_7 (dk_at dksX0_digest_7 12 rfl rfl)
theorem dX0_digest_179 : decode cX0_digest 179 = .ok (.aload_n 0, 1) := dk_42 (dk_at dksX0_digest_7 13 rfl rfl)
theorem dX0_digest_180 : decode cX0_digest 180 = .ok (.getfield 10, 3) := dk_180 0 10 (dk_at dksX0_digest_7 14 rfl rfl)
theorem dX0_digest_183 : decode cX0_digest 183 = .ok (.getfield 273, 3) := dk_180 1 17 (dk_at dksX0_digest_7 17 rfl rfl)
theorem dX0_digest_186 : decode cX0_digest 186 = .ok (.imul, 1) := dk_104 (dk_at dksX0_digest_7 20 rfl rfl)
theorem dX0_digest_187 : decode cX0_digest 187 = .ok (.if_icmp .ge 26, 3) := dk_162 0 26 (dk_at dksX0_digest_7 21 rfl rfl)
theorem dX0_digest_190 : decode cX0_digest 190 = .ok (.ldc2_w 349, 3) := dk_20 1 93 (dk_at dksX0_digest_8 0 rfl rfl)
theorem dX0_digest_193 : decode cX0_digest 193 = .ok (.lload_n 1, 1) := dk_31 (dk_at dksX0_digest_8 3 rfl rfl)
theorem dX0_digest_194 : decode cX0_digest 194 = .ok (.lmul, 1) := dk_105 (dk_at dksX0_digest_8 4 rfl rfl)
theorem dX0_digest_195 : decode cX0_digest 195 = .ok (.aload_n 0, 1) := dk_42 (dk_at dksX0_digest_8 5 rfl rfl)
theorem dX0_digest_196 : decode cX0_digest 196 = .ok (.getfield 10, 3) := dk_180 0 10 (dk_at dksX0_digest_8 6 rfl rfl)
theorem dX0_digest_199 : decode cX0_digest 199 = .ok (.getfield 276, 3) := dk_180 1 20 (dk_at dksX0_digest_8 9 rfl rfl)
theorem dX0_digest_202 : decode cX0_digest 202 = .ok (.iload_n 3, 1) := dk_29 (dk_at dksX0_digest_8 12 rfl rfl)
theorem dX0_digest_203 : decode cX0_digest 203 = .ok (.iaload, 1) := dk_46 (dk_at dksX0_digest_8 13 rfl rfl)
theorem dX0_digest_204 : decode cX0_digest 204 = .ok (.i2l, 1) := dk_133 (dk_at dksX0_digest_8 14 rfl rfl)
theorem dX0_digest_205 : decode cX0_digest 205 = .ok (.ladd, 1) := dk_97 (dk_at dksX0_digest_8 15 rfl rfl)
theorem dX0_digest_206 : decode cX0_digest 206 = .ok (.lstore_n 1, 1) := dk_64 (dk_at dksX0_digest_8 16 rfl rfl)
theorem dX0_digest_207 : decode cX0_digest 207 = .ok (.iinc 3 1, 3) := dk_132 3 1 (dk_at dksX0_digest_8 17 rfl rfl)
theorem dX0_digest_210 : decode cX0_digest 210 = .ok (.goto (-33), 3) := dk_167 255 223 (dk_at dksX0_digest_8 20 rfl rfl)
theorem dX0_digest_213 : decode cX0_digest 213 = .ok (.iconst 0, 1) := dk_3 (dk_at dksX0_digest_8 23 rfl rfl)
theorem dX0_digest_214 : decode cX0_digest 214 = .ok (.istore_n 3, 1) := dk_62 (dk_at dksX0_digest_9 0 rfl rfl)
theorem dX0_digest_215 : decode cX0_digest 215 = .ok (.iload_n 3, 1) := dk_29 (dk_at dksX0_digest_9 1 rfl rfl)
theorem dX0_digest_216 : decode cX0_digest 216 = .ok (.iconst 4, 1) := dk_7 (dk_at dksX0_digest_9 2 rfl rfl)
theorem dX0_digest_217 : decode cX0_digest 217 = .ok (.aload_n 0, 1) := dk_42 (dk_at dksX0_digest_9 3 rfl rfl)
theorem dX0_digest_218 : decode cX0_digest 218 = .ok (.getfield 10, 3) := dk_180 0 10 (dk_at dksX0_digest_9 4 rfl rfl)
theorem dX0_digest_221 : decode cX0_digest 221 = .ok (.getfield 281, 3) := dk_180 1 25 (dk_at dksX0_digest_9 7 rfl rfl)
theorem dX0_digest_224 : decode cX0_digest 224 = .ok (.imul, 1) := dk_104 (dk_at dksX0_digest_9 10 rfl rfl)
theorem dX0_digest_225 : decode cX0_digest 225 = .ok (.if_icmp .ge 26, 3) := dk_162 0 26 (dk_at dksX0_digest_9 11 rfl rfl)
theorem dX0_digest_228 : decode cX0_digest 228 = .ok (.ldc2_w 349, 3) := dk_20 1 93 (dk_at dksX0_digest_9 14 rfl rfl)
theorem dX0_digest_231 : decode cX0_digest 231 = .ok (.lload_n 1, 1) := dk_31 (dk_at dksX0_digest_9 17 rfl rfl)
theorem dX0_digest_232 : decode cX0_digest 232 = .ok (.lmul, 1) := dk_105 (dk_at dksX0_digest_9 18 rfl rfl)
theorem dX0_digest_233 : decode cX0_digest 233 = .ok (.aload_n 0, 1) := dk_42 (dk_at dksX0_digest_9 19 rfl rfl)
theorem dX0_digest_234 : decode cX0_digest 234 = .ok (.getfield 10, 3) := dk_180 0 10 (dk_at dksX0_digest_9 20 rfl rfl)
theorem dX0_digest_237 : decode cX0_digest 237 = .ok (.getfield 284, 3) := dk_180 1 28 (dk_at dksX0_digest_10 0 rfl rfl)
theorem dX0_digest_240 : decode cX0_digest 240 = .ok (.iload_n 3, 1) := dk_29 (dk_at dksX0_digest_10 3 rfl rfl)
theorem dX0_digest_241 : decode cX0_digest 241 = .ok (.iaload, 1) := dk_46 (dk_at dksX0_digest_10 4 rfl rfl)
theorem dX0_digest_242 : decode cX0_digest 242 = .ok (.i2l, 1) := dk_133 (dk_at dksX0_digest_10 5 rfl rfl)
theorem dX0_digest_243 : decode cX0_digest 243 = .ok (.ladd, 1) := dk_97 (dk_at dksX0_digest_10 6 rfl rfl)
theorem dX0_digest_244 : decode cX0_digest 244 = .ok (.lstore_n 1, 1) := dk_64 (dk_at dksX0_digest_10 7 rfl rfl)
theorem dX0_digest_245 : decode cX0_digest 245 = .ok (.iinc 3 1, 3) := dk_132 3 1 (dk_at dksX0_digest_10 8 rfl rfl)
theorem dX0_digest_248 : decode cX0_digest 248 = .ok (.goto (-33), 3) := dk_167 255 223 (dk_at dksX0_digest_10 11 rfl rfl)
theorem dX0_digest_251 : decode cX0_digest 251 = .ok (.ldc2_w 349, 3) := dk_20 1 93 (dk_at dksX0_digest_10 14 rfl rfl)
theorem dX0_digest_254 : decode cX0_digest 254 = .ok (.ldc2_w 349, 3) := dk_20 1 93 (dk_at dksX0_digest_10 17 rfl rfl)
theorem dX0_digest_257 : decode cX0_digest 257 = .ok (.lload_n 1, 1) := dk_31 (dk_at dksX0_digest_10 20 rfl rfl)
theorem dX0_digest_258 : decode cX0_digest 258 = .ok (.lmul, 1) := dk_105 (dk_at dksX0_digest_10 21 rfl rfl)
theorem dX0_digest_259 : decode cX0_digest 259 = .ok (.aload_n 0, 1) := dk_42 (dk_at dksX0_digest_10 22 rfl rfl)
theorem dX0_digest_260 : decode cX0_digest 260 = .ok (.getfield 316, 3) := dk_180 1 60 (dk_at dksX0_digest_11 0 rfl rfl)
theorem dX0_digest_263 : decode cX0_digest 263 = .ok (.ladd, 1) := dk_97 (dk_at dksX0_digest_11 3 rfl rfl)
theorem dX0_digest_264 : decode cX0_digest 264 = .ok (.lmul, 1) := dk_105 (dk_at dksX0_digest_11 4 rfl rfl)
theorem dX0_digest_265 : decode cX0_digest 265 = .ok (.aload_n 0, 1) := dk_42 (dk_at dksX0_digest_11 5 rfl rfl)
theorem dX0_digest_266 : decode cX0_digest 266 = .ok (.getfield 38, 3) := dk_180 0 38 (dk_at dksX0_digest_11 6 rfl rfl)
theorem dX0_digest_269 : decode cX0_digest 269 = .ok (.ladd, 1) := dk_97 (dk_at dksX0_digest_11 9 rfl rfl)
theorem dX0_digest_270 : decode cX0_digest 270 = .ok (.lreturn, 1) := dk_173 (dk_at dksX0_digest_11 10 rfl rfl)
theorem q61 : (Jvm.Cond.initialized "LeftBehind") ∈ lw_all := lw_g (lw_at lw_m1 1 rfl) rfl
theorem q79 : (Jvm.Cond.instantiable "LeftBehind" (12 : Nat)) ∈ lw_all := lw_g (lw_at lw_m1 19 rfl) rfl
theorem q81 : (Jvm.Cond.instanceMethod ({ cls := "LeftBehind", name := "<init>", desc := "()V" } : Jvm.MethodName)) ∈ lw_all := lw_g (lw_at lw_m1 21 rfl) rfl
theorem q82 : (Jvm.Cond.code ({ cls := "LeftBehind", name := "<init>", desc := "()V" } : Jvm.MethodName) prog_1_method_2_code (1 : Nat) (Option.none : Option Jvm.ClassFile.FieldType)) ∈ lw_all := lw_g (lw_at lw_m1 22 rfl) rfl
theorem q83 : (Jvm.Cond.methodLink "LeftBehind" (1 : Nat) ({ cls := "java/lang/Object", name := "<init>", desc := "()V" } : Jvm.MethodName)) ∈ lw_all := lw_g (lw_at lw_m1 23 rfl) rfl
theorem q86 : (Jvm.Cond.classLink "LeftBehind" (7 : Nat) "LeftBehind$Island") ∈ lw_all := lw_g (lw_at lw_m1 26 rfl) rfl
theorem q88 : (Jvm.Cond.methodLinkNest "LeftBehind" (9 : Nat) ({ cls := "LeftBehind$Island", name := "<init>", desc := "()V" } : Jvm.MethodName) "LeftBehind") ∈ lw_tbl := lw_at lw_m1 28 rfl
theorem q106 : (Jvm.Cond.fieldLinkNest "LeftBehind" (155 : Nat) "LeftBehind$State" "places" "[I" "LeftBehind") ∈ lw_tbl := lw_at lw_m1 46 rfl
theorem q109 : (Jvm.Cond.fieldLinkNest "LeftBehind" (184 : Nat) "LeftBehind$State" "calls" "[I" "LeftBehind") ∈ lw_tbl := lw_at lw_m1 49 rfl
theorem q118 : (Jvm.Cond.fieldLinkNest "LeftBehind" (197 : Nat) "LeftBehind$Island" "ships" "[LLeftBehind$Ship;" "LeftBehind") ∈ lw_tbl := lw_at lw_m1 58 rfl
theorem q123 : (Jvm.Cond.fieldLinkNest "LeftBehind" (84 : Nat) "LeftBehind$Island" "fleet" "I" "LeftBehind") ∈ lw_tbl := lw_at lw_m1 63 rfl
theorem q125 : (Jvm.Cond.fieldLinkNest "LeftBehind" (177 : Nat) "LeftBehind$Island" "men" "[LLeftBehind$Man;" "LeftBehind") ∈ lw_tbl := lw_at lw_m1 65 rfl
theorem q128 : (Jvm.Cond.fieldLinkNest "LeftBehind" (181 : Nat) "LeftBehind$Island" "skills" "[I" "LeftBehind") ∈ lw_tbl := lw_at lw_m1 68 rfl
theorem q132 : (Jvm.Cond.fieldLinkNest "LeftBehind" (88 : Nat) "LeftBehind$Island" "many" "I" "LeftBehind") ∈ lw_tbl := lw_at lw_m1 72 rfl
theorem q134 : (Jvm.Cond.fieldLinkNest "LeftBehind" (249 : Nat) "LeftBehind$Island" "seen" "[I" "LeftBehind") ∈ lw_tbl := lw_at lw_m1 74 rfl
theorem q136 : (Jvm.Cond.fieldLinkNest "LeftBehind" (246 : Nat) "LeftBehind$Island" "sights" "I" "LeftBehind") ∈ lw_tbl := lw_at lw_m1 76 rfl
theorem q138 : (Jvm.Cond.fieldLinkNest "LeftBehind" (276 : Nat) "LeftBehind$Island" "notes" "[I" "LeftBehind") ∈ lw_tbl := lw_at lw_m1 78 rfl
theorem q140 : (Jvm.Cond.fieldLinkNest "LeftBehind" (273 : Nat) "LeftBehind$Island" "noted" "I" "LeftBehind") ∈ lw_tbl := lw_at lw_m1 80 rfl
theorem q142 : (Jvm.Cond.fieldLinkNest "LeftBehind" (284 : Nat) "LeftBehind$Island" "marks" "[I" "LeftBehind") ∈ lw_tbl := lw_at lw_m1 82 rfl
theorem q144 : (Jvm.Cond.fieldLinkNest "LeftBehind" (281 : Nat) "LeftBehind$Island" "marked" "I" "LeftBehind") ∈ lw_tbl := lw_at lw_m1 84 rfl
theorem q149 : (Jvm.Cond.fieldLinkNest "LeftBehind" (91 : Nat) "LeftBehind$Island" "now" "LLeftBehind$State;" "LeftBehind") ∈ lw_tbl := lw_at lw_m1 89 rfl
theorem q151 : (Jvm.Cond.fieldLinkNest "LeftBehind" (167 : Nat) "LeftBehind$Island" "was" "[LLeftBehind$State;" "LeftBehind") ∈ lw_tbl := lw_at lw_m1 91 rfl
theorem q153 : (Jvm.Cond.fieldLinkNest "LeftBehind" (164 : Nat) "LeftBehind$Island" "undos" "I" "LeftBehind") ∈ lw_tbl := lw_at lw_m1 93 rfl
theorem q184 : (Jvm.Cond.classLink "LeftBehind" (23 : Nat) "LeftBehind$State") ∈ lw_all := lw_g (lw_at lw_m1 124 rfl) rfl
theorem q185 : (Jvm.Cond.methodLinkNest "LeftBehind" (25 : Nat) ({ cls := "LeftBehind$State", name := "<init>", desc := "()V" } : Jvm.MethodName) "LeftBehind") ∈ lw_tbl := lw_at lw_m1 125 rfl
theorem q186 : (Jvm.Cond.classLink "LeftBehind" (42 : Nat) "LeftBehind$Reader") ∈ lw_all := lw_g (lw_at lw_m1 126 rfl) rfl
theorem q188 : (Jvm.Cond.methodLinkNest "LeftBehind" (44 : Nat) ({ cls := "LeftBehind$Reader", name := "<init>", desc := "(LLeftBehind;)V" } : Jvm.MethodName) "LeftBehind") ∈ lw_tbl := lw_at lw_m1 128 rfl
theorem q212 : (Jvm.Cond.classLink "LeftBehind" (51 : Nat) "LeftBehind$Fews") ∈ lw_all := lw_g (lw_at lw_m1 152 rfl) rfl
theorem q214 : (Jvm.Cond.methodLinkNest "LeftBehind" (53 : Nat) ({ cls := "LeftBehind$Fews", name := "<init>", desc := "(LLeftBehind;)V" } : Jvm.MethodName) "LeftBehind") ∈ lw_tbl := lw_at lw_m1 154 rfl
theorem q222 : (Jvm.Cond.fieldLinkNest "LeftBehind" (235 : Nat) "LeftBehind$Fews" "found" "[I" "LeftBehind") ∈ lw_tbl := lw_at lw_m1 162 rfl
theorem q225 : (Jvm.Cond.fieldLinkNest "LeftBehind" (231 : Nat) "LeftBehind$Fews" "fewest" "I" "LeftBehind") ∈ lw_tbl := lw_at lw_m1 165 rfl
theorem q242 : (Jvm.Cond.classLink "LeftBehind" (58 : Nat) "LeftBehind$Crews") ∈ lw_all := lw_g (lw_at lw_m1 182 rfl) rfl
theorem q244 : (Jvm.Cond.methodLinkNest "LeftBehind" (60 : Nat) ({ cls := "LeftBehind$Crews", name := "<init>", desc := "(LLeftBehind;)V" } : Jvm.MethodName) "LeftBehind") ∈ lw_tbl := lw_at lw_m1 184 rfl
theorem q249 : (Jvm.Cond.fieldLinkNest "LeftBehind" (242 : Nat) "LeftBehind$Crews" "found" "[I" "LeftBehind") ∈ lw_tbl := lw_at lw_m1 189 rfl
theorem q252 : (Jvm.Cond.fieldLinkNest "LeftBehind" (239 : Nat) "LeftBehind$Crews" "most" "I" "LeftBehind") ∈ lw_tbl := lw_at lw_m1 192 rfl
theorem q263 : (Jvm.Cond.methodLink "LeftBehind" (65 : Nat) ({ cls := "LeftBehind$Island", name := "begins", desc := "()V" } : Jvm.MethodName)) ∈ lw_all := lw_g (lw_at lw_m1 203 rfl) rfl
theorem q268 : (Jvm.Cond.fieldLink "LeftBehind" (10 : Nat) "LeftBehind" "island" "LLeftBehind$Island;") ∈ lw_all := lw_g (lw_at lw_m1 208 rfl) rfl
theorem q270 : (Jvm.Cond.fieldLink "LeftBehind" (16 : Nat) "LeftBehind" "aside" "LLeftBehind$Island;") ∈ lw_all := lw_g (lw_at lw_m1 210 rfl) rfl
theorem q272 : (Jvm.Cond.fieldLink "LeftBehind" (19 : Nat) "LeftBehind" "images" "[LLeftBehind$Island;") ∈ lw_all := lw_g (lw_at lw_m1 212 rfl) rfl
theorem q275 : (Jvm.Cond.fieldLink "LeftBehind" (26 : Nat) "LeftBehind" "trial" "LLeftBehind$State;") ∈ lw_all := lw_g (lw_at lw_m1 215 rfl) rfl
theorem q277 : (Jvm.Cond.fieldLink "LeftBehind" (30 : Nat) "LeftBehind" "text" "[B") ∈ lw_all := lw_g (lw_at lw_m1 217 rfl) rfl
theorem q279 : (Jvm.Cond.fieldLink "LeftBehind" (125 : Nat) "LeftBehind" "typed" "I") ∈ lw_all := lw_g (lw_at lw_m1 219 rfl) rfl
theorem q280 : (Jvm.Cond.fieldLink "LeftBehind" (34 : Nat) "LeftBehind" "refused" "[I") ∈ lw_all := lw_g (lw_at lw_m1 220 rfl) rfl
theorem q281 : (Jvm.Cond.fieldLink "LeftBehind" (316 : Nat) "LeftBehind" "above" "J") ∈ lw_all := lw_g (lw_at lw_m1 221 rfl) rfl
theorem q282 : (Jvm.Cond.fieldLink "LeftBehind" (38 : Nat) "LeftBehind" "below" "J") ∈ lw_all := lw_g (lw_at lw_m1 222 rfl) rfl
theorem q283 : (Jvm.Cond.fieldLink "LeftBehind" (47 : Nat) "LeftBehind" "reader" "LLeftBehind$Reader;") ∈ lw_all := lw_g (lw_at lw_m1 223 rfl) rfl
theorem q284 : (Jvm.Cond.fieldLink "LeftBehind" (54 : Nat) "LeftBehind" "fews" "LLeftBehind$Fews;") ∈ lw_all := lw_g (lw_at lw_m1 224 rfl) rfl
theorem q285 : (Jvm.Cond.fieldLink "LeftBehind" (61 : Nat) "LeftBehind" "crews" "LLeftBehind$Crews;") ∈ lw_all := lw_g (lw_at lw_m1 225 rfl) rfl
theorem q286 : (Jvm.Cond.laysFinal "LeftBehind" "LeftBehind" "island" "LLeftBehind$Island;") ∈ lw_all := lw_g (lw_at lw_m1 226 rfl) rfl
theorem q287 : (Jvm.Cond.soleField "LeftBehind" "island") ∈ lw_all := lw_g (lw_at lw_m1 227 rfl) rfl
theorem q288 : (Jvm.Cond.laysFinal "LeftBehind" "LeftBehind" "aside" "LLeftBehind$Island;") ∈ lw_all := lw_g (lw_at lw_m1 228 rfl) rfl
theorem q289 : (Jvm.Cond.soleField "LeftBehind" "aside") ∈ lw_all := lw_g (lw_at lw_m1 229 rfl) rfl
theorem q290 : (Jvm.Cond.laysFinal "LeftBehind" "LeftBehind" "images" "[LLeftBehind$Island;") ∈ lw_all := lw_g (lw_at lw_m1 230 rfl) rfl
theorem q291 : (Jvm.Cond.soleField "LeftBehind" "images") ∈ lw_all := lw_g (lw_at lw_m1 231 rfl) rfl
theorem q292 : (Jvm.Cond.laysFinal "LeftBehind" "LeftBehind" "trial" "LLeftBehind$State;") ∈ lw_all := lw_g (lw_at lw_m1 232 rfl) rfl
theorem q293 : (Jvm.Cond.soleField "LeftBehind" "trial") ∈ lw_all := lw_g (lw_at lw_m1 233 rfl) rfl
theorem q294 : (Jvm.Cond.laysFinal "LeftBehind" "LeftBehind" "text" "[B") ∈ lw_all := lw_g (lw_at lw_m1 234 rfl) rfl
theorem q295 : (Jvm.Cond.soleField "LeftBehind" "text") ∈ lw_all := lw_g (lw_at lw_m1 235 rfl) rfl
theorem q296 : (Jvm.Cond.lays "LeftBehind" "LeftBehind" "typed" "I") ∈ lw_all := lw_g (lw_at lw_m1 236 rfl) rfl
theorem q297 : (Jvm.Cond.soleField "LeftBehind" "typed") ∈ lw_all := lw_g (lw_at lw_m1 237 rfl) rfl
theorem q298 : (Jvm.Cond.laysFinal "LeftBehind" "LeftBehind" "refused" "[I") ∈ lw_all := lw_g (lw_at lw_m1 238 rfl) rfl
theorem q299 : (Jvm.Cond.soleField "LeftBehind" "refused") ∈ lw_all := lw_g (lw_at lw_m1 239 rfl) rfl
theorem q300 : (Jvm.Cond.lays "LeftBehind" "LeftBehind" "above" "J") ∈ lw_all := lw_g (lw_at lw_m2 0 rfl) rfl
theorem q301 : (Jvm.Cond.soleField "LeftBehind" "above") ∈ lw_all := lw_g (lw_at lw_m2 1 rfl) rfl
theorem q302 : (Jvm.Cond.lays "LeftBehind" "LeftBehind" "below" "J") ∈ lw_all := lw_g (lw_at lw_m2 2 rfl) rfl
theorem q303 : (Jvm.Cond.soleField "LeftBehind" "below") ∈ lw_all := lw_g (lw_at lw_m2 3 rfl) rfl
theorem q304 : (Jvm.Cond.laysFinal "LeftBehind" "LeftBehind" "reader" "LLeftBehind$Reader;") ∈ lw_all := lw_g (lw_at lw_m2 4 rfl) rfl
theorem q305 : (Jvm.Cond.soleField "LeftBehind" "reader") ∈ lw_all := lw_g (lw_at lw_m2 5 rfl) rfl
theorem q306 : (Jvm.Cond.laysFinal "LeftBehind" "LeftBehind" "fews" "LLeftBehind$Fews;") ∈ lw_all := lw_g (lw_at lw_m2 6 rfl) rfl
theorem q307 : (Jvm.Cond.soleField "LeftBehind" "fews") ∈ lw_all := lw_g (lw_at lw_m2 7 rfl) rfl
theorem q308 : (Jvm.Cond.laysFinal "LeftBehind" "LeftBehind" "crews" "LLeftBehind$Crews;") ∈ lw_all := lw_g (lw_at lw_m2 8 rfl) rfl
theorem q309 : (Jvm.Cond.soleField "LeftBehind" "crews") ∈ lw_all := lw_g (lw_at lw_m2 9 rfl) rfl
theorem q310 : (Jvm.Cond.superclass "LeftBehind" "java/lang/Object") ∈ lw_all := lw_g (lw_at lw_m2 10 rfl) rfl
theorem q312 : (Jvm.Cond.instanceMethod ({ cls := "LeftBehind", name := "island", desc := "()I" } : Jvm.MethodName)) ∈ lw_all := lw_g (lw_at lw_m2 12 rfl) rfl
theorem q313 : (Jvm.Cond.selects "LeftBehind" ({ cls := "LeftBehind", name := "island", desc := "()I" } : Jvm.MethodName) ({ cls := "LeftBehind", name := "island", desc := "()I" } : Jvm.MethodName)) ∈ lw_all := lw_g (lw_at lw_m2 13 rfl) rfl
theorem q314 : (Jvm.Cond.code ({ cls := "LeftBehind", name := "island", desc := "()I" } : Jvm.MethodName) prog_1_method_15_code (2 : Nat) (Option.some Jvm.ClassFile.FieldType.int)) ∈ lw_all := lw_g (lw_at lw_m2 14 rfl) rfl
theorem q316 : (Jvm.Cond.instanceMethod ({ cls := "LeftBehind", name := "ship", desc := "(I)I" } : Jvm.MethodName)) ∈ lw_all := lw_g (lw_at lw_m2 16 rfl) rfl
theorem q317 : (Jvm.Cond.selects "LeftBehind" ({ cls := "LeftBehind", name := "ship", desc := "(I)I" } : Jvm.MethodName) ({ cls := "LeftBehind", name := "ship", desc := "(I)I" } : Jvm.MethodName)) ∈ lw_all := lw_g (lw_at lw_m2 17 rfl) rfl
theorem q318 : (Jvm.Cond.code ({ cls := "LeftBehind", name := "ship", desc := "(I)I" } : Jvm.MethodName) prog_1_method_16_code (2 : Nat) (Option.some Jvm.ClassFile.FieldType.int)) ∈ lw_all := lw_g (lw_at lw_m2 18 rfl) rfl
theorem q319 : (Jvm.Cond.methodLink "LeftBehind" (98 : Nat) ({ cls := "LeftBehind", name := "isKind", desc := "(I)Z" } : Jvm.MethodName)) ∈ lw_all := lw_g (lw_at lw_m2 19 rfl) rfl
theorem q320 : (Jvm.Cond.static ({ cls := "LeftBehind", name := "isKind", desc := "(I)Z" } : Jvm.MethodName)) ∈ lw_all := lw_g (lw_at lw_m2 20 rfl) rfl
theorem q321 : (Jvm.Cond.code ({ cls := "LeftBehind", name := "isKind", desc := "(I)Z" } : Jvm.MethodName) prog_1_method_8_code (1 : Nat) (Option.some Jvm.ClassFile.FieldType.boolean)) ∈ lw_all := lw_g (lw_at lw_m2 21 rfl) rfl
theorem q322 : (Jvm.Cond.constantLong "LeftBehind" (72 : Nat) (5 : Int64)) ∈ lw_all := lw_g (lw_at lw_m2 22 rfl) rfl
theorem q323 : (Jvm.Cond.methodLink "LeftBehind" (74 : Nat) ({ cls := "LeftBehind", name := "in", desc := "(JJJ)Z" } : Jvm.MethodName)) ∈ lw_all := lw_g (lw_at lw_m2 23 rfl) rfl
theorem q324 : (Jvm.Cond.static ({ cls := "LeftBehind", name := "in", desc := "(JJJ)Z" } : Jvm.MethodName)) ∈ lw_all := lw_g (lw_at lw_m2 24 rfl) rfl
theorem q325 : (Jvm.Cond.code ({ cls := "LeftBehind", name := "in", desc := "(JJJ)Z" } : Jvm.MethodName) prog_1_method_1_code (6 : Nat) (Option.some Jvm.ClassFile.FieldType.boolean)) ∈ lw_all := lw_g (lw_at lw_m2 25 rfl) rfl
theorem q326 : (Jvm.Cond.methodLink "LeftBehind" (102 : Nat) ({ cls := "LeftBehind", name := "bad", desc := "()I" } : Jvm.MethodName)) ∈ lw_all := lw_g (lw_at lw_m2 26 rfl) rfl
theorem q327 : (Jvm.Cond.privateMethod ({ cls := "LeftBehind", name := "bad", desc := "()I" } : Jvm.MethodName)) ∈ lw_tbl := lw_at lw_m2 27 rfl
theorem q328 : (Jvm.Cond.instanceMethod ({ cls := "LeftBehind", name := "bad", desc := "()I" } : Jvm.MethodName)) ∈ lw_all := lw_g (lw_at lw_m2 28 rfl) rfl
theorem q329 : (Jvm.Cond.code ({ cls := "LeftBehind", name := "bad", desc := "()I" } : Jvm.MethodName) prog_1_method_4_code (1 : Nat) (Option.some Jvm.ClassFile.FieldType.int)) ∈ lw_all := lw_g (lw_at lw_m2 29 rfl) rfl
theorem q330 : (Jvm.Cond.methodLink "LeftBehind" (68 : Nat) ({ cls := "LeftBehind", name := "refuses", desc := "(II)I" } : Jvm.MethodName)) ∈ lw_all := lw_g (lw_at lw_m2 30 rfl) rfl
theorem q331 : (Jvm.Cond.privateMethod ({ cls := "LeftBehind", name := "refuses", desc := "(II)I" } : Jvm.MethodName)) ∈ lw_tbl := lw_at lw_m2 31 rfl
theorem q332 : (Jvm.Cond.instanceMethod ({ cls := "LeftBehind", name := "refuses", desc := "(II)I" } : Jvm.MethodName)) ∈ lw_all := lw_g (lw_at lw_m2 32 rfl) rfl
theorem q333 : (Jvm.Cond.code ({ cls := "LeftBehind", name := "refuses", desc := "(II)I" } : Jvm.MethodName) prog_1_method_3_code (3 : Nat) (Option.some Jvm.ClassFile.FieldType.int)) ∈ lw_all := lw_g (lw_at lw_m2 33 rfl) rfl
theorem q334 : (Jvm.Cond.methodLink "LeftBehind" (106 : Nat) ({ cls := "LeftBehind", name := "full", desc := "()I" } : Jvm.MethodName)) ∈ lw_all := lw_g (lw_at lw_m2 34 rfl) rfl
theorem q335 : (Jvm.Cond.privateMethod ({ cls := "LeftBehind", name := "full", desc := "()I" } : Jvm.MethodName)) ∈ lw_tbl := lw_at lw_m2 35 rfl
theorem q336 : (Jvm.Cond.instanceMethod ({ cls := "LeftBehind", name := "full", desc := "()I" } : Jvm.MethodName)) ∈ lw_all := lw_g (lw_at lw_m2 36 rfl) rfl
theorem q337 : (Jvm.Cond.code ({ cls := "LeftBehind", name := "full", desc := "()I" } : Jvm.MethodName) prog_1_method_6_code (1 : Nat) (Option.some Jvm.ClassFile.FieldType.int)) ∈ lw_all := lw_g (lw_at lw_m2 37 rfl) rfl
theorem q338 : (Jvm.Cond.methodLink "LeftBehind" (109 : Nat) ({ cls := "LeftBehind$Island", name := "launches", desc := "(I)V" } : Jvm.MethodName)) ∈ lw_all := lw_g (lw_at lw_m2 38 rfl) rfl
theorem q343 : (Jvm.Cond.laysStatic "LeftBehind" "SAILS" "[LLeftBehind$Ship;") ∈ lw_tbl := lw_at lw_m2 43 rfl
theorem q345 : (Jvm.Cond.instanceMethod ({ cls := "LeftBehind", name := "man", desc := "(III)I" } : Jvm.MethodName)) ∈ lw_all := lw_g (lw_at lw_m2 45 rfl) rfl
theorem q346 : (Jvm.Cond.selects "LeftBehind" ({ cls := "LeftBehind", name := "man", desc := "(III)I" } : Jvm.MethodName) ({ cls := "LeftBehind", name := "man", desc := "(III)I" } : Jvm.MethodName)) ∈ lw_all := lw_g (lw_at lw_m2 46 rfl) rfl
theorem q347 : (Jvm.Cond.code ({ cls := "LeftBehind", name := "man", desc := "(III)I" } : Jvm.MethodName) prog_1_method_17_code (4 : Nat) (Option.some Jvm.ClassFile.FieldType.int)) ∈ lw_all := lw_g (lw_at lw_m2 47 rfl) rfl
theorem q348 : (Jvm.Cond.methodLink "LeftBehind" (113 : Nat) ({ cls := "LeftBehind", name := "isSkill", desc := "(I)Z" } : Jvm.MethodName)) ∈ lw_all := lw_g (lw_at lw_m2 48 rfl) rfl
theorem q349 : (Jvm.Cond.static ({ cls := "LeftBehind", name := "isSkill", desc := "(I)Z" } : Jvm.MethodName)) ∈ lw_all := lw_g (lw_at lw_m2 49 rfl) rfl
theorem q350 : (Jvm.Cond.code ({ cls := "LeftBehind", name := "isSkill", desc := "(I)Z" } : Jvm.MethodName) prog_1_method_9_code (1 : Nat) (Option.some Jvm.ClassFile.FieldType.boolean)) ∈ lw_all := lw_g (lw_at lw_m2 50 rfl) rfl
theorem q351 : (Jvm.Cond.constantLong "LeftBehind" (78 : Nat) (9 : Int64)) ∈ lw_all := lw_g (lw_at lw_m2 51 rfl) rfl
theorem q352 : (Jvm.Cond.methodLink "LeftBehind" (116 : Nat) ({ cls := "LeftBehind", name := "isShip", desc := "(I)Z" } : Jvm.MethodName)) ∈ lw_all := lw_g (lw_at lw_m2 52 rfl) rfl
theorem q353 : (Jvm.Cond.privateMethod ({ cls := "LeftBehind", name := "isShip", desc := "(I)Z" } : Jvm.MethodName)) ∈ lw_tbl := lw_at lw_m2 53 rfl
theorem q354 : (Jvm.Cond.instanceMethod ({ cls := "LeftBehind", name := "isShip", desc := "(I)Z" } : Jvm.MethodName)) ∈ lw_all := lw_g (lw_at lw_m2 54 rfl) rfl
theorem q355 : (Jvm.Cond.code ({ cls := "LeftBehind", name := "isShip", desc := "(I)Z" } : Jvm.MethodName) prog_1_method_12_code (2 : Nat) (Option.some Jvm.ClassFile.FieldType.boolean)) ∈ lw_all := lw_g (lw_at lw_m2 55 rfl) rfl
theorem q356 : (Jvm.Cond.methodLink "LeftBehind" (119 : Nat) ({ cls := "LeftBehind$Island", name := "adds", desc := "(III)V" } : Jvm.MethodName)) ∈ lw_all := lw_g (lw_at lw_m2 56 rfl) rfl
theorem q361 : (Jvm.Cond.laysStatic "LeftBehind" "BEACH" "[LLeftBehind$Man;") ∈ lw_tbl := lw_at lw_m2 61 rfl
theorem q363 : (Jvm.Cond.instanceMethod ({ cls := "LeftBehind", name := "type", desc := "(I)I" } : Jvm.MethodName)) ∈ lw_all := lw_g (lw_at lw_m2 63 rfl) rfl
theorem q364 : (Jvm.Cond.selects "LeftBehind" ({ cls := "LeftBehind", name := "type", desc := "(I)I" } : Jvm.MethodName) ({ cls := "LeftBehind", name := "type", desc := "(I)I" } : Jvm.MethodName)) ∈ lw_all := lw_g (lw_at lw_m2 64 rfl) rfl
theorem q365 : (Jvm.Cond.code ({ cls := "LeftBehind", name := "type", desc := "(I)I" } : Jvm.MethodName) prog_1_method_18_code (2 : Nat) (Option.some Jvm.ClassFile.FieldType.int)) ∈ lw_all := lw_g (lw_at lw_m2 65 rfl) rfl
theorem q366 : (Jvm.Cond.constantLong "LeftBehind" (123 : Nat) (127 : Int64)) ∈ lw_all := lw_g (lw_at lw_m2 66 rfl) rfl
theorem q368 : (Jvm.Cond.instanceMethod ({ cls := "LeftBehind", name := "clear", desc := "()I" } : Jvm.MethodName)) ∈ lw_all := lw_g (lw_at lw_m2 68 rfl) rfl
theorem q369 : (Jvm.Cond.selects "LeftBehind" ({ cls := "LeftBehind", name := "clear", desc := "()I" } : Jvm.MethodName) ({ cls := "LeftBehind", name := "clear", desc := "()I" } : Jvm.MethodName)) ∈ lw_all := lw_g (lw_at lw_m2 69 rfl) rfl
theorem q370 : (Jvm.Cond.code ({ cls := "LeftBehind", name := "clear", desc := "()I" } : Jvm.MethodName) prog_1_method_19_code (2 : Nat) (Option.some Jvm.ClassFile.FieldType.int)) ∈ lw_all := lw_g (lw_at lw_m2 70 rfl) rfl
theorem q372 : (Jvm.Cond.instanceMethod ({ cls := "LeftBehind", name := "read", desc := "()I" } : Jvm.MethodName)) ∈ lw_all := lw_g (lw_at lw_m2 72 rfl) rfl
theorem q373 : (Jvm.Cond.selects "LeftBehind" ({ cls := "LeftBehind", name := "read", desc := "()I" } : Jvm.MethodName) ({ cls := "LeftBehind", name := "read", desc := "()I" } : Jvm.MethodName)) ∈ lw_all := lw_g (lw_at lw_m2 73 rfl) rfl
theorem q374 : (Jvm.Cond.codeWith ({ cls := "LeftBehind", name := "read", desc := "()I" } : Jvm.MethodName) prog_1_method_20_code (2 : Nat) (Option.some Jvm.ClassFile.FieldType.int) [((0 : Nat), (20 : Nat), (21 : Nat), (135 : Nat))]) ∈ lw_all := lw_g (lw_at lw_m2 74 rfl) rfl
theorem q375 : (Jvm.Cond.classLink "LeftBehind" (135 : Nat) "LeftBehind$Fault") ∈ lw_all := lw_g (lw_at lw_m2 75 rfl) rfl
theorem q376 : (Jvm.Cond.methodLink "LeftBehind" (128 : Nat) ({ cls := "LeftBehind$Reader", name := "reads", desc := "()I" } : Jvm.MethodName)) ∈ lw_all := lw_g (lw_at lw_m2 76 rfl) rfl
theorem q444 : (Jvm.Cond.fieldLinkNest "LeftBehind" (137 : Nat) "LeftBehind$Fault" "place" "I" "LeftBehind") ∈ lw_tbl := lw_at lw_m2 144 rfl
theorem q577 : (Jvm.Cond.methodLink "LeftBehind" (131 : Nat) ({ cls := "LeftBehind$Island", name := "takes", desc := "(LLeftBehind$Island;)V" } : Jvm.MethodName)) ∈ lw_all := lw_g (lw_at lw_m3 37 rfl) rfl
theorem q590 : (Jvm.Cond.instanceMethod ({ cls := "LeftBehind", name := "calls", desc := "(I)I" } : Jvm.MethodName)) ∈ lw_all := lw_g (lw_at lw_m3 50 rfl) rfl
theorem q591 : (Jvm.Cond.selects "LeftBehind" ({ cls := "LeftBehind", name := "calls", desc := "(I)I" } : Jvm.MethodName) ({ cls := "LeftBehind", name := "calls", desc := "(I)I" } : Jvm.MethodName)) ∈ lw_all := lw_g (lw_at lw_m3 51 rfl) rfl
theorem q592 : (Jvm.Cond.code ({ cls := "LeftBehind", name := "calls", desc := "(I)I" } : Jvm.MethodName) prog_1_method_21_code (2 : Nat) (Option.some Jvm.ClassFile.FieldType.int)) ∈ lw_all := lw_g (lw_at lw_m3 52 rfl) rfl
theorem q593 : (Jvm.Cond.methodLink "LeftBehind" (140 : Nat) ({ cls := "LeftBehind", name := "isManned", desc := "(I)Z" } : Jvm.MethodName)) ∈ lw_all := lw_g (lw_at lw_m3 53 rfl) rfl
theorem q594 : (Jvm.Cond.privateMethod ({ cls := "LeftBehind", name := "isManned", desc := "(I)Z" } : Jvm.MethodName)) ∈ lw_tbl := lw_at lw_m3 54 rfl
theorem q595 : (Jvm.Cond.instanceMethod ({ cls := "LeftBehind", name := "isManned", desc := "(I)Z" } : Jvm.MethodName)) ∈ lw_all := lw_g (lw_at lw_m3 55 rfl) rfl
theorem q596 : (Jvm.Cond.code ({ cls := "LeftBehind", name := "isManned", desc := "(I)Z" } : Jvm.MethodName) prog_1_method_14_code (2 : Nat) (Option.some Jvm.ClassFile.FieldType.boolean)) ∈ lw_all := lw_g (lw_at lw_m3 56 rfl) rfl
theorem q597 : (Jvm.Cond.methodLink "LeftBehind" (94 : Nat) ({ cls := "LeftBehind$Island", name := "at", desc := "(LLeftBehind$State;I)I" } : Jvm.MethodName)) ∈ lw_all := lw_g (lw_at lw_m3 57 rfl) rfl
theorem q598 : (Jvm.Cond.methodLink "LeftBehind" (143 : Nat) ({ cls := "LeftBehind", name := "no", desc := "()I" } : Jvm.MethodName)) ∈ lw_all := lw_g (lw_at lw_m3 58 rfl) rfl
theorem q599 : (Jvm.Cond.privateMethod ({ cls := "LeftBehind", name := "no", desc := "()I" } : Jvm.MethodName)) ∈ lw_tbl := lw_at lw_m3 59 rfl
theorem q600 : (Jvm.Cond.instanceMethod ({ cls := "LeftBehind", name := "no", desc := "()I" } : Jvm.MethodName)) ∈ lw_all := lw_g (lw_at lw_m3 60 rfl) rfl
theorem q601 : (Jvm.Cond.code ({ cls := "LeftBehind", name := "no", desc := "()I" } : Jvm.MethodName) prog_1_method_5_code (1 : Nat) (Option.some Jvm.ClassFile.FieldType.int)) ∈ lw_all := lw_g (lw_at lw_m3 61 rfl) rfl
theorem q602 : (Jvm.Cond.methodLink "LeftBehind" (146 : Nat) ({ cls := "LeftBehind$Island", name := "remembers", desc := "()V" } : Jvm.MethodName)) ∈ lw_all := lw_g (lw_at lw_m3 62 rfl) rfl
theorem q606 : (Jvm.Cond.methodLink "LeftBehind" (149 : Nat) ({ cls := "LeftBehind$Island", name := "calls", desc := "(LLeftBehind$State;I)I" } : Jvm.MethodName)) ∈ lw_all := lw_g (lw_at lw_m3 66 rfl) rfl
theorem q608 : (Jvm.Cond.instanceMethod ({ cls := "LeftBehind", name := "boards", desc := "(II)I" } : Jvm.MethodName)) ∈ lw_all := lw_g (lw_at lw_m3 68 rfl) rfl
theorem q609 : (Jvm.Cond.selects "LeftBehind" ({ cls := "LeftBehind", name := "boards", desc := "(II)I" } : Jvm.MethodName) ({ cls := "LeftBehind", name := "boards", desc := "(II)I" } : Jvm.MethodName)) ∈ lw_all := lw_g (lw_at lw_m3 69 rfl) rfl
theorem q610 : (Jvm.Cond.code ({ cls := "LeftBehind", name := "boards", desc := "(II)I" } : Jvm.MethodName) prog_1_method_22_code (3 : Nat) (Option.some Jvm.ClassFile.FieldType.int)) ∈ lw_all := lw_g (lw_at lw_m3 70 rfl) rfl
theorem q611 : (Jvm.Cond.methodLink "LeftBehind" (152 : Nat) ({ cls := "LeftBehind", name := "isMan", desc := "(I)Z" } : Jvm.MethodName)) ∈ lw_all := lw_g (lw_at lw_m3 71 rfl) rfl
theorem q612 : (Jvm.Cond.privateMethod ({ cls := "LeftBehind", name := "isMan", desc := "(I)Z" } : Jvm.MethodName)) ∈ lw_tbl := lw_at lw_m3 72 rfl
theorem q613 : (Jvm.Cond.instanceMethod ({ cls := "LeftBehind", name := "isMan", desc := "(I)Z" } : Jvm.MethodName)) ∈ lw_all := lw_g (lw_at lw_m3 73 rfl) rfl
theorem q614 : (Jvm.Cond.code ({ cls := "LeftBehind", name := "isMan", desc := "(I)Z" } : Jvm.MethodName) prog_1_method_13_code (2 : Nat) (Option.some Jvm.ClassFile.FieldType.boolean)) ∈ lw_all := lw_g (lw_at lw_m3 74 rfl) rfl
theorem q615 : (Jvm.Cond.methodLink "LeftBehind" (158 : Nat) ({ cls := "java/lang/Integer", name := "bitCount", desc := "(I)I" } : Jvm.MethodName)) ∈ lw_all := lw_g (lw_at lw_m3 75 rfl) rfl
theorem q622 : (Jvm.Cond.instanceMethod ({ cls := "LeftBehind", name := "undo", desc := "()I" } : Jvm.MethodName)) ∈ lw_all := lw_g (lw_at lw_m3 82 rfl) rfl
theorem q623 : (Jvm.Cond.selects "LeftBehind" ({ cls := "LeftBehind", name := "undo", desc := "()I" } : Jvm.MethodName) ({ cls := "LeftBehind", name := "undo", desc := "()I" } : Jvm.MethodName)) ∈ lw_all := lw_g (lw_at lw_m3 83 rfl) rfl
theorem q624 : (Jvm.Cond.code ({ cls := "LeftBehind", name := "undo", desc := "()I" } : Jvm.MethodName) prog_1_method_24_code (1 : Nat) (Option.some Jvm.ClassFile.FieldType.int)) ∈ lw_all := lw_g (lw_at lw_m3 84 rfl) rfl
theorem q625 : (Jvm.Cond.methodLink "LeftBehind" (171 : Nat) ({ cls := "LeftBehind$State", name := "takes", desc := "(LLeftBehind$State;)V" } : Jvm.MethodName)) ∈ lw_all := lw_g (lw_at lw_m3 85 rfl) rfl
theorem q626 : (Jvm.Cond.methodLink "LeftBehind" (174 : Nat) ({ cls := "LeftBehind", name := "ashore", desc := "()I" } : Jvm.MethodName)) ∈ lw_all := lw_g (lw_at lw_m3 86 rfl) rfl
theorem q627 : (Jvm.Cond.privateMethod ({ cls := "LeftBehind", name := "ashore", desc := "()I" } : Jvm.MethodName)) ∈ lw_tbl := lw_at lw_m3 87 rfl
theorem q628 : (Jvm.Cond.instanceMethod ({ cls := "LeftBehind", name := "ashore", desc := "()I" } : Jvm.MethodName)) ∈ lw_all := lw_g (lw_at lw_m3 88 rfl) rfl
theorem q629 : (Jvm.Cond.code ({ cls := "LeftBehind", name := "ashore", desc := "()I" } : Jvm.MethodName) prog_1_method_23_code (1 : Nat) (Option.some Jvm.ClassFile.FieldType.int)) ∈ lw_all := lw_g (lw_at lw_m3 89 rfl) rfl
theorem q631 : (Jvm.Cond.instanceMethod ({ cls := "LeftBehind", name := "of", desc := "(II)I" } : Jvm.MethodName)) ∈ lw_all := lw_g (lw_at lw_m3 91 rfl) rfl
theorem q632 : (Jvm.Cond.selects "LeftBehind" ({ cls := "LeftBehind", name := "of", desc := "(II)I" } : Jvm.MethodName) ({ cls := "LeftBehind", name := "of", desc := "(II)I" } : Jvm.MethodName)) ∈ lw_all := lw_g (lw_at lw_m3 92 rfl) rfl
theorem q633 : (Jvm.Cond.code ({ cls := "LeftBehind", name := "of", desc := "(II)I" } : Jvm.MethodName) prog_1_method_26_code (3 : Nat) (Option.some Jvm.ClassFile.FieldType.int)) ∈ lw_all := lw_g (lw_at lw_m3 93 rfl) rfl
theorem q634 : (Jvm.Cond.methodLink "LeftBehind" (191 : Nat) ({ cls := "LeftBehind$Man", name := "kind", desc := "()I" } : Jvm.MethodName)) ∈ lw_all := lw_g (lw_at lw_m3 94 rfl) rfl
theorem q654 : (Jvm.Cond.methodLink "LeftBehind" (194 : Nat) ({ cls := "LeftBehind", name := "likedNow", desc := "(I)I" } : Jvm.MethodName)) ∈ lw_all := lw_g (lw_at lw_m3 114 rfl) rfl
theorem q655 : (Jvm.Cond.privateMethod ({ cls := "LeftBehind", name := "likedNow", desc := "(I)I" } : Jvm.MethodName)) ∈ lw_tbl := lw_at lw_m3 115 rfl
theorem q656 : (Jvm.Cond.instanceMethod ({ cls := "LeftBehind", name := "likedNow", desc := "(I)I" } : Jvm.MethodName)) ∈ lw_all := lw_g (lw_at lw_m3 116 rfl) rfl
theorem q657 : (Jvm.Cond.code ({ cls := "LeftBehind", name := "likedNow", desc := "(I)I" } : Jvm.MethodName) prog_1_method_25_code (3 : Nat) (Option.some Jvm.ClassFile.FieldType.int)) ∈ lw_all := lw_g (lw_at lw_m3 117 rfl) rfl
theorem q658 : (Jvm.Cond.methodLink "LeftBehind" (186 : Nat) ({ cls := "LeftBehind$Man", name := "liked", desc := "(II)I" } : Jvm.MethodName)) ∈ lw_all := lw_g (lw_at lw_m3 118 rfl) rfl
theorem q660 : (Jvm.Cond.instanceMethod ({ cls := "LeftBehind", name := "about", desc := "(II)I" } : Jvm.MethodName)) ∈ lw_all := lw_g (lw_at lw_m3 120 rfl) rfl
theorem q661 : (Jvm.Cond.selects "LeftBehind" ({ cls := "LeftBehind", name := "about", desc := "(II)I" } : Jvm.MethodName) ({ cls := "LeftBehind", name := "about", desc := "(II)I" } : Jvm.MethodName)) ∈ lw_all := lw_g (lw_at lw_m3 121 rfl) rfl
theorem q662 : (Jvm.Cond.code ({ cls := "LeftBehind", name := "about", desc := "(II)I" } : Jvm.MethodName) prog_1_method_27_code (3 : Nat) (Option.some Jvm.ClassFile.FieldType.int)) ∈ lw_all := lw_g (lw_at lw_m3 122 rfl) rfl
theorem q663 : (Jvm.Cond.methodLink "LeftBehind" (201 : Nat) ({ cls := "LeftBehind$Ship", name := "kind", desc := "()I" } : Jvm.MethodName)) ∈ lw_all := lw_g (lw_at lw_m3 123 rfl) rfl
theorem q683 : (Jvm.Cond.methodLink "LeftBehind" (204 : Nat) ({ cls := "LeftBehind$Island", name := "skillOf", desc := "(I)I" } : Jvm.MethodName)) ∈ lw_all := lw_g (lw_at lw_m3 143 rfl) rfl
theorem q688 : (Jvm.Cond.instanceMethod ({ cls := "LeftBehind", name := "left", desc := "(I)I" } : Jvm.MethodName)) ∈ lw_all := lw_g (lw_at lw_m3 148 rfl) rfl
theorem q689 : (Jvm.Cond.selects "LeftBehind" ({ cls := "LeftBehind", name := "left", desc := "(I)I" } : Jvm.MethodName) ({ cls := "LeftBehind", name := "left", desc := "(I)I" } : Jvm.MethodName)) ∈ lw_all := lw_g (lw_at lw_m3 149 rfl) rfl
theorem q690 : (Jvm.Cond.code ({ cls := "LeftBehind", name := "left", desc := "(I)I" } : Jvm.MethodName) prog_1_method_28_code (2 : Nat) (Option.some Jvm.ClassFile.FieldType.int)) ∈ lw_all := lw_g (lw_at lw_m3 150 rfl) rfl
theorem q691 : (Jvm.Cond.methodLink "LeftBehind" (207 : Nat) ({ cls := "LeftBehind$Island", name := "left", desc := "(LLeftBehind$State;I)I" } : Jvm.MethodName)) ∈ lw_all := lw_g (lw_at lw_m3 151 rfl) rfl
theorem q693 : (Jvm.Cond.instanceMethod ({ cls := "LeftBehind", name := "needs", desc := "(II)I" } : Jvm.MethodName)) ∈ lw_all := lw_g (lw_at lw_m3 153 rfl) rfl
theorem q694 : (Jvm.Cond.selects "LeftBehind" ({ cls := "LeftBehind", name := "needs", desc := "(II)I" } : Jvm.MethodName) ({ cls := "LeftBehind", name := "needs", desc := "(II)I" } : Jvm.MethodName)) ∈ lw_all := lw_g (lw_at lw_m3 154 rfl) rfl
theorem q695 : (Jvm.Cond.code ({ cls := "LeftBehind", name := "needs", desc := "(II)I" } : Jvm.MethodName) prog_1_method_29_code (3 : Nat) (Option.some Jvm.ClassFile.FieldType.int)) ∈ lw_all := lw_g (lw_at lw_m3 155 rfl) rfl
theorem q696 : (Jvm.Cond.methodLink "LeftBehind" (210 : Nat) ({ cls := "LeftBehind", name := "isFar", desc := "(I)Z" } : Jvm.MethodName)) ∈ lw_all := lw_g (lw_at lw_m3 156 rfl) rfl
theorem q697 : (Jvm.Cond.static ({ cls := "LeftBehind", name := "isFar", desc := "(I)Z" } : Jvm.MethodName)) ∈ lw_all := lw_g (lw_at lw_m3 157 rfl) rfl
theorem q698 : (Jvm.Cond.code ({ cls := "LeftBehind", name := "isFar", desc := "(I)Z" } : Jvm.MethodName) prog_1_method_10_code (1 : Nat) (Option.some Jvm.ClassFile.FieldType.boolean)) ∈ lw_all := lw_g (lw_at lw_m3 158 rfl) rfl
theorem q699 : (Jvm.Cond.constantLong "LeftBehind" (80 : Nat) (30 : Int64)) ∈ lw_all := lw_g (lw_at lw_m3 159 rfl) rfl
theorem q700 : (Jvm.Cond.methodLink "LeftBehind" (213 : Nat) ({ cls := "LeftBehind$Island", name := "needs", desc := "(LLeftBehind$State;II)I" } : Jvm.MethodName)) ∈ lw_all := lw_g (lw_at lw_m3 160 rfl) rfl
theorem q739 : (Jvm.Cond.instanceMethod ({ cls := "LeftBehind", name := "far", desc := "(I)I" } : Jvm.MethodName)) ∈ lw_all := lw_g (lw_at lw_m3 199 rfl) rfl
theorem q740 : (Jvm.Cond.selects "LeftBehind" ({ cls := "LeftBehind", name := "far", desc := "(I)I" } : Jvm.MethodName) ({ cls := "LeftBehind", name := "far", desc := "(I)I" } : Jvm.MethodName)) ∈ lw_all := lw_g (lw_at lw_m3 200 rfl) rfl
theorem q741 : (Jvm.Cond.code ({ cls := "LeftBehind", name := "far", desc := "(I)I" } : Jvm.MethodName) prog_1_method_30_code (4 : Nat) (Option.some Jvm.ClassFile.FieldType.int)) ∈ lw_all := lw_g (lw_at lw_m3 201 rfl) rfl
theorem q742 : (Jvm.Cond.methodLink "LeftBehind" (217 : Nat) ({ cls := "LeftBehind$Island", name := "can", desc := "(LLeftBehind$State;II)Z" } : Jvm.MethodName)) ∈ lw_all := lw_g (lw_at lw_m3 202 rfl) rfl
theorem q749 : (Jvm.Cond.instanceMethod ({ cls := "LeftBehind", name := "behind", desc := "(II)I" } : Jvm.MethodName)) ∈ lw_all := lw_g (lw_at lw_m3 209 rfl) rfl
theorem q750 : (Jvm.Cond.selects "LeftBehind" ({ cls := "LeftBehind", name := "behind", desc := "(II)I" } : Jvm.MethodName) ({ cls := "LeftBehind", name := "behind", desc := "(II)I" } : Jvm.MethodName)) ∈ lw_all := lw_g (lw_at lw_m3 210 rfl) rfl
theorem q751 : (Jvm.Cond.code ({ cls := "LeftBehind", name := "behind", desc := "(II)I" } : Jvm.MethodName) prog_1_method_31_code (5 : Nat) (Option.some Jvm.ClassFile.FieldType.int)) ∈ lw_all := lw_g (lw_at lw_m3 211 rfl) rfl
theorem q752 : (Jvm.Cond.constantLong "LeftBehind" (221 : Nat) (8 : Int64)) ∈ lw_all := lw_g (lw_at lw_m3 212 rfl) rfl
theorem q754 : (Jvm.Cond.instanceMethod ({ cls := "LeftBehind", name := "lasts", desc := "(II)I" } : Jvm.MethodName)) ∈ lw_all := lw_g (lw_at lw_m3 214 rfl) rfl
theorem q755 : (Jvm.Cond.selects "LeftBehind" ({ cls := "LeftBehind", name := "lasts", desc := "(II)I" } : Jvm.MethodName) ({ cls := "LeftBehind", name := "lasts", desc := "(II)I" } : Jvm.MethodName)) ∈ lw_all := lw_g (lw_at lw_m3 215 rfl) rfl
theorem q756 : (Jvm.Cond.code ({ cls := "LeftBehind", name := "lasts", desc := "(II)I" } : Jvm.MethodName) prog_1_method_32_code (4 : Nat) (Option.some Jvm.ClassFile.FieldType.int)) ∈ lw_all := lw_g (lw_at lw_m3 216 rfl) rfl
theorem q758 : (Jvm.Cond.instanceMethod ({ cls := "LeftBehind", name := "few", desc := "(II)I" } : Jvm.MethodName)) ∈ lw_all := lw_g (lw_at lw_m3 218 rfl) rfl
theorem q759 : (Jvm.Cond.selects "LeftBehind" ({ cls := "LeftBehind", name := "few", desc := "(II)I" } : Jvm.MethodName) ({ cls := "LeftBehind", name := "few", desc := "(II)I" } : Jvm.MethodName)) ∈ lw_all := lw_g (lw_at lw_m3 219 rfl) rfl
theorem q760 : (Jvm.Cond.code ({ cls := "LeftBehind", name := "few", desc := "(II)I" } : Jvm.MethodName) prog_1_method_33_code (3 : Nat) (Option.some Jvm.ClassFile.FieldType.int)) ∈ lw_all := lw_g (lw_at lw_m3 220 rfl) rfl
theorem q761 : (Jvm.Cond.constantLong "LeftBehind" (223 : Nat) (72 : Int64)) ∈ lw_all := lw_g (lw_at lw_m3 221 rfl) rfl
theorem q762 : (Jvm.Cond.methodLink "LeftBehind" (225 : Nat) ({ cls := "LeftBehind", name := "badAsk", desc := "()I" } : Jvm.MethodName)) ∈ lw_all := lw_g (lw_at lw_m3 222 rfl) rfl
theorem q763 : (Jvm.Cond.privateMethod ({ cls := "LeftBehind", name := "badAsk", desc := "()I" } : Jvm.MethodName)) ∈ lw_tbl := lw_at lw_m3 223 rfl
theorem q764 : (Jvm.Cond.instanceMethod ({ cls := "LeftBehind", name := "badAsk", desc := "()I" } : Jvm.MethodName)) ∈ lw_all := lw_g (lw_at lw_m3 224 rfl) rfl
theorem q765 : (Jvm.Cond.code ({ cls := "LeftBehind", name := "badAsk", desc := "()I" } : Jvm.MethodName) prog_1_method_7_code (1 : Nat) (Option.some Jvm.ClassFile.FieldType.int)) ∈ lw_all := lw_g (lw_at lw_m3 225 rfl) rfl
theorem q766 : (Jvm.Cond.methodLink "LeftBehind" (228 : Nat) ({ cls := "LeftBehind$Fews", name := "goes", desc := "(I)V" } : Jvm.MethodName)) ∈ lw_all := lw_g (lw_at lw_m3 226 rfl) rfl
theorem q782 : (Jvm.Cond.constant "LeftBehind" (234 : Nat) (1000000 : Int32)) ∈ lw_all := lw_g (lw_at lw_m4 2 rfl) rfl
theorem q784 : (Jvm.Cond.instanceMethod ({ cls := "LeftBehind", name := "crew", desc := "(II)I" } : Jvm.MethodName)) ∈ lw_all := lw_g (lw_at lw_m4 4 rfl) rfl
theorem q785 : (Jvm.Cond.selects "LeftBehind" ({ cls := "LeftBehind", name := "crew", desc := "(II)I" } : Jvm.MethodName) ({ cls := "LeftBehind", name := "crew", desc := "(II)I" } : Jvm.MethodName)) ∈ lw_all := lw_g (lw_at lw_m4 5 rfl) rfl
theorem q786 : (Jvm.Cond.code ({ cls := "LeftBehind", name := "crew", desc := "(II)I" } : Jvm.MethodName) prog_1_method_34_code (3 : Nat) (Option.some Jvm.ClassFile.FieldType.int)) ∈ lw_all := lw_g (lw_at lw_m4 6 rfl) rfl
theorem q787 : (Jvm.Cond.methodLink "LeftBehind" (238 : Nat) ({ cls := "LeftBehind$Crews", name := "goes", desc := "(I)V" } : Jvm.MethodName)) ∈ lw_all := lw_g (lw_at lw_m4 7 rfl) rfl
theorem q803 : (Jvm.Cond.instanceMethod ({ cls := "LeftBehind", name := "seen", desc := "(IIII)I" } : Jvm.MethodName)) ∈ lw_all := lw_g (lw_at lw_m4 23 rfl) rfl
theorem q804 : (Jvm.Cond.selects "LeftBehind" ({ cls := "LeftBehind", name := "seen", desc := "(IIII)I" } : Jvm.MethodName) ({ cls := "LeftBehind", name := "seen", desc := "(IIII)I" } : Jvm.MethodName)) ∈ lw_all := lw_g (lw_at lw_m4 24 rfl) rfl
theorem q805 : (Jvm.Cond.code ({ cls := "LeftBehind", name := "seen", desc := "(IIII)I" } : Jvm.MethodName) prog_1_method_35_code (6 : Nat) (Option.some Jvm.ClassFile.FieldType.int)) ∈ lw_all := lw_g (lw_at lw_m4 25 rfl) rfl
theorem q806 : (Jvm.Cond.methodLink "LeftBehind" (243 : Nat) ({ cls := "LeftBehind", name := "isLong", desc := "(I)Z" } : Jvm.MethodName)) ∈ lw_all := lw_g (lw_at lw_m4 26 rfl) rfl
theorem q807 : (Jvm.Cond.static ({ cls := "LeftBehind", name := "isLong", desc := "(I)Z" } : Jvm.MethodName)) ∈ lw_all := lw_g (lw_at lw_m4 27 rfl) rfl
theorem q808 : (Jvm.Cond.code ({ cls := "LeftBehind", name := "isLong", desc := "(I)Z" } : Jvm.MethodName) prog_1_method_11_code (1 : Nat) (Option.some Jvm.ClassFile.FieldType.boolean)) ∈ lw_all := lw_g (lw_at lw_m4 28 rfl) rfl
theorem q809 : (Jvm.Cond.constantLong "LeftBehind" (82 : Nat) (99 : Int64)) ∈ lw_all := lw_g (lw_at lw_m4 29 rfl) rfl
theorem q811 : (Jvm.Cond.instanceMethod ({ cls := "LeftBehind", name := "skilled", desc := "(II)I" } : Jvm.MethodName)) ∈ lw_all := lw_g (lw_at lw_m4 31 rfl) rfl
theorem q812 : (Jvm.Cond.selects "LeftBehind" ({ cls := "LeftBehind", name := "skilled", desc := "(II)I" } : Jvm.MethodName) ({ cls := "LeftBehind", name := "skilled", desc := "(II)I" } : Jvm.MethodName)) ∈ lw_all := lw_g (lw_at lw_m4 32 rfl) rfl
theorem q813 : (Jvm.Cond.code ({ cls := "LeftBehind", name := "skilled", desc := "(II)I" } : Jvm.MethodName) prog_1_method_37_code (7 : Nat) (Option.some Jvm.ClassFile.FieldType.int)) ∈ lw_all := lw_g (lw_at lw_m4 33 rfl) rfl
theorem q814 : (Jvm.Cond.constantLong "LeftBehind" (252 : Nat) (2 : Int64)) ∈ lw_all := lw_g (lw_at lw_m4 34 rfl) rfl
theorem q815 : (Jvm.Cond.methodLink "LeftBehind" (254 : Nat) ({ cls := "LeftBehind", name := "mayBe", desc := "(II)Z" } : Jvm.MethodName)) ∈ lw_all := lw_g (lw_at lw_m4 35 rfl) rfl
theorem q816 : (Jvm.Cond.privateMethod ({ cls := "LeftBehind", name := "mayBe", desc := "(II)Z" } : Jvm.MethodName)) ∈ lw_tbl := lw_at lw_m4 36 rfl
theorem q817 : (Jvm.Cond.instanceMethod ({ cls := "LeftBehind", name := "mayBe", desc := "(II)Z" } : Jvm.MethodName)) ∈ lw_all := lw_g (lw_at lw_m4 37 rfl) rfl
theorem q818 : (Jvm.Cond.code ({ cls := "LeftBehind", name := "mayBe", desc := "(II)Z" } : Jvm.MethodName) prog_1_method_36_code (7 : Nat) (Option.some Jvm.ClassFile.FieldType.boolean)) ∈ lw_all := lw_g (lw_at lw_m4 38 rfl) rfl
theorem q820 : (Jvm.Cond.instanceMethod ({ cls := "LeftBehind", name := "tell", desc := "(I)I" } : Jvm.MethodName)) ∈ lw_all := lw_g (lw_at lw_m4 40 rfl) rfl
theorem q821 : (Jvm.Cond.selects "LeftBehind" ({ cls := "LeftBehind", name := "tell", desc := "(I)I" } : Jvm.MethodName) ({ cls := "LeftBehind", name := "tell", desc := "(I)I" } : Jvm.MethodName)) ∈ lw_all := lw_g (lw_at lw_m4 41 rfl) rfl
theorem q822 : (Jvm.Cond.code ({ cls := "LeftBehind", name := "tell", desc := "(I)I" } : Jvm.MethodName) prog_1_method_39_code (7 : Nat) (Option.some Jvm.ClassFile.FieldType.int)) ∈ lw_all := lw_g (lw_at lw_m4 42 rfl) rfl
theorem q823 : (Jvm.Cond.methodLink "LeftBehind" (263 : Nat) ({ cls := "LeftBehind", name := "skilled", desc := "(II)I" } : Jvm.MethodName)) ∈ lw_all := lw_g (lw_at lw_m4 43 rfl) rfl
theorem q824 : (Jvm.Cond.methodLink "LeftBehind" (266 : Nat) ({ cls := "LeftBehind", name := "parts", desc := "(III)I" } : Jvm.MethodName)) ∈ lw_all := lw_g (lw_at lw_m4 44 rfl) rfl
theorem q825 : (Jvm.Cond.privateMethod ({ cls := "LeftBehind", name := "parts", desc := "(III)I" } : Jvm.MethodName)) ∈ lw_tbl := lw_at lw_m4 45 rfl
theorem q826 : (Jvm.Cond.instanceMethod ({ cls := "LeftBehind", name := "parts", desc := "(III)I" } : Jvm.MethodName)) ∈ lw_all := lw_g (lw_at lw_m4 46 rfl) rfl
theorem q827 : (Jvm.Cond.code ({ cls := "LeftBehind", name := "parts", desc := "(III)I" } : Jvm.MethodName) prog_1_method_38_code (6 : Nat) (Option.some Jvm.ClassFile.FieldType.int)) ∈ lw_all := lw_g (lw_at lw_m4 47 rfl) rfl
theorem q828 : (Jvm.Cond.methodLink "LeftBehind" (258 : Nat) ({ cls := "java/lang/Math", name := "max", desc := "(II)I" } : Jvm.MethodName)) ∈ lw_all := lw_g (lw_at lw_m4 48 rfl) rfl
theorem q829 : (Jvm.Cond.methodLink "LeftBehind" (270 : Nat) ({ cls := "java/lang/Math", name := "min", desc := "(II)I" } : Jvm.MethodName)) ∈ lw_all := lw_g (lw_at lw_m4 49 rfl) rfl
theorem q831 : (Jvm.Cond.instanceMethod ({ cls := "LeftBehind", name := "note", desc := "(IIII)I" } : Jvm.MethodName)) ∈ lw_all := lw_g (lw_at lw_m4 51 rfl) rfl
theorem q832 : (Jvm.Cond.selects "LeftBehind" ({ cls := "LeftBehind", name := "note", desc := "(IIII)I" } : Jvm.MethodName) ({ cls := "LeftBehind", name := "note", desc := "(IIII)I" } : Jvm.MethodName)) ∈ lw_all := lw_g (lw_at lw_m4 52 rfl) rfl
theorem q833 : (Jvm.Cond.code ({ cls := "LeftBehind", name := "note", desc := "(IIII)I" } : Jvm.MethodName) prog_1_method_40_code (6 : Nat) (Option.some Jvm.ClassFile.FieldType.int)) ∈ lw_all := lw_g (lw_at lw_m4 53 rfl) rfl
theorem q835 : (Jvm.Cond.instanceMethod ({ cls := "LeftBehind", name := "mark", desc := "(IIII)I" } : Jvm.MethodName)) ∈ lw_all := lw_g (lw_at lw_m4 55 rfl) rfl
theorem q836 : (Jvm.Cond.selects "LeftBehind" ({ cls := "LeftBehind", name := "mark", desc := "(IIII)I" } : Jvm.MethodName) ({ cls := "LeftBehind", name := "mark", desc := "(IIII)I" } : Jvm.MethodName)) ∈ lw_all := lw_g (lw_at lw_m4 56 rfl) rfl
theorem q837 : (Jvm.Cond.code ({ cls := "LeftBehind", name := "mark", desc := "(IIII)I" } : Jvm.MethodName) prog_1_method_41_code (6 : Nat) (Option.some Jvm.ClassFile.FieldType.int)) ∈ lw_all := lw_g (lw_at lw_m4 57 rfl) rfl
theorem q838 : (Jvm.Cond.constantLong "LeftBehind" (279 : Nat) (40 : Int64)) ∈ lw_all := lw_g (lw_at lw_m4 58 rfl) rfl
theorem q840 : (Jvm.Cond.instanceMethod ({ cls := "LeftBehind", name := "forget", desc := "(I)I" } : Jvm.MethodName)) ∈ lw_all := lw_g (lw_at lw_m4 60 rfl) rfl
theorem q841 : (Jvm.Cond.selects "LeftBehind" ({ cls := "LeftBehind", name := "forget", desc := "(I)I" } : Jvm.MethodName) ({ cls := "LeftBehind", name := "forget", desc := "(I)I" } : Jvm.MethodName)) ∈ lw_all := lw_g (lw_at lw_m4 61 rfl) rfl
theorem q842 : (Jvm.Cond.code ({ cls := "LeftBehind", name := "forget", desc := "(I)I" } : Jvm.MethodName) prog_1_method_42_code (3 : Nat) (Option.some Jvm.ClassFile.FieldType.int)) ∈ lw_all := lw_g (lw_at lw_m4 62 rfl) rfl
theorem q844 : (Jvm.Cond.instanceMethod ({ cls := "LeftBehind", name := "is", desc := "(I)I" } : Jvm.MethodName)) ∈ lw_all := lw_g (lw_at lw_m4 64 rfl) rfl
theorem q845 : (Jvm.Cond.selects "LeftBehind" ({ cls := "LeftBehind", name := "is", desc := "(I)I" } : Jvm.MethodName) ({ cls := "LeftBehind", name := "is", desc := "(I)I" } : Jvm.MethodName)) ∈ lw_all := lw_g (lw_at lw_m4 65 rfl) rfl
theorem q846 : (Jvm.Cond.code ({ cls := "LeftBehind", name := "is", desc := "(I)I" } : Jvm.MethodName) prog_1_method_44_code (2 : Nat) (Option.some Jvm.ClassFile.FieldType.int)) ∈ lw_all := lw_g (lw_at lw_m4 66 rfl) rfl
theorem q847 : (Jvm.Cond.methodLink "LeftBehind" (292 : Nat) ({ cls := "LeftBehind", name := "sailsOf", desc := "(I)I" } : Jvm.MethodName)) ∈ lw_all := lw_g (lw_at lw_m4 67 rfl) rfl
theorem q848 : (Jvm.Cond.privateMethod ({ cls := "LeftBehind", name := "sailsOf", desc := "(I)I" } : Jvm.MethodName)) ∈ lw_tbl := lw_at lw_m4 68 rfl
theorem q849 : (Jvm.Cond.instanceMethod ({ cls := "LeftBehind", name := "sailsOf", desc := "(I)I" } : Jvm.MethodName)) ∈ lw_all := lw_g (lw_at lw_m4 69 rfl) rfl
theorem q850 : (Jvm.Cond.code ({ cls := "LeftBehind", name := "sailsOf", desc := "(I)I" } : Jvm.MethodName) prog_1_method_43_code (8 : Nat) (Option.some Jvm.ClassFile.FieldType.int)) ∈ lw_all := lw_g (lw_at lw_m4 70 rfl) rfl
theorem q851 : (Jvm.Cond.fieldLink "LeftBehind" (287 : Nat) "LeftBehind" "SAILS" "[LLeftBehind$Ship;") ∈ lw_all := lw_g (lw_at lw_m4 71 rfl) rfl
theorem q852 : (Jvm.Cond.methodLink "LeftBehind" (290 : Nat) ({ cls := "LeftBehind$Ship", name := "needs", desc := "(II)I" } : Jvm.MethodName)) ∈ lw_all := lw_g (lw_at lw_m4 72 rfl) rfl
theorem q854 : (Jvm.Cond.instanceMethod ({ cls := "LeftBehind", name := "look", desc := "(I)I" } : Jvm.MethodName)) ∈ lw_all := lw_g (lw_at lw_m4 74 rfl) rfl
theorem q855 : (Jvm.Cond.selects "LeftBehind" ({ cls := "LeftBehind", name := "look", desc := "(I)I" } : Jvm.MethodName) ({ cls := "LeftBehind", name := "look", desc := "(I)I" } : Jvm.MethodName)) ∈ lw_all := lw_g (lw_at lw_m4 75 rfl) rfl
theorem q856 : (Jvm.Cond.code ({ cls := "LeftBehind", name := "look", desc := "(I)I" } : Jvm.MethodName) prog_1_method_46_code (7 : Nat) (Option.some Jvm.ClassFile.FieldType.int)) ∈ lw_all := lw_g (lw_at lw_m4 76 rfl) rfl
theorem q857 : (Jvm.Cond.methodLink "LeftBehind" (295 : Nat) ({ cls := "LeftBehind", name := "needAlike", desc := "(II)I" } : Jvm.MethodName)) ∈ lw_all := lw_g (lw_at lw_m4 77 rfl) rfl
theorem q858 : (Jvm.Cond.static ({ cls := "LeftBehind", name := "needAlike", desc := "(II)I" } : Jvm.MethodName)) ∈ lw_all := lw_g (lw_at lw_m4 78 rfl) rfl
theorem q859 : (Jvm.Cond.code ({ cls := "LeftBehind", name := "needAlike", desc := "(II)I" } : Jvm.MethodName) prog_1_method_45_code (7 : Nat) (Option.some Jvm.ClassFile.FieldType.int)) ∈ lw_all := lw_g (lw_at lw_m4 79 rfl) rfl
theorem q861 : (Jvm.Cond.instanceMethod ({ cls := "LeftBehind", name := "kinds", desc := "(I)I" } : Jvm.MethodName)) ∈ lw_all := lw_g (lw_at lw_m4 81 rfl) rfl
theorem q862 : (Jvm.Cond.selects "LeftBehind" ({ cls := "LeftBehind", name := "kinds", desc := "(I)I" } : Jvm.MethodName) ({ cls := "LeftBehind", name := "kinds", desc := "(I)I" } : Jvm.MethodName)) ∈ lw_all := lw_g (lw_at lw_m4 82 rfl) rfl
theorem q863 : (Jvm.Cond.code ({ cls := "LeftBehind", name := "kinds", desc := "(I)I" } : Jvm.MethodName) prog_1_method_48_code (2 : Nat) (Option.some Jvm.ClassFile.FieldType.int)) ∈ lw_all := lw_g (lw_at lw_m4 83 rfl) rfl
theorem q864 : (Jvm.Cond.methodLink "LeftBehind" (301 : Nat) ({ cls := "LeftBehind", name := "beachOf", desc := "(I)I" } : Jvm.MethodName)) ∈ lw_all := lw_g (lw_at lw_m4 84 rfl) rfl
theorem q865 : (Jvm.Cond.privateMethod ({ cls := "LeftBehind", name := "beachOf", desc := "(I)I" } : Jvm.MethodName)) ∈ lw_tbl := lw_at lw_m4 85 rfl
theorem q866 : (Jvm.Cond.instanceMethod ({ cls := "LeftBehind", name := "beachOf", desc := "(I)I" } : Jvm.MethodName)) ∈ lw_all := lw_g (lw_at lw_m4 86 rfl) rfl
theorem q867 : (Jvm.Cond.code ({ cls := "LeftBehind", name := "beachOf", desc := "(I)I" } : Jvm.MethodName) prog_1_method_47_code (8 : Nat) (Option.some Jvm.ClassFile.FieldType.int)) ∈ lw_all := lw_g (lw_at lw_m4 87 rfl) rfl
theorem q868 : (Jvm.Cond.fieldLink "LeftBehind" (298 : Nat) "LeftBehind" "BEACH" "[LLeftBehind$Man;") ∈ lw_all := lw_g (lw_at lw_m4 88 rfl) rfl
theorem q870 : (Jvm.Cond.instanceMethod ({ cls := "LeftBehind", name := "ask", desc := "(I)I" } : Jvm.MethodName)) ∈ lw_all := lw_g (lw_at lw_m4 90 rfl) rfl
theorem q871 : (Jvm.Cond.selects "LeftBehind" ({ cls := "LeftBehind", name := "ask", desc := "(I)I" } : Jvm.MethodName) ({ cls := "LeftBehind", name := "ask", desc := "(I)I" } : Jvm.MethodName)) ∈ lw_all := lw_g (lw_at lw_m4 91 rfl) rfl
theorem q872 : (Jvm.Cond.code ({ cls := "LeftBehind", name := "ask", desc := "(I)I" } : Jvm.MethodName) prog_1_method_49_code (11 : Nat) (Option.some Jvm.ClassFile.FieldType.int)) ∈ lw_all := lw_g (lw_at lw_m4 92 rfl) rfl
theorem q874 : (Jvm.Cond.instanceMethod ({ cls := "LeftBehind", name := "water", desc := "(III)I" } : Jvm.MethodName)) ∈ lw_all := lw_g (lw_at lw_m4 94 rfl) rfl
theorem q875 : (Jvm.Cond.selects "LeftBehind" ({ cls := "LeftBehind", name := "water", desc := "(III)I" } : Jvm.MethodName) ({ cls := "LeftBehind", name := "water", desc := "(III)I" } : Jvm.MethodName)) ∈ lw_all := lw_g (lw_at lw_m4 95 rfl) rfl
theorem q876 : (Jvm.Cond.code ({ cls := "LeftBehind", name := "water", desc := "(III)I" } : Jvm.MethodName) prog_1_method_52_code (9 : Nat) (Option.some Jvm.ClassFile.FieldType.int)) ∈ lw_all := lw_g (lw_at lw_m4 96 rfl) rfl
theorem q877 : (Jvm.Cond.methodLink "LeftBehind" (308 : Nat) ({ cls := "LeftBehind", name := "gets", desc := "(IIZZ)I" } : Jvm.MethodName)) ∈ lw_all := lw_g (lw_at lw_m4 97 rfl) rfl
theorem q878 : (Jvm.Cond.privateMethod ({ cls := "LeftBehind", name := "gets", desc := "(IIZZ)I" } : Jvm.MethodName)) ∈ lw_tbl := lw_at lw_m4 98 rfl
theorem q879 : (Jvm.Cond.instanceMethod ({ cls := "LeftBehind", name := "gets", desc := "(IIZZ)I" } : Jvm.MethodName)) ∈ lw_all := lw_g (lw_at lw_m4 99 rfl) rfl
theorem q880 : (Jvm.Cond.code ({ cls := "LeftBehind", name := "gets", desc := "(IIZZ)I" } : Jvm.MethodName) prog_1_method_51_code (6 : Nat) (Option.some Jvm.ClassFile.FieldType.int)) ∈ lw_all := lw_g (lw_at lw_m4 100 rfl) rfl
theorem q881 : (Jvm.Cond.methodLink "LeftBehind" (304 : Nat) ({ cls := "LeftBehind", name := "could", desc := "(IIZ)Z" } : Jvm.MethodName)) ∈ lw_all := lw_g (lw_at lw_m4 101 rfl) rfl
theorem q882 : (Jvm.Cond.privateMethod ({ cls := "LeftBehind", name := "could", desc := "(IIZ)Z" } : Jvm.MethodName)) ∈ lw_tbl := lw_at lw_m4 102 rfl
theorem q883 : (Jvm.Cond.instanceMethod ({ cls := "LeftBehind", name := "could", desc := "(IIZ)Z" } : Jvm.MethodName)) ∈ lw_all := lw_g (lw_at lw_m4 103 rfl) rfl
theorem q884 : (Jvm.Cond.code ({ cls := "LeftBehind", name := "could", desc := "(IIZ)Z" } : Jvm.MethodName) prog_1_method_50_code (4 : Nat) (Option.some Jvm.ClassFile.FieldType.boolean)) ∈ lw_all := lw_g (lw_at lw_m4 104 rfl) rfl
theorem q886 : (Jvm.Cond.instanceMethod ({ cls := "LeftBehind", name := "lots", desc := "(II)I" } : Jvm.MethodName)) ∈ lw_all := lw_g (lw_at lw_m4 106 rfl) rfl
theorem q887 : (Jvm.Cond.selects "LeftBehind" ({ cls := "LeftBehind", name := "lots", desc := "(II)I" } : Jvm.MethodName) ({ cls := "LeftBehind", name := "lots", desc := "(II)I" } : Jvm.MethodName)) ∈ lw_all := lw_g (lw_at lw_m4 107 rfl) rfl
theorem q888 : (Jvm.Cond.code ({ cls := "LeftBehind", name := "lots", desc := "(II)I" } : Jvm.MethodName) prog_1_method_54_code (9 : Nat) (Option.some Jvm.ClassFile.FieldType.int)) ∈ lw_all := lw_g (lw_at lw_m4 108 rfl) rfl
theorem q889 : (Jvm.Cond.methodLink "LeftBehind" (312 : Nat) ({ cls := "LeftBehind", name := "divisor", desc := "(JJ)J" } : Jvm.MethodName)) ∈ lw_all := lw_g (lw_at lw_m4 109 rfl) rfl
theorem q890 : (Jvm.Cond.static ({ cls := "LeftBehind", name := "divisor", desc := "(JJ)J" } : Jvm.MethodName)) ∈ lw_all := lw_g (lw_at lw_m4 110 rfl) rfl
theorem q891 : (Jvm.Cond.code ({ cls := "LeftBehind", name := "divisor", desc := "(JJ)J" } : Jvm.MethodName) prog_1_method_53_code (10 : Nat) (Option.some Jvm.ClassFile.FieldType.long)) ∈ lw_all := lw_g (lw_at lw_m4 111 rfl) rfl
theorem q893 : (Jvm.Cond.instanceMethod ({ cls := "LeftBehind", name := "centuries", desc := "(II)I" } : Jvm.MethodName)) ∈ lw_all := lw_g (lw_at lw_m4 113 rfl) rfl
theorem q894 : (Jvm.Cond.selects "LeftBehind" ({ cls := "LeftBehind", name := "centuries", desc := "(II)I" } : Jvm.MethodName) ({ cls := "LeftBehind", name := "centuries", desc := "(II)I" } : Jvm.MethodName)) ∈ lw_all := lw_g (lw_at lw_m4 114 rfl) rfl
theorem q895 : (Jvm.Cond.code ({ cls := "LeftBehind", name := "centuries", desc := "(II)I" } : Jvm.MethodName) prog_1_method_56_code (7 : Nat) (Option.some Jvm.ClassFile.FieldType.int)) ∈ lw_all := lw_g (lw_at lw_m4 115 rfl) rfl
theorem q896 : (Jvm.Cond.constantLong "LeftBehind" (319 : Nat) (999999 : Int64)) ∈ lw_all := lw_g (lw_at lw_m4 116 rfl) rfl
theorem q897 : (Jvm.Cond.constantLong "LeftBehind" (321 : Nat) (60 : Int64)) ∈ lw_all := lw_g (lw_at lw_m4 117 rfl) rfl
theorem q898 : (Jvm.Cond.constantLong "LeftBehind" (323 : Nat) (1103515245 : Int64)) ∈ lw_all := lw_g (lw_at lw_m4 118 rfl) rfl
theorem q899 : (Jvm.Cond.constantLong "LeftBehind" (325 : Nat) (12345 : Int64)) ∈ lw_all := lw_g (lw_at lw_m4 119 rfl) rfl
theorem q900 : (Jvm.Cond.constantLong "LeftBehind" (327 : Nat) (2147483648 : Int64)) ∈ lw_all := lw_g (lw_at lw_m4 120 rfl) rfl
theorem q901 : (Jvm.Cond.constantLong "LeftBehind" (329 : Nat) (65536 : Int64)) ∈ lw_all := lw_g (lw_at lw_m4 121 rfl) rfl
theorem q902 : (Jvm.Cond.constantLong "LeftBehind" (331 : Nat) (3 : Int64)) ∈ lw_all := lw_g (lw_at lw_m4 122 rfl) rfl
theorem q903 : (Jvm.Cond.constantLong "LeftBehind" (333 : Nat) (1048576 : Int64)) ∈ lw_all := lw_g (lw_at lw_m4 123 rfl) rfl
theorem q904 : (Jvm.Cond.constantLong "LeftBehind" (335 : Nat) (16 : Int64)) ∈ lw_all := lw_g (lw_at lw_m4 124 rfl) rfl
theorem q905 : (Jvm.Cond.methodLink "LeftBehind" (337 : Nat) ({ cls := "LeftBehind", name := "turns", desc := "(II)V" } : Jvm.MethodName)) ∈ lw_all := lw_g (lw_at lw_m4 125 rfl) rfl
theorem q906 : (Jvm.Cond.privateMethod ({ cls := "LeftBehind", name := "turns", desc := "(II)V" } : Jvm.MethodName)) ∈ lw_tbl := lw_at lw_m4 126 rfl
theorem q907 : (Jvm.Cond.instanceMethod ({ cls := "LeftBehind", name := "turns", desc := "(II)V" } : Jvm.MethodName)) ∈ lw_all := lw_g (lw_at lw_m4 127 rfl) rfl
theorem q908 : (Jvm.Cond.code ({ cls := "LeftBehind", name := "turns", desc := "(II)V" } : Jvm.MethodName) prog_1_method_55_code (3 : Nat) (Option.none : Option Jvm.ClassFile.FieldType)) ∈ lw_all := lw_g (lw_at lw_m4 128 rfl) rfl
theorem q910 : (Jvm.Cond.instanceMethod ({ cls := "LeftBehind", name := "part", desc := "(I)J" } : Jvm.MethodName)) ∈ lw_all := lw_g (lw_at lw_m4 130 rfl) rfl
theorem q911 : (Jvm.Cond.selects "LeftBehind" ({ cls := "LeftBehind", name := "part", desc := "(I)J" } : Jvm.MethodName) ({ cls := "LeftBehind", name := "part", desc := "(I)J" } : Jvm.MethodName)) ∈ lw_all := lw_g (lw_at lw_m4 131 rfl) rfl
theorem q912 : (Jvm.Cond.code ({ cls := "LeftBehind", name := "part", desc := "(I)J" } : Jvm.MethodName) prog_1_method_57_code (2 : Nat) (Option.some Jvm.ClassFile.FieldType.long)) ∈ lw_all := lw_g (lw_at lw_m4 132 rfl) rfl
theorem q914 : (Jvm.Cond.instanceMethod ({ cls := "LeftBehind", name := "image", desc := "(I)I" } : Jvm.MethodName)) ∈ lw_all := lw_g (lw_at lw_m4 134 rfl) rfl
theorem q915 : (Jvm.Cond.selects "LeftBehind" ({ cls := "LeftBehind", name := "image", desc := "(I)I" } : Jvm.MethodName) ({ cls := "LeftBehind", name := "image", desc := "(I)I" } : Jvm.MethodName)) ∈ lw_all := lw_g (lw_at lw_m4 135 rfl) rfl
theorem q916 : (Jvm.Cond.code ({ cls := "LeftBehind", name := "image", desc := "(I)I" } : Jvm.MethodName) prog_1_method_58_code (2 : Nat) (Option.some Jvm.ClassFile.FieldType.int)) ∈ lw_all := lw_g (lw_at lw_m4 136 rfl) rfl
theorem q918 : (Jvm.Cond.instanceMethod ({ cls := "LeftBehind", name := "from", desc := "(I)I" } : Jvm.MethodName)) ∈ lw_all := lw_g (lw_at lw_m4 138 rfl) rfl
theorem q919 : (Jvm.Cond.selects "LeftBehind" ({ cls := "LeftBehind", name := "from", desc := "(I)I" } : Jvm.MethodName) ({ cls := "LeftBehind", name := "from", desc := "(I)I" } : Jvm.MethodName)) ∈ lw_all := lw_g (lw_at lw_m4 139 rfl) rfl
theorem q920 : (Jvm.Cond.code ({ cls := "LeftBehind", name := "from", desc := "(I)I" } : Jvm.MethodName) prog_1_method_59_code (2 : Nat) (Option.some Jvm.ClassFile.FieldType.int)) ∈ lw_all := lw_g (lw_at lw_m4 140 rfl) rfl
theorem q922 : (Jvm.Cond.instanceMethod ({ cls := "LeftBehind", name := "status", desc := "(I)I" } : Jvm.MethodName)) ∈ lw_all := lw_g (lw_at lw_m4 142 rfl) rfl
theorem q923 : (Jvm.Cond.selects "LeftBehind" ({ cls := "LeftBehind", name := "status", desc := "(I)I" } : Jvm.MethodName) ({ cls := "LeftBehind", name := "status", desc := "(I)I" } : Jvm.MethodName)) ∈ lw_all := lw_g (lw_at lw_m4 143 rfl) rfl
theorem q924 : (Jvm.Cond.code ({ cls := "LeftBehind", name := "status", desc := "(I)I" } : Jvm.MethodName) prog_1_method_60_code (2 : Nat) (Option.some Jvm.ClassFile.FieldType.int)) ∈ lw_all := lw_g (lw_at lw_m4 144 rfl) rfl
theorem q926 : (Jvm.Cond.instanceMethod ({ cls := "LeftBehind", name := "count", desc := "(I)I" } : Jvm.MethodName)) ∈ lw_all := lw_g (lw_at lw_m4 146 rfl) rfl
theorem q927 : (Jvm.Cond.selects "LeftBehind" ({ cls := "LeftBehind", name := "count", desc := "(I)I" } : Jvm.MethodName) ({ cls := "LeftBehind", name := "count", desc := "(I)I" } : Jvm.MethodName)) ∈ lw_all := lw_g (lw_at lw_m4 147 rfl) rfl
theorem q928 : (Jvm.Cond.code ({ cls := "LeftBehind", name := "count", desc := "(I)I" } : Jvm.MethodName) prog_1_method_63_code (2 : Nat) (Option.some Jvm.ClassFile.FieldType.int)) ∈ lw_all := lw_g (lw_at lw_m4 148 rfl) rfl
theorem q929 : (Jvm.Cond.methodLink "LeftBehind" (344 : Nat) ({ cls := "LeftBehind", name := "countOf", desc := "(I)I" } : Jvm.MethodName)) ∈ lw_all := lw_g (lw_at lw_m4 149 rfl) rfl
theorem q930 : (Jvm.Cond.privateMethod ({ cls := "LeftBehind", name := "countOf", desc := "(I)I" } : Jvm.MethodName)) ∈ lw_tbl := lw_at lw_m4 150 rfl
theorem q931 : (Jvm.Cond.instanceMethod ({ cls := "LeftBehind", name := "countOf", desc := "(I)I" } : Jvm.MethodName)) ∈ lw_all := lw_g (lw_at lw_m4 151 rfl) rfl
theorem q932 : (Jvm.Cond.code ({ cls := "LeftBehind", name := "countOf", desc := "(I)I" } : Jvm.MethodName) prog_1_method_62_code (2 : Nat) (Option.some Jvm.ClassFile.FieldType.int)) ∈ lw_all := lw_g (lw_at lw_m4 152 rfl) rfl
theorem q933 : (Jvm.Cond.methodLink "LeftBehind" (341 : Nat) ({ cls := "LeftBehind", name := "allCalls", desc := "()I" } : Jvm.MethodName)) ∈ lw_all := lw_g (lw_at lw_m4 153 rfl) rfl
theorem q934 : (Jvm.Cond.privateMethod ({ cls := "LeftBehind", name := "allCalls", desc := "()I" } : Jvm.MethodName)) ∈ lw_tbl := lw_at lw_m4 154 rfl
theorem q935 : (Jvm.Cond.instanceMethod ({ cls := "LeftBehind", name := "allCalls", desc := "()I" } : Jvm.MethodName)) ∈ lw_all := lw_g (lw_at lw_m4 155 rfl) rfl
theorem q936 : (Jvm.Cond.code ({ cls := "LeftBehind", name := "allCalls", desc := "()I" } : Jvm.MethodName) prog_1_method_61_code (3 : Nat) (Option.some Jvm.ClassFile.FieldType.int)) ∈ lw_all := lw_g (lw_at lw_m4 156 rfl) rfl
theorem q938 : (Jvm.Cond.instanceMethod ({ cls := "LeftBehind", name := "digest", desc := "()J" } : Jvm.MethodName)) ∈ lw_all := lw_g (lw_at lw_m4 158 rfl) rfl
theorem q939 : (Jvm.Cond.selects "LeftBehind" ({ cls := "LeftBehind", name := "digest", desc := "()J" } : Jvm.MethodName) ({ cls := "LeftBehind", name := "digest", desc := "()J" } : Jvm.MethodName)) ∈ lw_all := lw_g (lw_at lw_m4 159 rfl) rfl
theorem q940 : (Jvm.Cond.code ({ cls := "LeftBehind", name := "digest", desc := "()J" } : Jvm.MethodName) prog_1_method_64_code (5 : Nat) (Option.some Jvm.ClassFile.FieldType.long)) ∈ lw_all := lw_g (lw_at lw_m4 160 rfl) rfl
theorem q941 : (Jvm.Cond.constantLong "LeftBehind" (347 : Nat) (1721 : Int64)) ∈ lw_all := lw_g (lw_at lw_m4 161 rfl) rfl
theorem q942 : (Jvm.Cond.constantLong "LeftBehind" (349 : Nat) (31 : Int64)) ∈ lw_all := lw_g (lw_at lw_m4 162 rfl) rfl
theorem q943 : (Jvm.Cond.methodLink "LeftBehind" (351 : Nat) ({ cls := "LeftBehind", name := "of", desc := "(II)I" } : Jvm.MethodName)) ∈ lw_all := lw_g (lw_at lw_m4 163 rfl) rfl
theorem in_X0 : ∀ w ∈ wsX00, w ∈ lw_all := lw_in wsX00 [286, 288, 290, 292, 294, 296, 298, 300, 302, 304, 306, 308] (by decide +kernel) (by decide +kernel)
