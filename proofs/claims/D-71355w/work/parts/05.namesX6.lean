/-! LeftBehindModel -/
set_option maxRecDepth 100000
def RX6 : String := "LeftBehindModel"
def TX6 : u_T := fun k => match k with
  | 0 => ("LeftBehindModel", "all", "[I", true)
  | 1 => ("LeftBehindModel", "kept", "[I", true)
  | 2 => ("LeftBehindModel", "isKept", "[Z", true)
  | 3 => ("LeftBehindModel", "refused", "[I", true)
  | 4 => ("LeftBehindModel", "above", "J", false)
  | 5 => ("LeftBehindModel", "below", "J", false)
  | 6 => ("LeftBehindModel", "hand", "[I", true)
  | 7 => ("LeftBehindModel", "makes", "[I", true)
  | 8 => ("LeftBehindModel", "bestMakes", "[I", true)
  | 9 => ("LeftBehindModel", "goesTo", "[I", true)
  | 10 => ("LeftBehindModel", "tells", "[I", true)
  | 11 => ("LeftBehindModel", "bytes", "[I", true)
  | 12 => ("LeftBehindModel", "bytesLong", "I", false)
  | 13 => ("LeftBehindModel", "tokenAt", "I", false)
  | 14 => ("LeftBehindModel", "tokenLong", "I", false)
  | 15 => ("LeftBehindModel", "token", "I", false)
  | 16 => ("LeftBehindModel", "value", "I", false)
  | 17 => ("LeftBehindModel", "anew", "[I", true)
  | _ => ("LeftBehindModel", "values", "[I", true)
def tyX6 : Nat → FieldType := fun k => match k with
  | 0 => .array .int
  | 1 => .array .int
  | 2 => .array .boolean
  | 3 => .array .int
  | 4 => .long
  | 5 => .long
  | 6 => .array .int
  | 7 => .array .int
  | 8 => .array .int
  | 9 => .array .int
  | 10 => .array .int
  | 11 => .array .int
  | 12 => .int
  | 13 => .int
  | 14 => .int
  | 15 => .int
  | 16 => .int
  | 17 => .array .int
  | _ => .array .int
abbrev wsX60 : List Cond := u_ws RX6 TX6 19
set_option maxRecDepth 100000 in
theorem nmX6 : ∀ a, a < 19 → ∀ b, b < 19 → a ≠ b → (TX6 a).2.1 ≠ (TX6 b).2.1 := by decide +kernel
set_option maxRecDepth 100000 in
theorem tyX6_ok : ∀ k, k < 19 → parseFieldDescriptor (TX6 k).2.2.1 = some (tyX6 k) := by decide +kernel
abbrev cX6_init : ByteArray := prog_21_method_1_code
def yX6_init : MethodName := ⟨RX6, "<init>", "()V"⟩
def dkwX6_init_4 : List UInt8 := [188, 10, 181, 0, 45, 42, 6, 188, 10, 181, 0, 48, 42, 180, 0, 7, 184, 0, 51, 177]
abbrev dktX6_init_4 : List UInt8 := dkwX6_init_4 ++ []
def dkwX6_init_3 : List UInt8 := [181, 0, 36, 42, 16, 6, 188, 10, 181, 0, 39, 42, 17, 0, 150, 188, 10, 181, 0, 42, 42, 16, 104]
abbrev dktX6_init_3 : List UInt8 := dkwX6_init_3 ++ dktX6_init_4
def dkwX6_init_2 : List UInt8 := [181, 0, 27, 42, 6, 188, 10, 181, 0, 30, 42, 6, 188, 10, 181, 0, 33, 42, 16, 8, 188, 10]
abbrev dktX6_init_2 : List UInt8 := dkwX6_init_2 ++ dktX6_init_3
def dkwX6_init_1 : List UInt8 := [188, 4, 181, 0, 16, 42, 6, 188, 10, 181, 0, 20, 42, 10, 181, 0, 23, 42, 16, 36, 188, 10]
abbrev dktX6_init_1 : List UInt8 := dkwX6_init_1 ++ dktX6_init_2
def dkwX6_init_0 : List UInt8 := [42, 183, 0, 1, 42, 17, 0, 192, 188, 10, 181, 0, 7, 42, 17, 1, 128, 188, 10, 181, 0, 13, 42, 5]
abbrev dktX6_init_0 : List UInt8 := dkwX6_init_0 ++ dktX6_init_1
theorem dksX6_init_0 : cX6_init.data.toList.drop 0 = dktX6_init_0 := by decide +kernel
theorem dksX6_init_1 : cX6_init.data.toList.drop 24 = dktX6_init_1 := dk_seg dksX6_init_0 24 rfl rfl
theorem dksX6_init_2 : cX6_init.data.toList.drop 46 = dktX6_init_2 := dk_seg dksX6_init_1 22 rfl rfl
theorem dksX6_init_3 : cX6_init.data.toList.drop 68 = dktX6_init_3 := dk_seg dksX6_init_2 22 rfl rfl
theorem dksX6_init_4 : cX6_init.data.toList.drop 91 = dktX6_init_4 := dk_seg dksX6_init_3 23 rfl rfl
theorem dX6_init_0 : decode cX6_init 0 = .ok (.aload_n 0, 1) := dk_42 (dk_at dksX6_init_0 0 rfl rfl)
theorem dX6_init_1 : decode cX6_init 1 = .ok (.invokespecial 1, 3) := dk_183 0 1 (dk_at dksX6_init_0 1 rfl rfl)
theorem dX6_init_4 : decode cX6_init 4 = .ok (.aload_n 0, 1) := dk_42 (dk_at dksX6_init_0 4 rfl rfl)
theorem dX6_init_5 : decode cX6_init 5 = .ok (.sipush 192, 3) := dk_17 0 192 (dk_at dksX6_init_0 5 rfl rfl)
theorem dX6_init_8 : decode cX6_init 8 = .ok (.newarray .int, 2) := dk_188_10 (dk_at dksX6_init_0 8 rfl rfl)
theorem dX6_init_10 : decode cX6_init 10 = .ok (.putfield 7, 3) := dk_181 0 7 (dk_at dksX6_init_0 10 rfl rfl)
theorem dX6_init_13 : decode cX6_init 13 = .ok (.aload_n 0, 1) := dk_42 (dk_at dksX6_init_0 13 rfl rfl)
theorem dX6_init_14 : decode cX6_init 14 = .ok (.sipush 384, 3) := dk_17 1 128 (dk_at dksX6_init_0 14 rfl rfl)
theorem dX6_init_17 : decode cX6_init 17 = .ok (.newarray .int, 2) := dk_188_10 (dk_at dksX6_init_0 17 rfl rfl)
theorem dX6_init_19 : decode cX6_init 19 = .ok (.putfield 13, 3) := dk_181 0 13 (dk_at dksX6_init_0 19 rfl rfl)
theorem dX6_init_22 : decode cX6_init 22 = .ok (.aload_n 0, 1) := dk_42 (dk_at dksX6_init_0 22 rfl rfl)
theorem dX6_init_23 : decode cX6_init 23 = .ok (.iconst 2, 1) := dk_5 (dk_at dksX6_init_0 23 rfl rfl)
theorem dX6_init_24 : decode cX6_init 24 = .ok (.newarray .boolean, 2) := dk_188_4 (dk_at dksX6_init_1 0 rfl rfl)
theorem dX6_init_26 : decode cX6_init 26 = .ok (.putfield 16, 3) := dk_181 0 16 (dk_at dksX6_init_1 2 rfl rfl)
theorem dX6_init_29 : decode cX6_init 29 = .ok (.aload_n 0, 1) := dk_42 (dk_at dksX6_init_1 5 rfl rfl)
theorem dX6_init_30 : decode cX6_init 30 = .ok (.iconst 3, 1) := dk_6 (dk_at dksX6_init_1 6 rfl rfl)
theorem dX6_init_31 : decode cX6_init 31 = .ok (.newarray .int, 2) := dk_188_10 (dk_at dksX6_init_1 7 rfl rfl)
theorem dX6_init_33 : decode cX6_init 33 = .ok (.putfield 20, 3) := dk_181 0 20 (dk_at dksX6_init_1 9 rfl rfl)
theorem dX6_init_36 : decode cX6_init 36 = .ok (.aload_n 0, 1) := dk_42 (dk_at dksX6_init_1 12 rfl rfl)
theorem dX6_init_37 : decode cX6_init 37 = .ok (.lconst 1, 1) := dk_10 (dk_at dksX6_init_1 13 rfl rfl)
theorem dX6_init_38 : decode cX6_init 38 = .ok (.putfield 23, 3) := dk_181 0 23 (dk_at dksX6_init_1 14 rfl rfl)
theorem dX6_init_41 : decode cX6_init 41 = .ok (.aload_n 0, 1) := dk_42 (dk_at dksX6_init_1 17 rfl rfl)
theorem dX6_init_42 : decode cX6_init 42 = .ok (.bipush 36, 2) := dk_16 36 (dk_at dksX6_init_1 18 rfl rfl)
theorem dX6_init_44 : decode cX6_init 44 = .ok (.newarray .int, 2) := dk_188_10 (dk_at dksX6_init_1 20 rfl rfl)
theorem dX6_init_46 : decode cX6_init 46 = .ok (.putfield 27, 3) := dk_181 0 27 (dk_at dksX6_init_2 0 rfl rfl)
theorem dX6_init_49 : decode cX6_init 49 = .ok (.aload_n 0, 1) := dk_42 (dk_at dksX6_init_2 3 rfl rfl)
theorem dX6_init_50 : decode cX6_init 50 = .ok (.iconst 3, 1) := dk_6 (dk_at dksX6_init_2 4 rfl rfl)
theorem dX6_init_51 : decode cX6_init 51 = .ok (.newarray .int, 2) := dk_188_10 (dk_at dksX6_init_2 5 rfl rfl)
theorem dX6_init_53 : decode cX6_init 53 = .ok (.putfield 30, 3) := dk_181 0 30 (dk_at dksX6_init_2 7 rfl rfl)
theorem dX6_init_56 : decode cX6_init 56 = .ok (.aload_n 0, 1) := dk_42 (dk_at dksX6_init_2 10 rfl rfl)
theorem dX6_init_57 : decode cX6_init 57 = .ok (.iconst 3, 1) := dk_6 (dk_at dksX6_init_2 11 rfl rfl)
theorem dX6_init_58 : decode cX6_init 58 = .ok (.newarray .int, 2) := dk_188_10 (dk_at dksX6_init_2 12 rfl rfl)
theorem dX6_init_60 : decode cX6_init 60 = .ok (.putfield 33, 3) := dk_181 0 33 (dk_at dksX6_init_2 14 rfl rfl)
theorem dX6_init_63 : decode cX6_init 63 = .ok (.aload_n 0, 1) := dk_42 (dk_at dksX6_init_2 17 rfl rfl)
theorem dX6_init_64 : decode cX6_init 64 = .ok (.bipush 8, 2) := dk_16 8 (dk_at dksX6_init_2 18 rfl rfl)
theorem dX6_init_66 : decode cX6_init 66 = .ok (.newarray .int, 2) := dk_188_10 (dk_at dksX6_init_2 20 rfl rfl)
theorem dX6_init_68 : decode cX6_init 68 = .ok (.putfield 36, 3) := dk_181 0 36 (dk_at dksX6_init_3 0 rfl rfl)
theorem dX6_init_71 : decode cX6_init 71 = .ok (.aload_n 0, 1) := dk_42 (dk_at dksX6_init_3 3 rfl rfl)
theorem dX6_init_72 : decode cX6_init 72 = .ok (.bipush 6, 2) := dk_16 6 (dk_at dksX6_init_3 4 rfl rfl)
theorem dX6_init_74 : decode cX6_init 74 = .ok (.newarray .int, 2) := dk_188_10 (dk_at dksX6_init_3 6 rfl rfl)
theorem dX6_init_76 : decode cX6_init 76 = .ok (.putfield 39, 3) := dk_181 0 39 (dk_at dksX6_init_3 8 rfl rfl)
theorem dX6_init_79 : decode cX6_init 79 = .ok (.aload_n 0, 1) := dk_42 (dk_at dksX6_init_3 11 rfl rfl)
theorem dX6_init_80 : decode cX6_init 80 = .ok (.sipush 150, 3) := dk_17 0 150 (dk_at dksX6_init_3 12 rfl rfl)
theorem dX6_init_83 : decode cX6_init 83 = .ok (.newarray .int, 2) := dk_188_10 (dk_at dksX6_init_3 15 rfl rfl)
theorem dX6_init_85 : decode cX6_init 85 = .ok (.putfield 42, 3) := dk_181 0 42 (dk_at dksX6_init_3 17 rfl rfl)
theorem dX6_init_88 : decode cX6_init 88 = .ok (.aload_n 0, 1) := dk_42 (dk_at dksX6_init_3 20 rfl rfl)
theorem dX6_init_89 : decode cX6_init 89 = .ok (.bipush 104, 2) := dk_16 104 (dk_at dksX6_init_3 21 rfl rfl)
theorem dX6_init_91 : decode cX6_init 91 = .ok (.newarray .int, 2) := dk_188_10 (dk_at dksX6_init_4 0 rfl rfl)
theorem dX6_init_93 : decode cX6_init 93 = .ok (.putfield 45, 3) := dk_181 0 45 (dk_at dksX6_init_4 2 rfl rfl)
theorem dX6_init_96 : decode cX6_init 96 = .ok (.aload_n 0, 1) := dk_42 (dk_at dksX6_init_4 5 rfl rfl)
theorem dX6_init_97 : decode cX6_init 97 = .ok (.iconst 3, 1) := dk_6 (dk_at dksX6_init_4 6 rfl rfl)
theorem dX6_init_98 : decode cX6_init 98 = .ok (.newarray .int, 2) := dk_188_10 (dk_at dksX6_init_4 7 rfl rfl)
theorem dX6_init_100 : decode cX6_init 100 = .ok (.putfield 48, 3) := dk_181 0 48 (dk_at dksX6_init_4 9 rfl rfl)
theorem dX6_init_103 : decode cX6_init 103 = .ok (.aload_n 0, 1) := dk_42 (dk_at dksX6_init_4 12 rfl rfl)
theorem dX6_init_104 : decode cX6_init 104 = .ok (.getfield 7, 3) := dk_180 0 7 (dk_at dksX6_init_4 13 rfl rfl)
theorem dX6_init_107 : decode cX6_init 107 = .ok (.invokestatic 51, 3) := dk_184 0 51 (dk_at dksX6_init_4 16 rfl rfl)
theorem dX6_init_110 : decode cX6_init 110 = .ok (.return_, 1) := dk_177 (dk_at dksX6_init_4 19 rfl rfl)
abbrev cX6_begin : ByteArray := prog_21_method_9_code
def yX6_begin : MethodName := ⟨RX6, "begin", "([I)V"⟩
def dkwX6_begin_0 : List UInt8 := [3, 60, 27, 16, 104, 162, 0, 13, 42, 27, 3, 79, 132, 1, 1, 167, 255, 243, 177]
abbrev dktX6_begin_0 : List UInt8 := dkwX6_begin_0 ++ []
theorem dksX6_begin_0 : cX6_begin.data.toList.drop 0 = dktX6_begin_0 := by decide +kernel
theorem dX6_begin_0 : decode cX6_begin 0 = .ok (.iconst 0, 1) := dk_3 (dk_at dksX6_begin_0 0 rfl rfl)
theorem dX6_begin_1 : decode cX6_begin 1 = .ok (.istore_n 1, 1) := dk_60 (dk_at dksX6_begin_0 1 rfl rfl)
theorem dX6_begin_2 : decode cX6_begin 2 = .ok (.iload_n 1, 1) := dk_27 (dk_at dksX6_begin_0 2 rfl rfl)
theorem dX6_begin_3 : decode cX6_begin 3 = .ok (.bipush 104, 2) := dk_16 104 (dk_at dksX6_begin_0 3 rfl rfl)
theorem dX6_begin_5 : decode cX6_begin 5 = .ok (.if_icmp .ge 13, 3) := dk_162 0 13 (dk_at dksX6_begin_0 5 rfl rfl)
theorem dX6_begin_8 : decode cX6_begin 8 = .ok (.aload_n 0, 1) := dk_42 (dk_at dksX6_begin_0 8 rfl rfl)
theorem dX6_begin_9 : decode cX6_begin 9 = .ok (.iload_n 1, 1) := dk_27 (dk_at dksX6_begin_0 9 rfl rfl)
theorem dX6_begin_10 : decode cX6_begin 10 = .ok (.iconst 0, 1) := dk_3 (dk_at dksX6_begin_0 10 rfl rfl)
theorem dX6_begin_11 : decode cX6_begin 11 = .ok (.iastore, 1) := dk_79 (dk_at dksX6_begin_0 11 rfl rfl)
theorem dX6_begin_12 : decode cX6_begin 12 = .ok (.iinc 1 1, 3) := dk_132 1 1 (dk_at dksX6_begin_0 12 rfl rfl)
theorem dX6_begin_15 : decode cX6_begin 15 = .ok (.goto (-13), 3) := dk_167 255 243 (dk_at dksX6_begin_0 15 rfl rfl)
theorem dX6_begin_18 : decode cX6_begin 18 = .ok (.return_, 1) := dk_177 (dk_at dksX6_begin_0 18 rfl rfl)
abbrev cX6_island : ByteArray := prog_21_method_16_code
def yX6_island : MethodName := ⟨RX6, "island", "()I"⟩
def dkwX6_island_0 : List UInt8 := [42, 182, 0, 55, 60, 42, 180, 0, 7, 184, 0, 51, 27, 172]
abbrev dktX6_island_0 : List UInt8 := dkwX6_island_0 ++ []
theorem dksX6_island_0 : cX6_island.data.toList.drop 0 = dktX6_island_0 := by decide +kernel
theorem dX6_island_0 : decode cX6_island 0 = .ok (.aload_n 0, 1) := dk_42 (dk_at dksX6_island_0 0 rfl rfl)
theorem dX6_island_1 : decode cX6_island 1 = .ok (.invokevirtual 55, 3) := dk_182 0 55 (dk_at dksX6_island_0 1 rfl rfl)
theorem dX6_island_4 : decode cX6_island 4 = .ok (.istore_n 1, 1) := dk_60 (dk_at dksX6_island_0 4 rfl rfl)
theorem dX6_island_5 : decode cX6_island 5 = .ok (.aload_n 0, 1) := dk_42 (dk_at dksX6_island_0 5 rfl rfl)
theorem dX6_island_6 : decode cX6_island 6 = .ok (.getfield 7, 3) := dk_180 0 7 (dk_at dksX6_island_0 6 rfl rfl)
theorem dX6_island_9 : decode cX6_island 9 = .ok (.invokestatic 51, 3) := dk_184 0 51 (dk_at dksX6_island_0 9 rfl rfl)
theorem dX6_island_12 : decode cX6_island 12 = .ok (.iload_n 1, 1) := dk_27 (dk_at dksX6_island_0 12 rfl rfl)
theorem dX6_island_13 : decode cX6_island 13 = .ok (.ireturn, 1) := dk_172 (dk_at dksX6_island_0 13 rfl rfl)
abbrev cX6_many : ByteArray := prog_21_method_10_code
def yX6_many : MethodName := ⟨RX6, "many", "()I"⟩
def dkwX6_many_0 : List UInt8 := [42, 180, 0, 7, 3, 46, 172]
abbrev dktX6_many_0 : List UInt8 := dkwX6_many_0 ++ []
theorem dksX6_many_0 : cX6_many.data.toList.drop 0 = dktX6_many_0 := by decide +kernel
theorem dX6_many_0 : decode cX6_many 0 = .ok (.aload_n 0, 1) := dk_42 (dk_at dksX6_many_0 0 rfl rfl)
theorem dX6_many_1 : decode cX6_many 1 = .ok (.getfield 7, 3) := dk_180 0 7 (dk_at dksX6_many_0 1 rfl rfl)
theorem dX6_many_4 : decode cX6_many 4 = .ok (.iconst 0, 1) := dk_3 (dk_at dksX6_many_0 4 rfl rfl)
theorem dX6_many_5 : decode cX6_many 5 = .ok (.iaload, 1) := dk_46 (dk_at dksX6_many_0 5 rfl rfl)
theorem dX6_many_6 : decode cX6_many 6 = .ok (.ireturn, 1) := dk_172 (dk_at dksX6_many_0 6 rfl rfl)
abbrev cX6_ship : ByteArray := prog_21_method_17_code
def yX6_ship : MethodName := ⟨RX6, "ship", "(I)I"⟩
def dkwX6_ship_2 : List UInt8 := [4, 92, 46, 4, 96, 79, 42, 180, 0, 7, 8, 3, 79, 42, 180, 0, 7, 4, 46, 4, 100, 172]
abbrev dktX6_ship_2 : List UInt8 := dkwX6_ship_2 ++ []
def dkwX6_ship_1 : List UInt8 := [42, 182, 0, 77, 172, 42, 180, 0, 7, 16, 17, 42, 180, 0, 7, 4, 46, 96, 27, 79, 42, 180, 0, 7]
abbrev dktX6_ship_1 : List UInt8 := dkwX6_ship_1 ++ dktX6_ship_2
def dkwX6_ship_0 : List UInt8 := [27, 184, 0, 69, 154, 0, 10, 42, 16, 254, 182, 0, 73, 172, 42, 180, 0, 7, 4, 46, 6, 160, 0, 8]
abbrev dktX6_ship_0 : List UInt8 := dkwX6_ship_0 ++ dktX6_ship_1
theorem dksX6_ship_0 : cX6_ship.data.toList.drop 0 = dktX6_ship_0 := by decide +kernel
theorem dksX6_ship_1 : cX6_ship.data.toList.drop 24 = dktX6_ship_1 := dk_seg dksX6_ship_0 24 rfl rfl
theorem dksX6_ship_2 : cX6_ship.data.toList.drop 48 = dktX6_ship_2 := dk_seg dksX6_ship_1 24 rfl rfl
theorem dX6_ship_0 : decode cX6_ship 0 = .ok (.iload_n 1, 1) := dk_27 (dk_at dksX6_ship_0 0 rfl rfl)
theorem dX6_ship_1 : decode cX6_ship 1 = .ok (.invokestatic 69, 3) := dk_184 0 69 (dk_at dksX6_ship_0 1 rfl rfl)
theorem dX6_ship_4 : decode cX6_ship 4 = .ok (.ifCond .ne 10, 3) := dk_154 0 10 (dk_at dksX6_ship_0 4 rfl rfl)
theorem dX6_ship_7 : decode cX6_ship 7 = .ok (.aload_n 0, 1) := dk_42 (dk_at dksX6_ship_0 7 rfl rfl)
theorem dX6_ship_8 : decode cX6_ship 8 = .ok (.bipush (-2), 2) := dk_16 254 (dk_at dksX6_ship_0 8 rfl rfl)
theorem dX6_ship_10 : decode cX6_ship 10 = .ok (.invokevirtual 73, 3) := dk_182 0 73 (dk_at dksX6_ship_0 10 rfl rfl)
theorem dX6_ship_13 : decode cX6_ship 13 = .ok (.ireturn, 1) := dk_172 (dk_at dksX6_ship_0 13 rfl rfl)
theorem dX6_ship_14 : decode cX6_ship 14 = .ok (.aload_n 0, 1) := dk_42 (dk_at dksX6_ship_0 14 rfl rfl)
theorem dX6_ship_15 : decode cX6_ship 15 = .ok (.getfield 7, 3) := dk_180 0 7 (dk_at dksX6_ship_0 15 rfl rfl)
theorem dX6_ship_18 : decode cX6_ship 18 = .ok (.iconst 1, 1) := dk_4 (dk_at dksX6_ship_0 18 rfl rfl)
theorem dX6_ship_19 : decode cX6_ship 19 = .ok (.iaload, 1) := dk_46 (dk_at dksX6_ship_0 19 rfl rfl)
theorem dX6_ship_20 : decode cX6_ship 20 = .ok (.iconst 3, 1) := dk_6 (dk_at dksX6_ship_0 20 rfl rfl)
theorem dX6_ship_21 : decode cX6_ship 21 = .ok (.if_icmp .ne 8, 3) := dk_160 0 8 (dk_at dksX6_ship_0 21 rfl rfl)
theorem dX6_ship_24 : decode cX6_ship 24 = .ok (.aload_n 0, 1) := dk_42 (dk_at dksX6_ship_1 0 rfl rfl)
theorem dX6_ship_25 : decode cX6_ship 25 = .ok (.invokevirtual 77, 3) := dk_182 0 77 (dk_at dksX6_ship_1 1 rfl rfl)
theorem dX6_ship_28 : decode cX6_ship 28 = .ok (.ireturn, 1) := dk_172 (dk_at dksX6_ship_1 4 rfl rfl)
theorem dX6_ship_29 : decode cX6_ship 29 = .ok (.aload_n 0, 1) := dk_42 (dk_at dksX6_ship_1 5 rfl rfl)
theorem dX6_ship_30 : decode cX6_ship 30 = .ok (.getfield 7, 3) := dk_180 0 7 (dk_at dksX6_ship_1 6 rfl rfl)
theorem dX6_ship_33 : decode cX6_ship 33 = .ok (.bipush 17, 2) := dk_16 17 (dk_at dksX6_ship_1 9 rfl rfl)
theorem dX6_ship_35 : decode cX6_ship 35 = .ok (.aload_n 0, 1) := dk_42 (dk_at dksX6_ship_1 11 rfl rfl)
theorem dX6_ship_36 : decode cX6_ship 36 = .ok (.getfield 7, 3) := dk_180 0 7 (dk_at dksX6_ship_1 12 rfl rfl)
theorem dX6_ship_39 : decode cX6_ship 39 = .ok (.iconst 1, 1) := dk_4 (dk_at dksX6_ship_1 15 rfl rfl)
theorem dX6_ship_40 : decode cX6_ship 40 = .ok (.iaload, 1) := dk_46 (dk_at dksX6_ship_1 16 rfl rfl)
theorem dX6_ship_41 : decode cX6_ship 41 = .ok (.iadd, 1) := dk_96 (dk_at dksX6_ship_1 17 rfl rfl)
theorem dX6_ship_42 : decode cX6_ship 42 = .ok (.iload_n 1, 1) := dk_27 (dk_at dksX6_ship_1 18 rfl rfl)
theorem dX6_ship_43 : decode cX6_ship 43 = .ok (.iastore, 1) := dk_79 (dk_at dksX6_ship_1 19 rfl rfl)
theorem dX6_ship_44 : decode cX6_ship 44 = .ok (.aload_n 0, 1) := dk_42 (dk_at dksX6_ship_1 20 rfl rfl)
theorem dX6_ship_45 : decode cX6_ship 45 = .ok (.getfield 7, 3) := dk_180 0 7 (dk_at dksX6_ship_1 21 rfl rfl)
theorem dX6_ship_48 : decode cX6_ship 48 = .ok (.iconst 1, 1) := dk_4 (dk_at dksX6_ship_2 0 rfl rfl)
theorem dX6_ship_49 : decode cX6_ship 49 = .ok (.dup2, 1) := dk_92 (dk_at dksX6_ship_2 1 rfl rfl)
theorem dX6_ship_50 : decode cX6_ship 50 = .ok (.iaload, 1) := dk_46 (dk_at dksX6_ship_2 2 rfl rfl)
theorem dX6_ship_51 : decode cX6_ship 51 = .ok (.iconst 1, 1) := dk_4 (dk_at dksX6_ship_2 3 rfl rfl)
theorem dX6_ship_52 : decode cX6_ship 52 = .ok (.iadd, 1) := dk_96 (dk_at dksX6_ship_2 4 rfl rfl)
theorem dX6_ship_53 : decode cX6_ship 53 = .ok (.iastore, 1) := dk_79 (dk_at dksX6_ship_2 5 rfl rfl)
theorem dX6_ship_54 : decode cX6_ship 54 = .ok (.aload_n 0, 1) := dk_42 (dk_at dksX6_ship_2 6 rfl rfl)
theorem dX6_ship_55 : decode cX6_ship 55 = .ok (.getfield 7, 3) := dk_180 0 7 (dk_at dksX6_ship_2 7 rfl rfl)
theorem dX6_ship_58 : decode cX6_ship 58 = .ok (.iconst 5, 1) := dk_8 (dk_at dksX6_ship_2 10 rfl rfl)
theorem dX6_ship_59 : decode cX6_ship 59 = .ok (.iconst 0, 1) := dk_3 (dk_at dksX6_ship_2 11 rfl rfl)
theorem dX6_ship_60 : decode cX6_ship 60 = .ok (.iastore, 1) := dk_79 (dk_at dksX6_ship_2 12 rfl rfl)
theorem dX6_ship_61 : decode cX6_ship 61 = .ok (.aload_n 0, 1) := dk_42 (dk_at dksX6_ship_2 13 rfl rfl)
theorem dX6_ship_62 : decode cX6_ship 62 = .ok (.getfield 7, 3) := dk_180 0 7 (dk_at dksX6_ship_2 14 rfl rfl)
theorem dX6_ship_65 : decode cX6_ship 65 = .ok (.iconst 1, 1) := dk_4 (dk_at dksX6_ship_2 17 rfl rfl)
theorem dX6_ship_66 : decode cX6_ship 66 = .ok (.iaload, 1) := dk_46 (dk_at dksX6_ship_2 18 rfl rfl)
theorem dX6_ship_67 : decode cX6_ship 67 = .ok (.iconst 1, 1) := dk_4 (dk_at dksX6_ship_2 19 rfl rfl)
theorem dX6_ship_68 : decode cX6_ship 68 = .ok (.isub, 1) := dk_100 (dk_at dksX6_ship_2 20 rfl rfl)
theorem dX6_ship_69 : decode cX6_ship 69 = .ok (.ireturn, 1) := dk_172 (dk_at dksX6_ship_2 21 rfl rfl)
abbrev cX6_isKind : ByteArray := prog_21_method_13_code
def yX6_isKind : MethodName := ⟨RX6, "isKind", "(I)Z"⟩
def dkwX6_isKind_0 : List UInt8 := [26, 133, 9, 20, 0, 63, 184, 0, 59, 172]
abbrev dktX6_isKind_0 : List UInt8 := dkwX6_isKind_0 ++ []
theorem dksX6_isKind_0 : cX6_isKind.data.toList.drop 0 = dktX6_isKind_0 := by decide +kernel
theorem dX6_isKind_0 : decode cX6_isKind 0 = .ok (.iload_n 0, 1) := dk_26 (dk_at dksX6_isKind_0 0 rfl rfl)
theorem dX6_isKind_1 : decode cX6_isKind 1 = .ok (.i2l, 1) := dk_133 (dk_at dksX6_isKind_0 1 rfl rfl)
theorem dX6_isKind_2 : decode cX6_isKind 2 = .ok (.lconst 0, 1) := dk_9 (dk_at dksX6_isKind_0 2 rfl rfl)
theorem dX6_isKind_3 : decode cX6_isKind 3 = .ok (.ldc2_w 63, 3) := dk_20 0 63 (dk_at dksX6_isKind_0 3 rfl rfl)
theorem dX6_isKind_6 : decode cX6_isKind 6 = .ok (.invokestatic 59, 3) := dk_184 0 59 (dk_at dksX6_isKind_0 6 rfl rfl)
theorem dX6_isKind_9 : decode cX6_isKind 9 = .ok (.ireturn, 1) := dk_172 (dk_at dksX6_isKind_0 9 rfl rfl)
abbrev cX6_in : ByteArray := prog_21_method_3_code
def yX6_in : MethodName := ⟨RX6, "in", "(JJJ)Z"⟩
def dkwX6_in_0 : List UInt8 := [30, 32, 148, 155, 0, 14, 30, 22, 4, 148, 157, 0, 7, 4, 167, 0, 4, 3, 172]
abbrev dktX6_in_0 : List UInt8 := dkwX6_in_0 ++ []
theorem dksX6_in_0 : cX6_in.data.toList.drop 0 = dktX6_in_0 := by decide +kernel
theorem dX6_in_0 : decode cX6_in 0 = .ok (.lload_n 0, 1) := dk_30 (dk_at dksX6_in_0 0 rfl rfl)
theorem dX6_in_1 : decode cX6_in 1 = .ok (.lload_n 2, 1) := dk_32 (dk_at dksX6_in_0 1 rfl rfl)
theorem dX6_in_2 : decode cX6_in 2 = .ok (.lcmp, 1) := dk_148 (dk_at dksX6_in_0 2 rfl rfl)
theorem dX6_in_3 : decode cX6_in 3 = .ok (.ifCond .lt 14, 3) := dk_155 0 14 (dk_at dksX6_in_0 3 rfl rfl)
theorem dX6_in_6 : decode cX6_in 6 = .ok (.lload_n 0, 1) := dk_30 (dk_at dksX6_in_0 6 rfl rfl)
theorem dX6_in_7 : decode cX6_in 7 = .ok (.lload 4, 2) := dk_22 4 (dk_at dksX6_in_0 7 rfl rfl)
theorem dX6_in_9 : decode cX6_in 9 = .ok (.lcmp, 1) := dk_148 (dk_at dksX6_in_0 9 rfl rfl)
theorem dX6_in_10 : decode cX6_in 10 = .ok (.ifCond .gt 7, 3) := dk_157 0 7 (dk_at dksX6_in_0 10 rfl rfl)
theorem dX6_in_13 : decode cX6_in 13 = .ok (.iconst 1, 1) := dk_4 (dk_at dksX6_in_0 13 rfl rfl)
theorem dX6_in_14 : decode cX6_in 14 = .ok (.goto 4, 3) := dk_167 0 4 (dk_at dksX6_in_0 14 rfl rfl)
theorem dX6_in_17 : decode cX6_in 17 = .ok (.iconst 0, 1) := dk_3 (dk_at dksX6_in_0 17 rfl rfl)
theorem dX6_in_18 : decode cX6_in 18 = .ok (.ireturn, 1) := dk_172 (dk_at dksX6_in_0 18 rfl rfl)
abbrev cX6_bad : ByteArray := prog_21_method_4_code
def yX6_bad : MethodName := ⟨RX6, "bad", "(I)I"⟩
def dkwX6_bad_0 : List UInt8 := [42, 180, 0, 20, 3, 92, 46, 4, 96, 79, 27, 172]
abbrev dktX6_bad_0 : List UInt8 := dkwX6_bad_0 ++ []
theorem dksX6_bad_0 : cX6_bad.data.toList.drop 0 = dktX6_bad_0 := by decide +kernel
theorem dX6_bad_0 : decode cX6_bad 0 = .ok (.aload_n 0, 1) := dk_42 (dk_at dksX6_bad_0 0 rfl rfl)
theorem dX6_bad_1 : decode cX6_bad 1 = .ok (.getfield 20, 3) := dk_180 0 20 (dk_at dksX6_bad_0 1 rfl rfl)
theorem dX6_bad_4 : decode cX6_bad 4 = .ok (.iconst 0, 1) := dk_3 (dk_at dksX6_bad_0 4 rfl rfl)
theorem dX6_bad_5 : decode cX6_bad 5 = .ok (.dup2, 1) := dk_92 (dk_at dksX6_bad_0 5 rfl rfl)
theorem dX6_bad_6 : decode cX6_bad 6 = .ok (.iaload, 1) := dk_46 (dk_at dksX6_bad_0 6 rfl rfl)
theorem dX6_bad_7 : decode cX6_bad 7 = .ok (.iconst 1, 1) := dk_4 (dk_at dksX6_bad_0 7 rfl rfl)
theorem dX6_bad_8 : decode cX6_bad 8 = .ok (.iadd, 1) := dk_96 (dk_at dksX6_bad_0 8 rfl rfl)
theorem dX6_bad_9 : decode cX6_bad 9 = .ok (.iastore, 1) := dk_79 (dk_at dksX6_bad_0 9 rfl rfl)
theorem dX6_bad_10 : decode cX6_bad 10 = .ok (.iload_n 1, 1) := dk_27 (dk_at dksX6_bad_0 10 rfl rfl)
theorem dX6_bad_11 : decode cX6_bad 11 = .ok (.ireturn, 1) := dk_172 (dk_at dksX6_bad_0 11 rfl rfl)
abbrev cX6_full : ByteArray := prog_21_method_6_code
def yX6_full : MethodName := ⟨RX6, "full", "()I"⟩
def dkwX6_full_0 : List UInt8 := [42, 180, 0, 20, 5, 92, 46, 4, 96, 79, 16, 252, 172]
abbrev dktX6_full_0 : List UInt8 := dkwX6_full_0 ++ []
theorem dksX6_full_0 : cX6_full.data.toList.drop 0 = dktX6_full_0 := by decide +kernel
theorem dX6_full_0 : decode cX6_full 0 = .ok (.aload_n 0, 1) := dk_42 (dk_at dksX6_full_0 0 rfl rfl)
theorem dX6_full_1 : decode cX6_full 1 = .ok (.getfield 20, 3) := dk_180 0 20 (dk_at dksX6_full_0 1 rfl rfl)
theorem dX6_full_4 : decode cX6_full 4 = .ok (.iconst 2, 1) := dk_5 (dk_at dksX6_full_0 4 rfl rfl)
theorem dX6_full_5 : decode cX6_full 5 = .ok (.dup2, 1) := dk_92 (dk_at dksX6_full_0 5 rfl rfl)
theorem dX6_full_6 : decode cX6_full 6 = .ok (.iaload, 1) := dk_46 (dk_at dksX6_full_0 6 rfl rfl)
theorem dX6_full_7 : decode cX6_full 7 = .ok (.iconst 1, 1) := dk_4 (dk_at dksX6_full_0 7 rfl rfl)
theorem dX6_full_8 : decode cX6_full 8 = .ok (.iadd, 1) := dk_96 (dk_at dksX6_full_0 8 rfl rfl)
theorem dX6_full_9 : decode cX6_full 9 = .ok (.iastore, 1) := dk_79 (dk_at dksX6_full_0 9 rfl rfl)
theorem dX6_full_10 : decode cX6_full 10 = .ok (.bipush (-4), 2) := dk_16 252 (dk_at dksX6_full_0 10 rfl rfl)
theorem dX6_full_12 : decode cX6_full 12 = .ok (.ireturn, 1) := dk_172 (dk_at dksX6_full_0 12 rfl rfl)
abbrev cX6_man : ByteArray := prog_21_method_19_code
def yX6_man : MethodName := ⟨RX6, "man", "(III)I"⟩
def dkwX6_man_3 : List UInt8 := [100, 172]
abbrev dktX6_man_3 : List UInt8 := dkwX6_man_3 ++ []
def dkwX6_man_2 : List UInt8 := [42, 180, 0, 7, 27, 28, 29, 4, 96, 184, 0, 86, 42, 180, 0, 7, 8, 3, 79, 42, 182, 0, 55, 4]
abbrev dktX6_man_2 : List UInt8 := dkwX6_man_2 ++ dktX6_man_3
def dkwX6_man_1 : List UInt8 := [154, 0, 10, 42, 16, 254, 182, 0, 73, 172, 42, 182, 0, 55, 16, 8, 160, 0, 8, 42, 182, 0, 77, 172]
abbrev dktX6_man_1 : List UInt8 := dkwX6_man_1 ++ dktX6_man_2
def dkwX6_man_0 : List UInt8 := [27, 184, 0, 69, 153, 0, 23, 28, 184, 0, 80, 153, 0, 16, 29, 2, 159, 0, 18, 42, 29, 182, 0, 83]
abbrev dktX6_man_0 : List UInt8 := dkwX6_man_0 ++ dktX6_man_1
theorem dksX6_man_0 : cX6_man.data.toList.drop 0 = dktX6_man_0 := by decide +kernel
theorem dksX6_man_1 : cX6_man.data.toList.drop 24 = dktX6_man_1 := dk_seg dksX6_man_0 24 rfl rfl
theorem dksX6_man_2 : cX6_man.data.toList.drop 48 = dktX6_man_2 := dk_seg dksX6_man_1 24 rfl rfl
theorem dksX6_man_3 : cX6_man.data.toList.drop 72 = dktX6_man_3 := dk_seg dksX6_man_2 24 rfl rfl
theorem dX6_man_0 : decode cX6_man 0 = .ok (.iload_n 1, 1) := dk_27 (dk_at dksX6_man_0 0 rfl rfl)
theorem dX6_man_1 : decode cX6_man 1 = .ok (.invokestatic 69, 3) := dk_184 0 69 (dk_at dksX6_man_0 1 rfl rfl)
theorem dX6_man_4 : decode cX6_man 4 = .ok (.ifCond .eq 23, 3) := dk_153 0 23 (dk_at dksX6_man_0 4 rfl rfl)
theorem dX6_man_7 : decode cX6_man 7 = .ok (.iload_n 2, 1) := dk_28 (dk_at dksX6_man_0 7 rfl rfl)
theorem dX6_man_8 : decode cX6_man 8 = .ok (.invokestatic 80, 3) := dk_184 0 80 (dk_at dksX6_man_0 8 rfl rfl)
theorem dX6_man_11 : decode cX6_man 11 = .ok (.ifCond .eq 16, 3) := dk_153 0 16 (dk_at dksX6_man_0 11 rfl rfl)
theorem dX6_man_14 : decode cX6_man 14 = .ok (.iload_n 3, 1) := dk_29 (dk_at dksX6_man_0 14 rfl rfl)
theorem dX6_man_15 : decode cX6_man 15 = .ok (.iconst (-1), 1) := dk_2 (dk_at dksX6_man_0 15 rfl rfl)
theorem dX6_man_16 : decode cX6_man 16 = .ok (.if_icmp .eq 18, 3) := dk_159 0 18 (dk_at dksX6_man_0 16 rfl rfl)
theorem dX6_man_19 : decode cX6_man 19 = .ok (.aload_n 0, 1) := dk_42 (dk_at dksX6_man_0 19 rfl rfl)
theorem dX6_man_20 : decode cX6_man 20 = .ok (.iload_n 3, 1) := dk_29 (dk_at dksX6_man_0 20 rfl rfl)
theorem dX6_man_21 : decode cX6_man 21 = .ok (.invokevirtual 83, 3) := dk_182 0 83 (dk_at dksX6_man_0 21 rfl rfl)
theorem dX6_man_24 : decode cX6_man 24 = .ok (.ifCond .ne 10, 3) := dk_154 0 10 (dk_at dksX6_man_1 0 rfl rfl)
theorem dX6_man_27 : decode cX6_man 27 = .ok (.aload_n 0, 1) := dk_42 (dk_at dksX6_man_1 3 rfl rfl)
theorem dX6_man_28 : decode cX6_man 28 = .ok (.bipush (-2), 2) := dk_16 254 (dk_at dksX6_man_1 4 rfl rfl)
theorem dX6_man_30 : decode cX6_man 30 = .ok (.invokevirtual 73, 3) := dk_182 0 73 (dk_at dksX6_man_1 6 rfl rfl)
theorem dX6_man_33 : decode cX6_man 33 = .ok (.ireturn, 1) := dk_172 (dk_at dksX6_man_1 9 rfl rfl)
theorem dX6_man_34 : decode cX6_man 34 = .ok (.aload_n 0, 1) := dk_42 (dk_at dksX6_man_1 10 rfl rfl)
theorem dX6_man_35 : decode cX6_man 35 = .ok (.invokevirtual 55, 3) := dk_182 0 55 (dk_at dksX6_man_1 11 rfl rfl)
theorem dX6_man_38 : decode cX6_man 38 = .ok (.bipush 8, 2) := dk_16 8 (dk_at dksX6_man_1 14 rfl rfl)
theorem dX6_man_40 : decode cX6_man 40 = .ok (.if_icmp .ne 8, 3) := dk_160 0 8 (dk_at dksX6_man_1 16 rfl rfl)
theorem dX6_man_43 : decode cX6_man 43 = .ok (.aload_n 0, 1) := dk_42 (dk_at dksX6_man_1 19 rfl rfl)
theorem dX6_man_44 : decode cX6_man 44 = .ok (.invokevirtual 77, 3) := dk_182 0 77 (dk_at dksX6_man_1 20 rfl rfl)
theorem dX6_man_47 : decode cX6_man 47 = .ok (.ireturn, 1) := dk_172 (dk_at dksX6_man_1 23 rfl rfl)
theorem dX6_man_48 : decode cX6_man 48 = .ok (.aload_n 0, 1) := dk_42 (dk_at dksX6_man_2 0 rfl rfl)
theorem dX6_man_49 : decode cX6_man 49 = .ok (.getfield 7, 3) := dk_180 0 7 (dk_at dksX6_man_2 1 rfl rfl)
theorem dX6_man_52 : decode cX6_man 52 = .ok (.iload_n 1, 1) := dk_27 (dk_at dksX6_man_2 4 rfl rfl)
theorem dX6_man_53 : decode cX6_man 53 = .ok (.iload_n 2, 1) := dk_28 (dk_at dksX6_man_2 5 rfl rfl)
theorem dX6_man_54 : decode cX6_man 54 = .ok (.iload_n 3, 1) := dk_29 (dk_at dksX6_man_2 6 rfl rfl)
theorem dX6_man_55 : decode cX6_man 55 = .ok (.iconst 1, 1) := dk_4 (dk_at dksX6_man_2 7 rfl rfl)
theorem dX6_man_56 : decode cX6_man 56 = .ok (.iadd, 1) := dk_96 (dk_at dksX6_man_2 8 rfl rfl)
theorem dX6_man_57 : decode cX6_man 57 = .ok (.invokestatic 86, 3) := dk_184 0 86 (dk_at dksX6_man_2 9 rfl rfl)
theorem dX6_man_60 : decode cX6_man 60 = .ok (.aload_n 0, 1) := dk_42 (dk_at dksX6_man_2 12 rfl rfl)
theorem dX6_man_61 : decode cX6_man 61 = .ok (.getfield 7, 3) := dk_180 0 7 (dk_at dksX6_man_2 13 rfl rfl)
theorem dX6_man_64 : decode cX6_man 64 = .ok (.iconst 5, 1) := dk_8 (dk_at dksX6_man_2 16 rfl rfl)
theorem dX6_man_65 : decode cX6_man 65 = .ok (.iconst 0, 1) := dk_3 (dk_at dksX6_man_2 17 rfl rfl)
theorem dX6_man_66 : decode cX6_man 66 = .ok (.iastore, 1) := dk_79 (dk_at dksX6_man_2 18 rfl rfl)
theorem dX6_man_67 : decode cX6_man 67 = .ok (.aload_n 0, 1) := dk_42 (dk_at dksX6_man_2 19 rfl rfl)
theorem dX6_man_68 : decode cX6_man 68 = .ok (.invokevirtual 55, 3) := dk_182 0 55 (dk_at dksX6_man_2 20 rfl rfl)
theorem dX6_man_71 : decode cX6_man 71 = .ok (.iconst 1, 1) := dk_4 (dk_at dksX6_man_2 23 rfl rfl)
theorem dX6_man_72 : decode cX6_man 72 = .ok (.isub, 1) := dk_100 (dk_at dksX6_man_3 0 rfl rfl)
theorem dX6_man_73 : decode cX6_man 73 = .ok (.ireturn, 1) := dk_172 (dk_at dksX6_man_3 1 rfl rfl)
abbrev cX6_isSkill : ByteArray := prog_21_method_14_code
def yX6_isSkill : MethodName := ⟨RX6, "isSkill", "(I)Z"⟩
def dkwX6_isSkill_0 : List UInt8 := [26, 133, 10, 20, 0, 65, 184, 0, 59, 172]
abbrev dktX6_isSkill_0 : List UInt8 := dkwX6_isSkill_0 ++ []
theorem dksX6_isSkill_0 : cX6_isSkill.data.toList.drop 0 = dktX6_isSkill_0 := by decide +kernel
theorem dX6_isSkill_0 : decode cX6_isSkill 0 = .ok (.iload_n 0, 1) := dk_26 (dk_at dksX6_isSkill_0 0 rfl rfl)
theorem dX6_isSkill_1 : decode cX6_isSkill 1 = .ok (.i2l, 1) := dk_133 (dk_at dksX6_isSkill_0 1 rfl rfl)
theorem dX6_isSkill_2 : decode cX6_isSkill 2 = .ok (.lconst 1, 1) := dk_10 (dk_at dksX6_isSkill_0 2 rfl rfl)
theorem dX6_isSkill_3 : decode cX6_isSkill 3 = .ok (.ldc2_w 65, 3) := dk_20 0 65 (dk_at dksX6_isSkill_0 3 rfl rfl)
theorem dX6_isSkill_6 : decode cX6_isSkill 6 = .ok (.invokestatic 59, 3) := dk_184 0 59 (dk_at dksX6_isSkill_0 6 rfl rfl)
theorem dX6_isSkill_9 : decode cX6_isSkill 9 = .ok (.ireturn, 1) := dk_172 (dk_at dksX6_isSkill_0 9 rfl rfl)
abbrev cX6_isShip : ByteArray := prog_21_method_12_code
def yX6_isShip : MethodName := ⟨RX6, "isShip", "(I)Z"⟩
def dkwX6_isShip_0 : List UInt8 := [27, 133, 9, 42, 180, 0, 7, 4, 46, 4, 100, 133, 184, 0, 59, 172]
abbrev dktX6_isShip_0 : List UInt8 := dkwX6_isShip_0 ++ []
theorem dksX6_isShip_0 : cX6_isShip.data.toList.drop 0 = dktX6_isShip_0 := by decide +kernel
theorem dX6_isShip_0 : decode cX6_isShip 0 = .ok (.iload_n 1, 1) := dk_27 (dk_at dksX6_isShip_0 0 rfl rfl)
theorem dX6_isShip_1 : decode cX6_isShip 1 = .ok (.i2l, 1) := dk_133 (dk_at dksX6_isShip_0 1 rfl rfl)
theorem dX6_isShip_2 : decode cX6_isShip 2 = .ok (.lconst 0, 1) := dk_9 (dk_at dksX6_isShip_0 2 rfl rfl)
theorem dX6_isShip_3 : decode cX6_isShip 3 = .ok (.aload_n 0, 1) := dk_42 (dk_at dksX6_isShip_0 3 rfl rfl)
theorem dX6_isShip_4 : decode cX6_isShip 4 = .ok (.getfield 7, 3) := dk_180 0 7 (dk_at dksX6_isShip_0 4 rfl rfl)
theorem dX6_isShip_7 : decode cX6_isShip 7 = .ok (.iconst 1, 1) := dk_4 (dk_at dksX6_isShip_0 7 rfl rfl)
theorem dX6_isShip_8 : decode cX6_isShip 8 = .ok (.iaload, 1) := dk_46 (dk_at dksX6_isShip_0 8 rfl rfl)
theorem dX6_isShip_9 : decode cX6_isShip 9 = .ok (.iconst 1, 1) := dk_4 (dk_at dksX6_isShip_0 9 rfl rfl)
theorem dX6_isShip_10 : decode cX6_isShip 10 = .ok (.isub, 1) := dk_100 (dk_at dksX6_isShip_0 10 rfl rfl)
theorem dX6_isShip_11 : decode cX6_isShip 11 = .ok (.i2l, 1) := dk_133 (dk_at dksX6_isShip_0 11 rfl rfl)
theorem dX6_isShip_12 : decode cX6_isShip 12 = .ok (.invokestatic 59, 3) := dk_184 0 59 (dk_at dksX6_isShip_0 12 rfl rfl)
theorem dX6_isShip_15 : decode cX6_isShip 15 = .ok (.ireturn, 1) := dk_172 (dk_at dksX6_isShip_0 15 rfl rfl)
abbrev cX6_layMan : ByteArray := prog_21_method_18_code
def yX6_layMan : MethodName := ⟨RX6, "layMan", "([IIII)V"⟩
def dkwX6_layMan_1 : List UInt8 := [21, 4, 96, 29, 79, 42, 3, 92, 46, 4, 96, 79, 177]
abbrev dktX6_layMan_1 : List UInt8 := dkwX6_layMan_1 ++ []
def dkwX6_layMan_0 : List UInt8 := [42, 3, 46, 54, 4, 42, 16, 20, 21, 4, 96, 27, 79, 42, 16, 28, 21, 4, 96, 28, 79, 42, 16, 6]
abbrev dktX6_layMan_0 : List UInt8 := dkwX6_layMan_0 ++ dktX6_layMan_1
theorem dksX6_layMan_0 : cX6_layMan.data.toList.drop 0 = dktX6_layMan_0 := by decide +kernel
theorem dksX6_layMan_1 : cX6_layMan.data.toList.drop 24 = dktX6_layMan_1 := dk_seg dksX6_layMan_0 24 rfl rfl
theorem dX6_layMan_0 : decode cX6_layMan 0 = .ok (.aload_n 0, 1) := dk_42 (dk_at dksX6_layMan_0 0 rfl rfl)
theorem dX6_layMan_1 : decode cX6_layMan 1 = .ok (.iconst 0, 1) := dk_3 (dk_at dksX6_layMan_0 1 rfl rfl)
theorem dX6_layMan_2 : decode cX6_layMan 2 = .ok (.iaload, 1) := dk_46 (dk_at dksX6_layMan_0 2 rfl rfl)
theorem dX6_layMan_3 : decode cX6_layMan 3 = .ok (.istore 4, 2) := dk_54 4 (dk_at dksX6_layMan_0 3 rfl rfl)
theorem dX6_layMan_5 : decode cX6_layMan 5 = .ok (.aload_n 0, 1) := dk_42 (dk_at dksX6_layMan_0 5 rfl rfl)
theorem dX6_layMan_6 : decode cX6_layMan 6 = .ok (.bipush 20, 2) := dk_16 20 (dk_at dksX6_layMan_0 6 rfl rfl)
theorem dX6_layMan_8 : decode cX6_layMan 8 = .ok (.iload 4, 2) := dk_21 4 (dk_at dksX6_layMan_0 8 rfl rfl)
theorem dX6_layMan_10 : decode cX6_layMan 10 = .ok (.iadd, 1) := dk_96 (dk_at dksX6_layMan_0 10 rfl rfl)
theorem dX6_layMan_11 : decode cX6_layMan 11 = .ok (.iload_n 1, 1) := dk_27 (dk_at dksX6_layMan_0 11 rfl rfl)
theorem dX6_layMan_12 : decode cX6_layMan 12 = .ok (.iastore, 1) := dk_79 (dk_at dksX6_layMan_0 12 rfl rfl)
theorem dX6_layMan_13 : decode cX6_layMan 13 = .ok (.aload_n 0, 1) := dk_42 (dk_at dksX6_layMan_0 13 rfl rfl)
theorem dX6_layMan_14 : decode cX6_layMan 14 = .ok (.bipush 28, 2) := dk_16 28 (dk_at dksX6_layMan_0 14 rfl rfl)
theorem dX6_layMan_16 : decode cX6_layMan 16 = .ok (.iload 4, 2) := dk_21 4 (dk_at dksX6_layMan_0 16 rfl rfl)
theorem dX6_layMan_18 : decode cX6_layMan 18 = .ok (.iadd, 1) := dk_96 (dk_at dksX6_layMan_0 18 rfl rfl)
theorem dX6_layMan_19 : decode cX6_layMan 19 = .ok (.iload_n 2, 1) := dk_28 (dk_at dksX6_layMan_0 19 rfl rfl)
theorem dX6_layMan_20 : decode cX6_layMan 20 = .ok (.iastore, 1) := dk_79 (dk_at dksX6_layMan_0 20 rfl rfl)
theorem dX6_layMan_21 : decode cX6_layMan 21 = .ok (.aload_n 0, 1) := dk_42 (dk_at dksX6_layMan_0 21 rfl rfl)
theorem dX6_layMan_22 : decode cX6_layMan 22 = .ok (.bipush 6, 2) := dk_16 6 (dk_at dksX6_layMan_0 22 rfl rfl)
theorem dX6_layMan_24 : decode cX6_layMan 24 = .ok (.iload 4, 2) := dk_21 4 (dk_at dksX6_layMan_1 0 rfl rfl)
theorem dX6_layMan_26 : decode cX6_layMan 26 = .ok (.iadd, 1) := dk_96 (dk_at dksX6_layMan_1 2 rfl rfl)
theorem dX6_layMan_27 : decode cX6_layMan 27 = .ok (.iload_n 3, 1) := dk_29 (dk_at dksX6_layMan_1 3 rfl rfl)
theorem dX6_layMan_28 : decode cX6_layMan 28 = .ok (.iastore, 1) := dk_79 (dk_at dksX6_layMan_1 4 rfl rfl)
theorem dX6_layMan_29 : decode cX6_layMan 29 = .ok (.aload_n 0, 1) := dk_42 (dk_at dksX6_layMan_1 5 rfl rfl)
theorem dX6_layMan_30 : decode cX6_layMan 30 = .ok (.iconst 0, 1) := dk_3 (dk_at dksX6_layMan_1 6 rfl rfl)
theorem dX6_layMan_31 : decode cX6_layMan 31 = .ok (.dup2, 1) := dk_92 (dk_at dksX6_layMan_1 7 rfl rfl)
theorem dX6_layMan_32 : decode cX6_layMan 32 = .ok (.iaload, 1) := dk_46 (dk_at dksX6_layMan_1 8 rfl rfl)
theorem dX6_layMan_33 : decode cX6_layMan 33 = .ok (.iconst 1, 1) := dk_4 (dk_at dksX6_layMan_1 9 rfl rfl)
theorem dX6_layMan_34 : decode cX6_layMan 34 = .ok (.iadd, 1) := dk_96 (dk_at dksX6_layMan_1 10 rfl rfl)
theorem dX6_layMan_35 : decode cX6_layMan 35 = .ok (.iastore, 1) := dk_79 (dk_at dksX6_layMan_1 11 rfl rfl)
theorem dX6_layMan_36 : decode cX6_layMan 36 = .ok (.return_, 1) := dk_177 (dk_at dksX6_layMan_1 12 rfl rfl)
abbrev cX6_calls : ByteArray := prog_21_method_29_code
def yX6_calls : MethodName := ⟨RX6, "calls", "(I)I"⟩
def dkwX6_calls_1 : List UInt8 := [154, 0, 8, 42, 182, 0, 111, 172, 42, 182, 0, 114, 42, 180, 0, 7, 27, 184, 0, 117, 172]
abbrev dktX6_calls_1 : List UInt8 := dkwX6_calls_1 ++ []
def dkwX6_calls_0 : List UInt8 := [42, 27, 182, 0, 83, 154, 0, 10, 42, 16, 254, 182, 0, 73, 172, 42, 180, 0, 7, 27, 184, 0, 90]
abbrev dktX6_calls_0 : List UInt8 := dkwX6_calls_0 ++ dktX6_calls_1
theorem dksX6_calls_0 : cX6_calls.data.toList.drop 0 = dktX6_calls_0 := by decide +kernel
theorem dksX6_calls_1 : cX6_calls.data.toList.drop 23 = dktX6_calls_1 := dk_seg dksX6_calls_0 23 rfl rfl
theorem dX6_calls_0 : decode cX6_calls 0 = .ok (.aload_n 0, 1) := dk_42 (dk_at dksX6_calls_0 0 rfl rfl)
theorem dX6_calls_1 : decode cX6_calls 1 = .ok (.iload_n 1, 1) := dk_27 (dk_at dksX6_calls_0 1 rfl rfl)
theorem dX6_calls_2 : decode cX6_calls 2 = .ok (.invokevirtual 83, 3) := dk_182 0 83 (dk_at dksX6_calls_0 2 rfl rfl)
theorem dX6_calls_5 : decode cX6_calls 5 = .ok (.ifCond .ne 10, 3) := dk_154 0 10 (dk_at dksX6_calls_0 5 rfl rfl)
theorem dX6_calls_8 : decode cX6_calls 8 = .ok (.aload_n 0, 1) := dk_42 (dk_at dksX6_calls_0 8 rfl rfl)
theorem dX6_calls_9 : decode cX6_calls 9 = .ok (.bipush (-2), 2) := dk_16 254 (dk_at dksX6_calls_0 9 rfl rfl)
theorem dX6_calls_11 : decode cX6_calls 11 = .ok (.invokevirtual 73, 3) := dk_182 0 73 (dk_at dksX6_calls_0 11 rfl rfl)
theorem dX6_calls_14 : decode cX6_calls 14 = .ok (.ireturn, 1) := dk_172 (dk_at dksX6_calls_0 14 rfl rfl)
theorem dX6_calls_15 : decode cX6_calls 15 = .ok (.aload_n 0, 1) := dk_42 (dk_at dksX6_calls_0 15 rfl rfl)
theorem dX6_calls_16 : decode cX6_calls 16 = .ok (.getfield 7, 3) := dk_180 0 7 (dk_at dksX6_calls_0 16 rfl rfl)
theorem dX6_calls_19 : decode cX6_calls 19 = .ok (.iload_n 1, 1) := dk_27 (dk_at dksX6_calls_0 19 rfl rfl)
theorem dX6_calls_20 : decode cX6_calls 20 = .ok (.invokestatic 90, 3) := dk_184 0 90 (dk_at dksX6_calls_0 20 rfl rfl)
theorem dX6_calls_23 : decode cX6_calls 23 = .ok (.ifCond .ne 8, 3) := dk_154 0 8 (dk_at dksX6_calls_1 0 rfl rfl)
theorem dX6_calls_26 : decode cX6_calls 26 = .ok (.aload_n 0, 1) := dk_42 (dk_at dksX6_calls_1 3 rfl rfl)
theorem dX6_calls_27 : decode cX6_calls 27 = .ok (.invokevirtual 111, 3) := dk_182 0 111 (dk_at dksX6_calls_1 4 rfl rfl)
theorem dX6_calls_30 : decode cX6_calls 30 = .ok (.ireturn, 1) := dk_172 (dk_at dksX6_calls_1 7 rfl rfl)
theorem dX6_calls_31 : decode cX6_calls 31 = .ok (.aload_n 0, 1) := dk_42 (dk_at dksX6_calls_1 8 rfl rfl)
theorem dX6_calls_32 : decode cX6_calls 32 = .ok (.invokevirtual 114, 3) := dk_182 0 114 (dk_at dksX6_calls_1 9 rfl rfl)
theorem dX6_calls_35 : decode cX6_calls 35 = .ok (.aload_n 0, 1) := dk_42 (dk_at dksX6_calls_1 12 rfl rfl)
theorem dX6_calls_36 : decode cX6_calls 36 = .ok (.getfield 7, 3) := dk_180 0 7 (dk_at dksX6_calls_1 13 rfl rfl)
theorem dX6_calls_39 : decode cX6_calls 39 = .ok (.iload_n 1, 1) := dk_27 (dk_at dksX6_calls_1 16 rfl rfl)
theorem dX6_calls_40 : decode cX6_calls 40 = .ok (.invokestatic 117, 3) := dk_184 0 117 (dk_at dksX6_calls_1 17 rfl rfl)
theorem dX6_calls_43 : decode cX6_calls 43 = .ok (.ireturn, 1) := dk_172 (dk_at dksX6_calls_1 20 rfl rfl)
abbrev cX6_aboard : ByteArray := prog_21_method_22_code
def yX6_aboard : MethodName := ⟨RX6, "aboard", "([II)I"⟩
def dkwX6_aboard_1 : List UInt8 := [4, 167, 0, 4, 3, 96, 61, 132, 3, 1, 167, 255, 226, 28, 172]
abbrev dktX6_aboard_1 : List UInt8 := dkwX6_aboard_1 ++ []
def dkwX6_aboard_0 : List UInt8 := [3, 61, 3, 62, 29, 42, 3, 46, 162, 0, 29, 28, 42, 16, 6, 29, 96, 46, 27, 4, 96, 160, 0, 7]
abbrev dktX6_aboard_0 : List UInt8 := dkwX6_aboard_0 ++ dktX6_aboard_1
theorem dksX6_aboard_0 : cX6_aboard.data.toList.drop 0 = dktX6_aboard_0 := by decide +kernel
theorem dksX6_aboard_1 : cX6_aboard.data.toList.drop 24 = dktX6_aboard_1 := dk_seg dksX6_aboard_0 24 rfl rfl
theorem dX6_aboard_0 : decode cX6_aboard 0 = .ok (.iconst 0, 1) := dk_3 (dk_at dksX6_aboard_0 0 rfl rfl)
theorem dX6_aboard_1 : decode cX6_aboard 1 = .ok (.istore_n 2, 1) := dk_61 (dk_at dksX6_aboard_0 1 rfl rfl)
theorem dX6_aboard_2 : decode cX6_aboard 2 = .ok (.iconst 0, 1) := dk_3 (dk_at dksX6_aboard_0 2 rfl rfl)
theorem dX6_aboard_3 : decode cX6_aboard 3 = .ok (.istore_n 3, 1) := dk_62 (dk_at dksX6_aboard_0 3 rfl rfl)
theorem dX6_aboard_4 : decode cX6_aboard 4 = .ok (.iload_n 3, 1) := dk_29 (dk_at dksX6_aboard_0 4 rfl rfl)
theorem dX6_aboard_5 : decode cX6_aboard 5 = .ok (.aload_n 0, 1) := dk_42 (dk_at dksX6_aboard_0 5 rfl rfl)
theorem dX6_aboard_6 : decode cX6_aboard 6 = .ok (.iconst 0, 1) := dk_3 (dk_at dksX6_aboard_0 6 rfl rfl)
theorem dX6_aboard_7 : decode cX6_aboard 7 = .ok (.iaload, 1) := dk_46 (dk_at dksX6_aboard_0 7 rfl rfl)
theorem dX6_aboard_8 : decode cX6_aboard 8 = .ok (.if_icmp .ge 29, 3) := dk_162 0 29 (dk_at dksX6_aboard_0 8 rfl rfl)
theorem dX6_aboard_11 : decode cX6_aboard 11 = .ok (.iload_n 2, 1) := dk_28 (dk_at dksX6_aboard_0 11 rfl rfl)
theorem dX6_aboard_12 : decode cX6_aboard 12 = .ok (.aload_n 0, 1) := dk_42 (dk_at dksX6_aboard_0 12 rfl rfl)
theorem dX6_aboard_13 : decode cX6_aboard 13 = .ok (.bipush 6, 2) := dk_16 6 (dk_at dksX6_aboard_0 13 rfl rfl)
theorem dX6_aboard_15 : decode cX6_aboard 15 = .ok (.iload_n 3, 1) := dk_29 (dk_at dksX6_aboard_0 15 rfl rfl)
theorem dX6_aboard_16 : decode cX6_aboard 16 = .ok (.iadd, 1) := dk_96 (dk_at dksX6_aboard_0 16 rfl rfl)
theorem dX6_aboard_17 : decode cX6_aboard 17 = .ok (.iaload, 1) := dk_46 (dk_at dksX6_aboard_0 17 rfl rfl)
theorem dX6_aboard_18 : decode cX6_aboard 18 = .ok (.iload_n 1, 1) := dk_27 (dk_at dksX6_aboard_0 18 rfl rfl)
theorem dX6_aboard_19 : decode cX6_aboard 19 = .ok (.iconst 1, 1) := dk_4 (dk_at dksX6_aboard_0 19 rfl rfl)
theorem dX6_aboard_20 : decode cX6_aboard 20 = .ok (.iadd, 1) := dk_96 (dk_at dksX6_aboard_0 20 rfl rfl)
theorem dX6_aboard_21 : decode cX6_aboard 21 = .ok (.if_icmp .ne 7, 3) := dk_160 0 7 (dk_at dksX6_aboard_0 21 rfl rfl)
theorem dX6_aboard_24 : decode cX6_aboard 24 = .ok (.iconst 1, 1) := dk_4 (dk_at dksX6_aboard_1 0 rfl rfl)
theorem dX6_aboard_25 : decode cX6_aboard 25 = .ok (.goto 4, 3) := dk_167 0 4 (dk_at dksX6_aboard_1 1 rfl rfl)
theorem dX6_aboard_28 : decode cX6_aboard 28 = .ok (.iconst 0, 1) := dk_3 (dk_at dksX6_aboard_1 4 rfl rfl)
theorem dX6_aboard_29 : decode cX6_aboard 29 = .ok (.iadd, 1) := dk_96 (dk_at dksX6_aboard_1 5 rfl rfl)
theorem dX6_aboard_30 : decode cX6_aboard 30 = .ok (.istore_n 2, 1) := dk_61 (dk_at dksX6_aboard_1 6 rfl rfl)
theorem dX6_aboard_31 : decode cX6_aboard 31 = .ok (.iinc 3 1, 3) := dk_132 3 1 (dk_at dksX6_aboard_1 7 rfl rfl)
theorem dX6_aboard_34 : decode cX6_aboard 34 = .ok (.goto (-30), 3) := dk_167 255 226 (dk_at dksX6_aboard_1 10 rfl rfl)
theorem dX6_aboard_37 : decode cX6_aboard 37 = .ok (.iload_n 2, 1) := dk_28 (dk_at dksX6_aboard_1 13 rfl rfl)
theorem dX6_aboard_38 : decode cX6_aboard 38 = .ok (.ireturn, 1) := dk_172 (dk_at dksX6_aboard_1 14 rfl rfl)
abbrev cX6_no : ByteArray := prog_21_method_5_code
def yX6_no : MethodName := ⟨RX6, "no", "()I"⟩
def dkwX6_no_0 : List UInt8 := [42, 180, 0, 20, 4, 92, 46, 4, 96, 79, 16, 253, 172]
abbrev dktX6_no_0 : List UInt8 := dkwX6_no_0 ++ []
theorem dksX6_no_0 : cX6_no.data.toList.drop 0 = dktX6_no_0 := by decide +kernel
theorem dX6_no_0 : decode cX6_no 0 = .ok (.aload_n 0, 1) := dk_42 (dk_at dksX6_no_0 0 rfl rfl)
theorem dX6_no_1 : decode cX6_no 1 = .ok (.getfield 20, 3) := dk_180 0 20 (dk_at dksX6_no_0 1 rfl rfl)
theorem dX6_no_4 : decode cX6_no 4 = .ok (.iconst 1, 1) := dk_4 (dk_at dksX6_no_0 4 rfl rfl)
theorem dX6_no_5 : decode cX6_no 5 = .ok (.dup2, 1) := dk_92 (dk_at dksX6_no_0 5 rfl rfl)
theorem dX6_no_6 : decode cX6_no 6 = .ok (.iaload, 1) := dk_46 (dk_at dksX6_no_0 6 rfl rfl)
theorem dX6_no_7 : decode cX6_no 7 = .ok (.iconst 1, 1) := dk_4 (dk_at dksX6_no_0 7 rfl rfl)
theorem dX6_no_8 : decode cX6_no 8 = .ok (.iadd, 1) := dk_96 (dk_at dksX6_no_0 8 rfl rfl)
theorem dX6_no_9 : decode cX6_no 9 = .ok (.iastore, 1) := dk_79 (dk_at dksX6_no_0 9 rfl rfl)
theorem dX6_no_10 : decode cX6_no 10 = .ok (.bipush (-3), 2) := dk_16 253 (dk_at dksX6_no_0 10 rfl rfl)
theorem dX6_no_12 : decode cX6_no 12 = .ok (.ireturn, 1) := dk_172 (dk_at dksX6_no_0 12 rfl rfl)
abbrev cX6_save : ByteArray := prog_21_method_28_code
def yX6_save : MethodName := ⟨RX6, "save", "()V"⟩
def dkwX6_save_4 : List UInt8 := [180, 0, 7, 8, 92, 46, 4, 96, 79, 177]
abbrev dktX6_save_4 : List UInt8 := dkwX6_save_4 ++ []
def dkwX6_save_3 : List UInt8 := [8, 46, 104, 96, 27, 96, 42, 180, 0, 7, 16, 6, 27, 96, 46, 79, 132, 1, 1, 167, 255, 219, 42]
abbrev dktX6_save_3 : List UInt8 := dkwX6_save_3 ++ dktX6_save_4
def dkwX6_save_2 : List UInt8 := [8, 16, 7, 79, 3, 60, 27, 16, 11, 162, 0, 37, 42, 180, 0, 7, 16, 104, 16, 11, 42, 180, 0, 7]
abbrev dktX6_save_2 : List UInt8 := dkwX6_save_2 ++ dktX6_save_3
def dkwX6_save_1 : List UInt8 := [16, 104, 27, 96, 42, 180, 0, 7, 16, 115, 27, 96, 46, 79, 132, 1, 1, 167, 255, 229, 42, 180, 0, 7]
abbrev dktX6_save_1 : List UInt8 := dkwX6_save_1 ++ dktX6_save_2
def dkwX6_save_0 : List UInt8 := [42, 180, 0, 7, 8, 46, 16, 8, 160, 0, 43, 3, 60, 27, 16, 77, 162, 0, 27, 42, 180, 0, 7]
abbrev dktX6_save_0 : List UInt8 := dkwX6_save_0 ++ dktX6_save_1
theorem dksX6_save_0 : cX6_save.data.toList.drop 0 = dktX6_save_0 := by decide +kernel
theorem dksX6_save_1 : cX6_save.data.toList.drop 23 = dktX6_save_1 := dk_seg dksX6_save_0 23 rfl rfl
theorem dksX6_save_2 : cX6_save.data.toList.drop 47 = dktX6_save_2 := dk_seg dksX6_save_1 24 rfl rfl
theorem dksX6_save_3 : cX6_save.data.toList.drop 71 = dktX6_save_3 := dk_seg dksX6_save_2 24 rfl rfl
theorem dksX6_save_4 : cX6_save.data.toList.drop 94 = dktX6_save_4 := dk_seg dksX6_save_3 23 rfl rfl
theorem dX6_save_0 : decode cX6_save 0 = .ok (.aload_n 0, 1) := dk_42 (dk_at dksX6_save_0 0 rfl rfl)
theorem dX6_save_1 : decode cX6_save 1 = .ok (.getfield 7, 3) := dk_180 0 7 (dk_at dksX6_save_0 1 rfl rfl)
theorem dX6_save_4 : decode cX6_save 4 = .ok (.iconst 5, 1) := dk_8 (dk_at dksX6_save_0 4 rfl rfl)
theorem dX6_save_5 : decode cX6_save 5 = .ok (.iaload, 1) := dk_46 (dk_at dksX6_save_0 5 rfl rfl)
theorem dX6_save_6 : decode cX6_save 6 = .ok (.bipush 8, 2) := dk_16 8 (dk_at dksX6_save_0 6 rfl rfl)
theorem dX6_save_8 : decode cX6_save 8 = .ok (.if_icmp .ne 43, 3) := dk_160 0 43 (dk_at dksX6_save_0 8 rfl rfl)
theorem dX6_save_11 : decode cX6_save 11 = .ok (.iconst 0, 1) := dk_3 (dk_at dksX6_save_0 11 rfl rfl)
theorem dX6_save_12 : decode cX6_save 12 = .ok (.istore_n 1, 1) := dk_60 (dk_at dksX6_save_0 12 rfl rfl)
theorem dX6_save_13 : decode cX6_save 13 = .ok (.iload_n 1, 1) := dk_27 (dk_at dksX6_save_0 13 rfl rfl)
theorem dX6_save_14 : decode cX6_save 14 = .ok (.bipush 77, 2) := dk_16 77 (dk_at dksX6_save_0 14 rfl rfl)
theorem dX6_save_16 : decode cX6_save 16 = .ok (.if_icmp .ge 27, 3) := dk_162 0 27 (dk_at dksX6_save_0 16 rfl rfl)
theorem dX6_save_19 : decode cX6_save 19 = .ok (.aload_n 0, 1) := dk_42 (dk_at dksX6_save_0 19 rfl rfl)
theorem dX6_save_20 : decode cX6_save 20 = .ok (.getfield 7, 3) := dk_180 0 7 (dk_at dksX6_save_0 20 rfl rfl)
theorem dX6_save_23 : decode cX6_save 23 = .ok (.bipush 104, 2) := dk_16 104 (dk_at dksX6_save_1 0 rfl rfl)
theorem dX6_save_25 : decode cX6_save 25 = .ok (.iload_n 1, 1) := dk_27 (dk_at dksX6_save_1 2 rfl rfl)
theorem dX6_save_26 : decode cX6_save 26 = .ok (.iadd, 1) := dk_96 (dk_at dksX6_save_1 3 rfl rfl)
theorem dX6_save_27 : decode cX6_save 27 = .ok (.aload_n 0, 1) := dk_42 (dk_at dksX6_save_1 4 rfl rfl)
theorem dX6_save_28 : decode cX6_save 28 = .ok (.getfield 7, 3) := dk_180 0 7 (dk_at dksX6_save_1 5 rfl rfl)
theorem dX6_save_31 : decode cX6_save 31 = .ok (.bipush 115, 2) := dk_16 115 (dk_at dksX6_save_1 8 rfl rfl)
theorem dX6_save_33 : decode cX6_save 33 = .ok (.iload_n 1, 1) := dk_27 (dk_at dksX6_save_1 10 rfl rfl)
theorem dX6_save_34 : decode cX6_save 34 = .ok (.iadd, 1) := dk_96 (dk_at dksX6_save_1 11 rfl rfl)
theorem dX6_save_35 : decode cX6_save 35 = .ok (.iaload, 1) := dk_46 (dk_at dksX6_save_1 12 rfl rfl)
theorem dX6_save_36 : decode cX6_save 36 = .ok (.iastore, 1) := dk_79 (dk_at dksX6_save_1 13 rfl rfl)
theorem dX6_save_37 : decode cX6_save 37 = .ok (.iinc 1 1, 3) := dk_132 1 1 (dk_at dksX6_save_1 14 rfl rfl)
theorem dX6_save_40 : decode cX6_save 40 = .ok (.goto (-27), 3) := dk_167 255 229 (dk_at dksX6_save_1 17 rfl rfl)
theorem dX6_save_43 : decode cX6_save 43 = .ok (.aload_n 0, 1) := dk_42 (dk_at dksX6_save_1 20 rfl rfl)
theorem dX6_save_44 : decode cX6_save 44 = .ok (.getfield 7, 3) := dk_180 0 7 (dk_at dksX6_save_1 21 rfl rfl)
theorem dX6_save_47 : decode cX6_save 47 = .ok (.iconst 5, 1) := dk_8 (dk_at dksX6_save_2 0 rfl rfl)
theorem dX6_save_48 : decode cX6_save 48 = .ok (.bipush 7, 2) := dk_16 7 (dk_at dksX6_save_2 1 rfl rfl)
theorem dX6_save_50 : decode cX6_save 50 = .ok (.iastore, 1) := dk_79 (dk_at dksX6_save_2 3 rfl rfl)
theorem dX6_save_51 : decode cX6_save 51 = .ok (.iconst 0, 1) := dk_3 (dk_at dksX6_save_2 4 rfl rfl)
theorem dX6_save_52 : decode cX6_save 52 = .ok (.istore_n 1, 1) := dk_60 (dk_at dksX6_save_2 5 rfl rfl)
theorem dX6_save_53 : decode cX6_save 53 = .ok (.iload_n 1, 1) := dk_27 (dk_at dksX6_save_2 6 rfl rfl)
theorem dX6_save_54 : decode cX6_save 54 = .ok (.bipush 11, 2) := dk_16 11 (dk_at dksX6_save_2 7 rfl rfl)
theorem dX6_save_56 : decode cX6_save 56 = .ok (.if_icmp .ge 37, 3) := dk_162 0 37 (dk_at dksX6_save_2 9 rfl rfl)
theorem dX6_save_59 : decode cX6_save 59 = .ok (.aload_n 0, 1) := dk_42 (dk_at dksX6_save_2 12 rfl rfl)
theorem dX6_save_60 : decode cX6_save 60 = .ok (.getfield 7, 3) := dk_180 0 7 (dk_at dksX6_save_2 13 rfl rfl)
theorem dX6_save_63 : decode cX6_save 63 = .ok (.bipush 104, 2) := dk_16 104 (dk_at dksX6_save_2 16 rfl rfl)
theorem dX6_save_65 : decode cX6_save 65 = .ok (.bipush 11, 2) := dk_16 11 (dk_at dksX6_save_2 18 rfl rfl)
theorem dX6_save_67 : decode cX6_save 67 = .ok (.aload_n 0, 1) := dk_42 (dk_at dksX6_save_2 20 rfl rfl)
theorem dX6_save_68 : decode cX6_save 68 = .ok (.getfield 7, 3) := dk_180 0 7 (dk_at dksX6_save_2 21 rfl rfl)
theorem dX6_save_71 : decode cX6_save 71 = .ok (.iconst 5, 1) := dk_8 (dk_at dksX6_save_3 0 rfl rfl)
theorem dX6_save_72 : decode cX6_save 72 = .ok (.iaload, 1) := dk_46 (dk_at dksX6_save_3 1 rfl rfl)
theorem dX6_save_73 : decode cX6_save 73 = .ok (.imul, 1) := dk_104 (dk_at dksX6_save_3 2 rfl rfl)
theorem dX6_save_74 : decode cX6_save 74 = .ok (.iadd, 1) := dk_96 (dk_at dksX6_save_3 3 rfl rfl)
theorem dX6_save_75 : decode cX6_save 75 = .ok (.iload_n 1, 1) := dk_27 (dk_at dksX6_save_3 4 rfl rfl)
theorem dX6_save_76 : decode cX6_save 76 = .ok (.iadd, 1) := dk_96 (dk_at dksX6_save_3 5 rfl rfl)
theorem dX6_save_77 : decode cX6_save 77 = .ok (.aload_n 0, 1) := dk_42 (dk_at dksX6_save_3 6 rfl rfl)
theorem dX6_save_78 : decode cX6_save 78 = .ok (.getfield 7, 3) := dk_180 0 7 (dk_at dksX6_save_3 7 rfl rfl)
theorem dX6_save_81 : decode cX6_save 81 = .ok (.bipush 6, 2) := dk_16 6 (dk_at dksX6_save_3 10 rfl rfl)
theorem dX6_save_83 : decode cX6_save 83 = .ok (.iload_n 1, 1) := dk_27 (dk_at dksX6_save_3 12 rfl rfl)
theorem dX6_save_84 : decode cX6_save 84 = .ok (.iadd, 1) := dk_96 (dk_at dksX6_save_3 13 rfl rfl)
theorem dX6_save_85 : decode cX6_save 85 = .ok (.iaload, 1) := dk_46 (dk_at dksX6_save_3 14 rfl rfl)
theorem dX6_save_86 : decode cX6_save 86 = .ok (.iastore, 1) := dk_79 (dk_at dksX6_save_3 15 rfl rfl)
theorem dX6_save_87 : decode cX6_save 87 = .ok (.iinc 1 1, 3) := dk_132 1 1 (dk_at dksX6_save_3 16 rfl rfl)
theorem dX6_save_90 : decode cX6_save 90 = .ok (.goto (-37), 3) := dk_167 255 219 (dk_at dksX6_save_3 19 rfl rfl)
theorem dX6_save_93 : decode cX6_save 93 = .ok (.aload_n 0, 1) := dk_42 (dk_at dksX6_save_3 22 rfl rfl)
theorem dX6_save_94 : decode cX6_save 94 = .ok (.getfield 7, 3) := dk_180 0 7 (dk_at dksX6_save_4 0 rfl rfl)
theorem dX6_save_97 : decode cX6_save 97 = .ok (.iconst 5, 1) := dk_8 (dk_at dksX6_save_4 3 rfl rfl)
theorem dX6_save_98 : decode cX6_save 98 = .ok (.dup2, 1) := dk_92 (dk_at dksX6_save_4 4 rfl rfl)
theorem dX6_save_99 : decode cX6_save 99 = .ok (.iaload, 1) := dk_46 (dk_at dksX6_save_4 5 rfl rfl)
theorem dX6_save_100 : decode cX6_save 100 = .ok (.iconst 1, 1) := dk_4 (dk_at dksX6_save_4 6 rfl rfl)
theorem dX6_save_101 : decode cX6_save 101 = .ok (.iadd, 1) := dk_96 (dk_at dksX6_save_4 7 rfl rfl)
theorem dX6_save_102 : decode cX6_save 102 = .ok (.iastore, 1) := dk_79 (dk_at dksX6_save_4 8 rfl rfl)
theorem dX6_save_103 : decode cX6_save 103 = .ok (.return_, 1) := dk_177 (dk_at dksX6_save_4 9 rfl rfl)
abbrev cX6_goCall : ByteArray := prog_21_method_27_code
def yX6_goCall : MethodName := ⟨RX6, "goCall", "([II)I"⟩
def dkwX6_goCall_1 : List UInt8 := [46, 42, 16, 14, 27, 96, 46, 16, 99, 162, 0, 7, 4, 167, 0, 4, 3, 96, 79, 28, 172]
abbrev dktX6_goCall_1 : List UInt8 := dkwX6_goCall_1 ++ []
def dkwX6_goCall_0 : List UInt8 := [42, 27, 184, 0, 108, 61, 28, 2, 159, 0, 35, 42, 16, 6, 28, 96, 3, 79, 42, 16, 14, 27, 96, 92]
abbrev dktX6_goCall_0 : List UInt8 := dkwX6_goCall_0 ++ dktX6_goCall_1
theorem dksX6_goCall_0 : cX6_goCall.data.toList.drop 0 = dktX6_goCall_0 := by decide +kernel
theorem dksX6_goCall_1 : cX6_goCall.data.toList.drop 24 = dktX6_goCall_1 := dk_seg dksX6_goCall_0 24 rfl rfl
theorem dX6_goCall_0 : decode cX6_goCall 0 = .ok (.aload_n 0, 1) := dk_42 (dk_at dksX6_goCall_0 0 rfl rfl)
theorem dX6_goCall_1 : decode cX6_goCall 1 = .ok (.iload_n 1, 1) := dk_27 (dk_at dksX6_goCall_0 1 rfl rfl)
theorem dX6_goCall_2 : decode cX6_goCall 2 = .ok (.invokestatic 108, 3) := dk_184 0 108 (dk_at dksX6_goCall_0 2 rfl rfl)
theorem dX6_goCall_5 : decode cX6_goCall 5 = .ok (.istore_n 2, 1) := dk_61 (dk_at dksX6_goCall_0 5 rfl rfl)
theorem dX6_goCall_6 : decode cX6_goCall 6 = .ok (.iload_n 2, 1) := dk_28 (dk_at dksX6_goCall_0 6 rfl rfl)
theorem dX6_goCall_7 : decode cX6_goCall 7 = .ok (.iconst (-1), 1) := dk_2 (dk_at dksX6_goCall_0 7 rfl rfl)
theorem dX6_goCall_8 : decode cX6_goCall 8 = .ok (.if_icmp .eq 35, 3) := dk_159 0 35 (dk_at dksX6_goCall_0 8 rfl rfl)
theorem dX6_goCall_11 : decode cX6_goCall 11 = .ok (.aload_n 0, 1) := dk_42 (dk_at dksX6_goCall_0 11 rfl rfl)
theorem dX6_goCall_12 : decode cX6_goCall 12 = .ok (.bipush 6, 2) := dk_16 6 (dk_at dksX6_goCall_0 12 rfl rfl)
theorem dX6_goCall_14 : decode cX6_goCall 14 = .ok (.iload_n 2, 1) := dk_28 (dk_at dksX6_goCall_0 14 rfl rfl)
theorem dX6_goCall_15 : decode cX6_goCall 15 = .ok (.iadd, 1) := dk_96 (dk_at dksX6_goCall_0 15 rfl rfl)
theorem dX6_goCall_16 : decode cX6_goCall 16 = .ok (.iconst 0, 1) := dk_3 (dk_at dksX6_goCall_0 16 rfl rfl)
theorem dX6_goCall_17 : decode cX6_goCall 17 = .ok (.iastore, 1) := dk_79 (dk_at dksX6_goCall_0 17 rfl rfl)
theorem dX6_goCall_18 : decode cX6_goCall 18 = .ok (.aload_n 0, 1) := dk_42 (dk_at dksX6_goCall_0 18 rfl rfl)
theorem dX6_goCall_19 : decode cX6_goCall 19 = .ok (.bipush 14, 2) := dk_16 14 (dk_at dksX6_goCall_0 19 rfl rfl)
theorem dX6_goCall_21 : decode cX6_goCall 21 = .ok (.iload_n 1, 1) := dk_27 (dk_at dksX6_goCall_0 21 rfl rfl)
theorem dX6_goCall_22 : decode cX6_goCall 22 = .ok (.iadd, 1) := dk_96 (dk_at dksX6_goCall_0 22 rfl rfl)
theorem dX6_goCall_23 : decode cX6_goCall 23 = .ok (.dup2, 1) := dk_92 (dk_at dksX6_goCall_0 23 rfl rfl)
theorem dX6_goCall_24 : decode cX6_goCall 24 = .ok (.iaload, 1) := dk_46 (dk_at dksX6_goCall_1 0 rfl rfl)
theorem dX6_goCall_25 : decode cX6_goCall 25 = .ok (.aload_n 0, 1) := dk_42 (dk_at dksX6_goCall_1 1 rfl rfl)
theorem dX6_goCall_26 : decode cX6_goCall 26 = .ok (.bipush 14, 2) := dk_16 14 (dk_at dksX6_goCall_1 2 rfl rfl)
theorem dX6_goCall_28 : decode cX6_goCall 28 = .ok (.iload_n 1, 1) := dk_27 (dk_at dksX6_goCall_1 4 rfl rfl)
theorem dX6_goCall_29 : decode cX6_goCall 29 = .ok (.iadd, 1) := dk_96 (dk_at dksX6_goCall_1 5 rfl rfl)
theorem dX6_goCall_30 : decode cX6_goCall 30 = .ok (.iaload, 1) := dk_46 (dk_at dksX6_goCall_1 6 rfl rfl)
theorem dX6_goCall_31 : decode cX6_goCall 31 = .ok (.bipush 99, 2) := dk_16 99 (dk_at dksX6_goCall_1 7 rfl rfl)
theorem dX6_goCall_33 : decode cX6_goCall 33 = .ok (.if_icmp .ge 7, 3) := dk_162 0 7 (dk_at dksX6_goCall_1 9 rfl rfl)
theorem dX6_goCall_36 : decode cX6_goCall 36 = .ok (.iconst 1, 1) := dk_4 (dk_at dksX6_goCall_1 12 rfl rfl)
theorem dX6_goCall_37 : decode cX6_goCall 37 = .ok (.goto 4, 3) := dk_167 0 4 (dk_at dksX6_goCall_1 13 rfl rfl)
theorem dX6_goCall_40 : decode cX6_goCall 40 = .ok (.iconst 0, 1) := dk_3 (dk_at dksX6_goCall_1 16 rfl rfl)
theorem dX6_goCall_41 : decode cX6_goCall 41 = .ok (.iadd, 1) := dk_96 (dk_at dksX6_goCall_1 17 rfl rfl)
theorem dX6_goCall_42 : decode cX6_goCall 42 = .ok (.iastore, 1) := dk_79 (dk_at dksX6_goCall_1 18 rfl rfl)
theorem dX6_goCall_43 : decode cX6_goCall 43 = .ok (.iload_n 2, 1) := dk_28 (dk_at dksX6_goCall_1 19 rfl rfl)
theorem dX6_goCall_44 : decode cX6_goCall 44 = .ok (.ireturn, 1) := dk_172 (dk_at dksX6_goCall_1 20 rfl rfl)
abbrev cX6_leastOf : ByteArray := prog_21_method_26_code
def yX6_leastOf : MethodName := ⟨RX6, "leastOf", "([II)I"⟩
def dkwX6_leastOf_2 : List UInt8 := [167, 255, 212, 28, 172]
abbrev dktX6_leastOf_2 : List UInt8 := dkwX6_leastOf_2 ++ []
def dkwX6_leastOf_1 : List UInt8 := [2, 159, 0, 18, 42, 29, 27, 184, 0, 104, 42, 28, 27, 184, 0, 104, 162, 0, 5, 29, 61, 132, 3, 1]
abbrev dktX6_leastOf_1 : List UInt8 := dkwX6_leastOf_1 ++ dktX6_leastOf_2
def dkwX6_leastOf_0 : List UInt8 := [2, 61, 3, 62, 29, 42, 3, 46, 162, 0, 43, 42, 16, 6, 29, 96, 46, 27, 4, 96, 160, 0, 25, 28]
abbrev dktX6_leastOf_0 : List UInt8 := dkwX6_leastOf_0 ++ dktX6_leastOf_1
theorem dksX6_leastOf_0 : cX6_leastOf.data.toList.drop 0 = dktX6_leastOf_0 := by decide +kernel
theorem dksX6_leastOf_1 : cX6_leastOf.data.toList.drop 24 = dktX6_leastOf_1 := dk_seg dksX6_leastOf_0 24 rfl rfl
theorem dksX6_leastOf_2 : cX6_leastOf.data.toList.drop 48 = dktX6_leastOf_2 := dk_seg dksX6_leastOf_1 24 rfl rfl
theorem dX6_leastOf_0 : decode cX6_leastOf 0 = .ok (.iconst (-1), 1) := dk_2 (dk_at dksX6_leastOf_0 0 rfl rfl)
theorem dX6_leastOf_1 : decode cX6_leastOf 1 = .ok (.istore_n 2, 1) := dk_61 (dk_at dksX6_leastOf_0 1 rfl rfl)
theorem dX6_leastOf_2 : decode cX6_leastOf 2 = .ok (.iconst 0, 1) := dk_3 (dk_at dksX6_leastOf_0 2 rfl rfl)
theorem dX6_leastOf_3 : decode cX6_leastOf 3 = .ok (.istore_n 3, 1) := dk_62 (dk_at dksX6_leastOf_0 3 rfl rfl)
theorem dX6_leastOf_4 : decode cX6_leastOf 4 = .ok (.iload_n 3, 1) := dk_29 (dk_at dksX6_leastOf_0 4 rfl rfl)
theorem dX6_leastOf_5 : decode cX6_leastOf 5 = .ok (.aload_n 0, 1) := dk_42 (dk_at dksX6_leastOf_0 5 rfl rfl)
theorem dX6_leastOf_6 : decode cX6_leastOf 6 = .ok (.iconst 0, 1) := dk_3 (dk_at dksX6_leastOf_0 6 rfl rfl)
theorem dX6_leastOf_7 : decode cX6_leastOf 7 = .ok (.iaload, 1) := dk_46 (dk_at dksX6_leastOf_0 7 rfl rfl)
theorem dX6_leastOf_8 : decode cX6_leastOf 8 = .ok (.if_icmp .ge 43, 3) := dk_162 0 43 (dk_at dksX6_leastOf_0 8 rfl rfl)
theorem dX6_leastOf_11 : decode cX6_leastOf 11 = .ok (.aload_n 0, 1) := dk_42 (dk_at dksX6_leastOf_0 11 rfl rfl)
theorem dX6_leastOf_12 : decode cX6_leastOf 12 = .ok (.bipush 6, 2) := dk_16 6 (dk_at dksX6_leastOf_0 12 rfl rfl)
theorem dX6_leastOf_14 : decode cX6_leastOf 14 = .ok (.iload_n 3, 1) := dk_29 (dk_at dksX6_leastOf_0 14 rfl rfl)
theorem dX6_leastOf_15 : decode cX6_leastOf 15 = .ok (.iadd, 1) := dk_96 (dk_at dksX6_leastOf_0 15 rfl rfl)
theorem dX6_leastOf_16 : decode cX6_leastOf 16 = .ok (.iaload, 1) := dk_46 (dk_at dksX6_leastOf_0 16 rfl rfl)
theorem dX6_leastOf_17 : decode cX6_leastOf 17 = .ok (.iload_n 1, 1) := dk_27 (dk_at dksX6_leastOf_0 17 rfl rfl)
theorem dX6_leastOf_18 : decode cX6_leastOf 18 = .ok (.iconst 1, 1) := dk_4 (dk_at dksX6_leastOf_0 18 rfl rfl)
theorem dX6_leastOf_19 : decode cX6_leastOf 19 = .ok (.iadd, 1) := dk_96 (dk_at dksX6_leastOf_0 19 rfl rfl)
theorem dX6_leastOf_20 : decode cX6_leastOf 20 = .ok (.if_icmp .ne 25, 3) := dk_160 0 25 (dk_at dksX6_leastOf_0 20 rfl rfl)
theorem dX6_leastOf_23 : decode cX6_leastOf 23 = .ok (.iload_n 2, 1) := dk_28 (dk_at dksX6_leastOf_0 23 rfl rfl)
theorem dX6_leastOf_24 : decode cX6_leastOf 24 = .ok (.iconst (-1), 1) := dk_2 (dk_at dksX6_leastOf_1 0 rfl rfl)
theorem dX6_leastOf_25 : decode cX6_leastOf 25 = .ok (.if_icmp .eq 18, 3) := dk_159 0 18 (dk_at dksX6_leastOf_1 1 rfl rfl)
theorem dX6_leastOf_28 : decode cX6_leastOf 28 = .ok (.aload_n 0, 1) := dk_42 (dk_at dksX6_leastOf_1 4 rfl rfl)
theorem dX6_leastOf_29 : decode cX6_leastOf 29 = .ok (.iload_n 3, 1) := dk_29 (dk_at dksX6_leastOf_1 5 rfl rfl)
theorem dX6_leastOf_30 : decode cX6_leastOf 30 = .ok (.iload_n 1, 1) := dk_27 (dk_at dksX6_leastOf_1 6 rfl rfl)
theorem dX6_leastOf_31 : decode cX6_leastOf 31 = .ok (.invokestatic 104, 3) := dk_184 0 104 (dk_at dksX6_leastOf_1 7 rfl rfl)
theorem dX6_leastOf_34 : decode cX6_leastOf 34 = .ok (.aload_n 0, 1) := dk_42 (dk_at dksX6_leastOf_1 10 rfl rfl)
theorem dX6_leastOf_35 : decode cX6_leastOf 35 = .ok (.iload_n 2, 1) := dk_28 (dk_at dksX6_leastOf_1 11 rfl rfl)
theorem dX6_leastOf_36 : decode cX6_leastOf 36 = .ok (.iload_n 1, 1) := dk_27 (dk_at dksX6_leastOf_1 12 rfl rfl)
theorem dX6_leastOf_37 : decode cX6_leastOf 37 = .ok (.invokestatic 104, 3) := dk_184 0 104 (dk_at dksX6_leastOf_1 13 rfl rfl)
theorem dX6_leastOf_40 : decode cX6_leastOf 40 = .ok (.if_icmp .ge 5, 3) := dk_162 0 5 (dk_at dksX6_leastOf_1 16 rfl rfl)
theorem dX6_leastOf_43 : decode cX6_leastOf 43 = .ok (.iload_n 3, 1) := dk_29 (dk_at dksX6_leastOf_1 19 rfl rfl)
theorem dX6_leastOf_44 : decode cX6_leastOf 44 = .ok (.istore_n 2, 1) := dk_61 (dk_at dksX6_leastOf_1 20 rfl rfl)
theorem dX6_leastOf_45 : decode cX6_leastOf 45 = .ok (.iinc 3 1, 3) := dk_132 3 1 (dk_at dksX6_leastOf_1 21 rfl rfl)
theorem dX6_leastOf_48 : decode cX6_leastOf 48 = .ok (.goto (-44), 3) := dk_167 255 212 (dk_at dksX6_leastOf_2 0 rfl rfl)
theorem dX6_leastOf_51 : decode cX6_leastOf 51 = .ok (.iload_n 2, 1) := dk_28 (dk_at dksX6_leastOf_2 3 rfl rfl)
theorem dX6_leastOf_52 : decode cX6_leastOf 52 = .ok (.ireturn, 1) := dk_172 (dk_at dksX6_leastOf_2 4 rfl rfl)
abbrev cX6_likedOf : ByteArray := prog_21_method_25_code
def yX6_likedOf : MethodName := ⟨RX6, "likedOf", "([III)I"⟩
def dkwX6_likedOf_0 : List UInt8 := [42, 16, 20, 27, 96, 46, 42, 16, 28, 27, 96, 46, 42, 16, 14, 28, 96, 46, 184, 0, 101, 172]
abbrev dktX6_likedOf_0 : List UInt8 := dkwX6_likedOf_0 ++ []
theorem dksX6_likedOf_0 : cX6_likedOf.data.toList.drop 0 = dktX6_likedOf_0 := by decide +kernel
theorem dX6_likedOf_0 : decode cX6_likedOf 0 = .ok (.aload_n 0, 1) := dk_42 (dk_at dksX6_likedOf_0 0 rfl rfl)
theorem dX6_likedOf_1 : decode cX6_likedOf 1 = .ok (.bipush 20, 2) := dk_16 20 (dk_at dksX6_likedOf_0 1 rfl rfl)
theorem dX6_likedOf_3 : decode cX6_likedOf 3 = .ok (.iload_n 1, 1) := dk_27 (dk_at dksX6_likedOf_0 3 rfl rfl)
theorem dX6_likedOf_4 : decode cX6_likedOf 4 = .ok (.iadd, 1) := dk_96 (dk_at dksX6_likedOf_0 4 rfl rfl)
theorem dX6_likedOf_5 : decode cX6_likedOf 5 = .ok (.iaload, 1) := dk_46 (dk_at dksX6_likedOf_0 5 rfl rfl)
theorem dX6_likedOf_6 : decode cX6_likedOf 6 = .ok (.aload_n 0, 1) := dk_42 (dk_at dksX6_likedOf_0 6 rfl rfl)
theorem dX6_likedOf_7 : decode cX6_likedOf 7 = .ok (.bipush 28, 2) := dk_16 28 (dk_at dksX6_likedOf_0 7 rfl rfl)
theorem dX6_likedOf_9 : decode cX6_likedOf 9 = .ok (.iload_n 1, 1) := dk_27 (dk_at dksX6_likedOf_0 9 rfl rfl)
theorem dX6_likedOf_10 : decode cX6_likedOf 10 = .ok (.iadd, 1) := dk_96 (dk_at dksX6_likedOf_0 10 rfl rfl)
theorem dX6_likedOf_11 : decode cX6_likedOf 11 = .ok (.iaload, 1) := dk_46 (dk_at dksX6_likedOf_0 11 rfl rfl)
theorem dX6_likedOf_12 : decode cX6_likedOf 12 = .ok (.aload_n 0, 1) := dk_42 (dk_at dksX6_likedOf_0 12 rfl rfl)
theorem dX6_likedOf_13 : decode cX6_likedOf 13 = .ok (.bipush 14, 2) := dk_16 14 (dk_at dksX6_likedOf_0 13 rfl rfl)
theorem dX6_likedOf_15 : decode cX6_likedOf 15 = .ok (.iload_n 2, 1) := dk_28 (dk_at dksX6_likedOf_0 15 rfl rfl)
theorem dX6_likedOf_16 : decode cX6_likedOf 16 = .ok (.iadd, 1) := dk_96 (dk_at dksX6_likedOf_0 16 rfl rfl)
theorem dX6_likedOf_17 : decode cX6_likedOf 17 = .ok (.iaload, 1) := dk_46 (dk_at dksX6_likedOf_0 17 rfl rfl)
theorem dX6_likedOf_18 : decode cX6_likedOf 18 = .ok (.invokestatic 101, 3) := dk_184 0 101 (dk_at dksX6_likedOf_0 18 rfl rfl)
theorem dX6_likedOf_21 : decode cX6_likedOf 21 = .ok (.ireturn, 1) := dk_172 (dk_at dksX6_likedOf_0 21 rfl rfl)
abbrev cX6_likedAs : ByteArray := prog_21_method_21_code
def yX6_likedAs : MethodName := ⟨RX6, "likedAs", "(III)I"⟩
def dkwX6_likedAs_3 : List UInt8 := [167, 0, 4, 27, 172, 28, 8, 112, 7, 160, 0, 7, 3, 167, 0, 8, 21, 4, 16, 9, 96, 172, 27, 172]
abbrev dktX6_likedAs_3 : List UInt8 := dkwX6_likedAs_3 ++ []
def dkwX6_likedAs_2 : List UInt8 := [29, 172, 21, 4, 172, 28, 5, 161, 0, 9, 5, 29, 104, 167, 0, 4, 29, 172, 28, 6, 162, 0, 7, 3]
abbrev dktX6_likedAs_2 : List UInt8 := dkwX6_likedAs_2 ++ dktX6_likedAs_3
def dkwX6_likedAs_1 : List UInt8 := [170, 0, 0, 0, 79, 0, 0, 0, 1, 0, 0, 0, 5, 0, 0, 0, 33, 0, 0, 0, 35, 0, 0, 0, 38, 0, 0, 0, 51, 0, 0, 0, 62]
abbrev dktX6_likedAs_1 : List UInt8 := dkwX6_likedAs_1 ++ dktX6_likedAs_2
def dkwX6_likedAs_0 : List UInt8 := [27, 8, 96, 62, 27, 28, 164, 0, 9, 27, 28, 100, 167, 0, 4, 3, 54, 4, 26]
abbrev dktX6_likedAs_0 : List UInt8 := dkwX6_likedAs_0 ++ dktX6_likedAs_1
theorem dksX6_likedAs_0 : cX6_likedAs.data.toList.drop 0 = dktX6_likedAs_0 := by decide +kernel
theorem dksX6_likedAs_1 : cX6_likedAs.data.toList.drop 19 = dktX6_likedAs_1 := dk_seg dksX6_likedAs_0 19 rfl rfl
theorem dksX6_likedAs_2 : cX6_likedAs.data.toList.drop 52 = dktX6_likedAs_2 := dk_seg dksX6_likedAs_1 33 rfl rfl
theorem dksX6_likedAs_3 : cX6_likedAs.data.toList.drop 76 = dktX6_likedAs_3 := dk_seg dksX6_likedAs_2 24 rfl rfl
theorem dX6_likedAs_0 : decode cX6_likedAs 0 = .ok (.iload_n 1, 1) := dk_27 (dk_at dksX6_likedAs_0 0 rfl rfl)
theorem dX6_likedAs_1 : decode cX6_likedAs 1 = .ok (.iconst 5, 1) := dk_8 (dk_at dksX6_likedAs_0 1 rfl rfl)
theorem dX6_likedAs_2 : decode cX6_likedAs 2 = .ok (.iadd, 1) := dk_96 (dk_at dksX6_likedAs_0 2 rfl rfl)
theorem dX6_likedAs_3 : decode cX6_likedAs 3 = .ok (.istore_n 3, 1) := dk_62 (dk_at dksX6_likedAs_0 3 rfl rfl)
theorem dX6_likedAs_4 : decode cX6_likedAs 4 = .ok (.iload_n 1, 1) := dk_27 (dk_at dksX6_likedAs_0 4 rfl rfl)
theorem dX6_likedAs_5 : decode cX6_likedAs 5 = .ok (.iload_n 2, 1) := dk_28 (dk_at dksX6_likedAs_0 5 rfl rfl)
theorem dX6_likedAs_6 : decode cX6_likedAs 6 = .ok (.if_icmp .le 9, 3) := dk_164 0 9 (dk_at dksX6_likedAs_0 6 rfl rfl)
theorem dX6_likedAs_9 : decode cX6_likedAs 9 = .ok (.iload_n 1, 1) := dk_27 (dk_at dksX6_likedAs_0 9 rfl rfl)
theorem dX6_likedAs_10 : decode cX6_likedAs 10 = .ok (.iload_n 2, 1) := dk_28 (dk_at dksX6_likedAs_0 10 rfl rfl)
theorem dX6_likedAs_11 : decode cX6_likedAs 11 = .ok (.isub, 1) := dk_100 (dk_at dksX6_likedAs_0 11 rfl rfl)
theorem dX6_likedAs_12 : decode cX6_likedAs 12 = .ok (.goto 4, 3) := dk_167 0 4 (dk_at dksX6_likedAs_0 12 rfl rfl)
theorem dX6_likedAs_15 : decode cX6_likedAs 15 = .ok (.iconst 0, 1) := dk_3 (dk_at dksX6_likedAs_0 15 rfl rfl)
theorem dX6_likedAs_16 : decode cX6_likedAs 16 = .ok (.istore 4, 2) := dk_54 4 (dk_at dksX6_likedAs_0 16 rfl rfl)
theorem dX6_likedAs_18 : decode cX6_likedAs 18 = .ok (.iload_n 0, 1) := dk_26 (dk_at dksX6_likedAs_0 18 rfl rfl)
theorem dX6_likedAs_19 : decode cX6_likedAs 19 = .ok (.tableswitch 79 1 5 #[33, 35, 38, 51, 62], 33) := by decide +kernel
theorem dX6_likedAs_52 : decode cX6_likedAs 52 = .ok (.iload_n 3, 1) := dk_29 (dk_at dksX6_likedAs_2 0 rfl rfl)
theorem dX6_likedAs_53 : decode cX6_likedAs 53 = .ok (.ireturn, 1) := dk_172 (dk_at dksX6_likedAs_2 1 rfl rfl)
theorem dX6_likedAs_54 : decode cX6_likedAs 54 = .ok (.iload 4, 2) := dk_21 4 (dk_at dksX6_likedAs_2 2 rfl rfl)
theorem dX6_likedAs_56 : decode cX6_likedAs 56 = .ok (.ireturn, 1) := dk_172 (dk_at dksX6_likedAs_2 4 rfl rfl)
theorem dX6_likedAs_57 : decode cX6_likedAs 57 = .ok (.iload_n 2, 1) := dk_28 (dk_at dksX6_likedAs_2 5 rfl rfl)
theorem dX6_likedAs_58 : decode cX6_likedAs 58 = .ok (.iconst 2, 1) := dk_5 (dk_at dksX6_likedAs_2 6 rfl rfl)
theorem dX6_likedAs_59 : decode cX6_likedAs 59 = .ok (.if_icmp .lt 9, 3) := dk_161 0 9 (dk_at dksX6_likedAs_2 7 rfl rfl)
theorem dX6_likedAs_62 : decode cX6_likedAs 62 = .ok (.iconst 2, 1) := dk_5 (dk_at dksX6_likedAs_2 10 rfl rfl)
theorem dX6_likedAs_63 : decode cX6_likedAs 63 = .ok (.iload_n 3, 1) := dk_29 (dk_at dksX6_likedAs_2 11 rfl rfl)
theorem dX6_likedAs_64 : decode cX6_likedAs 64 = .ok (.imul, 1) := dk_104 (dk_at dksX6_likedAs_2 12 rfl rfl)
theorem dX6_likedAs_65 : decode cX6_likedAs 65 = .ok (.goto 4, 3) := dk_167 0 4 (dk_at dksX6_likedAs_2 13 rfl rfl)
theorem dX6_likedAs_68 : decode cX6_likedAs 68 = .ok (.iload_n 3, 1) := dk_29 (dk_at dksX6_likedAs_2 16 rfl rfl)
theorem dX6_likedAs_69 : decode cX6_likedAs 69 = .ok (.ireturn, 1) := dk_172 (dk_at dksX6_likedAs_2 17 rfl rfl)
theorem dX6_likedAs_70 : decode cX6_likedAs 70 = .ok (.iload_n 2, 1) := dk_28 (dk_at dksX6_likedAs_2 18 rfl rfl)
theorem dX6_likedAs_71 : decode cX6_likedAs 71 = .ok (.iconst 3, 1) := dk_6 (dk_at dksX6_likedAs_2 19 rfl rfl)
theorem dX6_likedAs_72 : decode cX6_likedAs 72 = .ok (.if_icmp .ge 7, 3) := dk_162 0 7 (dk_at dksX6_likedAs_2 20 rfl rfl)
theorem dX6_likedAs_75 : decode cX6_likedAs 75 = .ok (.iconst 0, 1) := dk_3 (dk_at dksX6_likedAs_2 23 rfl rfl)
theorem dX6_likedAs_76 : decode cX6_likedAs 76 = .ok (.goto 4, 3) := dk_167 0 4 (dk_at dksX6_likedAs_3 0 rfl rfl)
theorem dX6_likedAs_79 : decode cX6_likedAs 79 = .ok (.iload_n 1, 1) := dk_27 (dk_at dksX6_likedAs_3 3 rfl rfl)
theorem dX6_likedAs_80 : decode cX6_likedAs 80 = .ok (.ireturn, 1) := dk_172 (dk_at dksX6_likedAs_3 4 rfl rfl)
theorem dX6_likedAs_81 : decode cX6_likedAs 81 = .ok (.iload_n 2, 1) := dk_28 (dk_at dksX6_likedAs_3 5 rfl rfl)
theorem dX6_likedAs_82 : decode cX6_likedAs 82 = .ok (.iconst 5, 1) := dk_8 (dk_at dksX6_likedAs_3 6 rfl rfl)
theorem dX6_likedAs_83 : decode cX6_likedAs 83 = .ok (.irem, 1) := dk_112 (dk_at dksX6_likedAs_3 7 rfl rfl)
theorem dX6_likedAs_84 : decode cX6_likedAs 84 = .ok (.iconst 4, 1) := dk_7 (dk_at dksX6_likedAs_3 8 rfl rfl)
theorem dX6_likedAs_85 : decode cX6_likedAs 85 = .ok (.if_icmp .ne 7, 3) := dk_160 0 7 (dk_at dksX6_likedAs_3 9 rfl rfl)
theorem dX6_likedAs_88 : decode cX6_likedAs 88 = .ok (.iconst 0, 1) := dk_3 (dk_at dksX6_likedAs_3 12 rfl rfl)
theorem dX6_likedAs_89 : decode cX6_likedAs 89 = .ok (.goto 8, 3) := dk_167 0 8 (dk_at dksX6_likedAs_3 13 rfl rfl)
theorem dX6_likedAs_92 : decode cX6_likedAs 92 = .ok (.iload 4, 2) := dk_21 4 (dk_at dksX6_likedAs_3 16 rfl rfl)
theorem dX6_likedAs_94 : decode cX6_likedAs 94 = .ok (.bipush 9, 2) := dk_16 9 (dk_at dksX6_likedAs_3 18 rfl rfl)
theorem dX6_likedAs_96 : decode cX6_likedAs 96 = .ok (.iadd, 1) := dk_96 (dk_at dksX6_likedAs_3 20 rfl rfl)
theorem dX6_likedAs_97 : decode cX6_likedAs 97 = .ok (.ireturn, 1) := dk_172 (dk_at dksX6_likedAs_3 21 rfl rfl)
theorem dX6_likedAs_98 : decode cX6_likedAs 98 = .ok (.iload_n 1, 1) := dk_27 (dk_at dksX6_likedAs_3 22 rfl rfl)
theorem dX6_likedAs_99 : decode cX6_likedAs 99 = .ok (.ireturn, 1) := dk_172 (dk_at dksX6_likedAs_3 23 rfl rfl)
abbrev cX6_boards : ByteArray := prog_21_method_30_code
def yX6_boards : MethodName := ⟨RX6, "boards", "(II)I"⟩
def dkwX6_boards_2 : List UInt8 := [16, 6, 28, 96, 27, 4, 96, 79, 42, 180, 0, 7, 27, 184, 0, 90, 172]
abbrev dktX6_boards_2 : List UInt8 := dkwX6_boards_2 ++ []
def dkwX6_boards_1 : List UInt8 := [180, 0, 7, 16, 6, 28, 96, 46, 153, 0, 8, 42, 182, 0, 111, 172, 42, 182, 0, 114, 42, 180, 0, 7]
abbrev dktX6_boards_1 : List UInt8 := dkwX6_boards_1 ++ dktX6_boards_2
def dkwX6_boards_0 : List UInt8 := [42, 27, 182, 0, 83, 153, 0, 11, 42, 28, 182, 0, 120, 154, 0, 10, 42, 16, 254, 182, 0, 73, 172, 42]
abbrev dktX6_boards_0 : List UInt8 := dkwX6_boards_0 ++ dktX6_boards_1
theorem dksX6_boards_0 : cX6_boards.data.toList.drop 0 = dktX6_boards_0 := by decide +kernel
theorem dksX6_boards_1 : cX6_boards.data.toList.drop 24 = dktX6_boards_1 := dk_seg dksX6_boards_0 24 rfl rfl
theorem dksX6_boards_2 : cX6_boards.data.toList.drop 48 = dktX6_boards_2 := dk_seg dksX6_boards_1 24 rfl rfl
theorem dX6_boards_0 : decode cX6_boards 0 = .ok (.aload_n 0, 1) := dk_42 (dk_at dksX6_boards_0 0 rfl rfl)
theorem dX6_boards_1 : decode cX6_boards 1 = .ok (.iload_n 1, 1) := dk_27 (dk_at dksX6_boards_0 1 rfl rfl)
theorem dX6_boards_2 : decode cX6_boards 2 = .ok (.invokevirtual 83, 3) := dk_182 0 83 (dk_at dksX6_boards_0 2 rfl rfl)
theorem dX6_boards_5 : decode cX6_boards 5 = .ok (.ifCond .eq 11, 3) := dk_153 0 11 (dk_at dksX6_boards_0 5 rfl rfl)
theorem dX6_boards_8 : decode cX6_boards 8 = .ok (.aload_n 0, 1) := dk_42 (dk_at dksX6_boards_0 8 rfl rfl)
theorem dX6_boards_9 : decode cX6_boards 9 = .ok (.iload_n 2, 1) := dk_28 (dk_at dksX6_boards_0 9 rfl rfl)
theorem dX6_boards_10 : decode cX6_boards 10 = .ok (.invokevirtual 120, 3) := dk_182 0 120 (dk_at dksX6_boards_0 10 rfl rfl)
theorem dX6_boards_13 : decode cX6_boards 13 = .ok (.ifCond .ne 10, 3) := dk_154 0 10 (dk_at dksX6_boards_0 13 rfl rfl)
theorem dX6_boards_16 : decode cX6_boards 16 = .ok (.aload_n 0, 1) := dk_42 (dk_at dksX6_boards_0 16 rfl rfl)
theorem dX6_boards_17 : decode cX6_boards 17 = .ok (.bipush (-2), 2) := dk_16 254 (dk_at dksX6_boards_0 17 rfl rfl)
theorem dX6_boards_19 : decode cX6_boards 19 = .ok (.invokevirtual 73, 3) := dk_182 0 73 (dk_at dksX6_boards_0 19 rfl rfl)
theorem dX6_boards_22 : decode cX6_boards 22 = .ok (.ireturn, 1) := dk_172 (dk_at dksX6_boards_0 22 rfl rfl)
theorem dX6_boards_23 : decode cX6_boards 23 = .ok (.aload_n 0, 1) := dk_42 (dk_at dksX6_boards_0 23 rfl rfl)
theorem dX6_boards_24 : decode cX6_boards 24 = .ok (.getfield 7, 3) := dk_180 0 7 (dk_at dksX6_boards_1 0 rfl rfl)
theorem dX6_boards_27 : decode cX6_boards 27 = .ok (.bipush 6, 2) := dk_16 6 (dk_at dksX6_boards_1 3 rfl rfl)
theorem dX6_boards_29 : decode cX6_boards 29 = .ok (.iload_n 2, 1) := dk_28 (dk_at dksX6_boards_1 5 rfl rfl)
theorem dX6_boards_30 : decode cX6_boards 30 = .ok (.iadd, 1) := dk_96 (dk_at dksX6_boards_1 6 rfl rfl)
theorem dX6_boards_31 : decode cX6_boards 31 = .ok (.iaload, 1) := dk_46 (dk_at dksX6_boards_1 7 rfl rfl)
theorem dX6_boards_32 : decode cX6_boards 32 = .ok (.ifCond .eq 8, 3) := dk_153 0 8 (dk_at dksX6_boards_1 8 rfl rfl)
theorem dX6_boards_35 : decode cX6_boards 35 = .ok (.aload_n 0, 1) := dk_42 (dk_at dksX6_boards_1 11 rfl rfl)
theorem dX6_boards_36 : decode cX6_boards 36 = .ok (.invokevirtual 111, 3) := dk_182 0 111 (dk_at dksX6_boards_1 12 rfl rfl)
theorem dX6_boards_39 : decode cX6_boards 39 = .ok (.ireturn, 1) := dk_172 (dk_at dksX6_boards_1 15 rfl rfl)
theorem dX6_boards_40 : decode cX6_boards 40 = .ok (.aload_n 0, 1) := dk_42 (dk_at dksX6_boards_1 16 rfl rfl)
theorem dX6_boards_41 : decode cX6_boards 41 = .ok (.invokevirtual 114, 3) := dk_182 0 114 (dk_at dksX6_boards_1 17 rfl rfl)
theorem dX6_boards_44 : decode cX6_boards 44 = .ok (.aload_n 0, 1) := dk_42 (dk_at dksX6_boards_1 20 rfl rfl)
theorem dX6_boards_45 : decode cX6_boards 45 = .ok (.getfield 7, 3) := dk_180 0 7 (dk_at dksX6_boards_1 21 rfl rfl)
theorem dX6_boards_48 : decode cX6_boards 48 = .ok (.bipush 6, 2) := dk_16 6 (dk_at dksX6_boards_2 0 rfl rfl)
theorem dX6_boards_50 : decode cX6_boards 50 = .ok (.iload_n 2, 1) := dk_28 (dk_at dksX6_boards_2 2 rfl rfl)
theorem dX6_boards_51 : decode cX6_boards 51 = .ok (.iadd, 1) := dk_96 (dk_at dksX6_boards_2 3 rfl rfl)
theorem dX6_boards_52 : decode cX6_boards 52 = .ok (.iload_n 1, 1) := dk_27 (dk_at dksX6_boards_2 4 rfl rfl)
theorem dX6_boards_53 : decode cX6_boards 53 = .ok (.iconst 1, 1) := dk_4 (dk_at dksX6_boards_2 5 rfl rfl)
theorem dX6_boards_54 : decode cX6_boards 54 = .ok (.iadd, 1) := dk_96 (dk_at dksX6_boards_2 6 rfl rfl)
theorem dX6_boards_55 : decode cX6_boards 55 = .ok (.iastore, 1) := dk_79 (dk_at dksX6_boards_2 7 rfl rfl)
theorem dX6_boards_56 : decode cX6_boards 56 = .ok (.aload_n 0, 1) := dk_42 (dk_at dksX6_boards_2 8 rfl rfl)
theorem dX6_boards_57 : decode cX6_boards 57 = .ok (.getfield 7, 3) := dk_180 0 7 (dk_at dksX6_boards_2 9 rfl rfl)
theorem dX6_boards_60 : decode cX6_boards 60 = .ok (.iload_n 1, 1) := dk_27 (dk_at dksX6_boards_2 12 rfl rfl)
theorem dX6_boards_61 : decode cX6_boards 61 = .ok (.invokestatic 90, 3) := dk_184 0 90 (dk_at dksX6_boards_2 13 rfl rfl)
theorem dX6_boards_64 : decode cX6_boards 64 = .ok (.ireturn, 1) := dk_172 (dk_at dksX6_boards_2 16 rfl rfl)
abbrev cX6_isMan : ByteArray := prog_21_method_11_code
def yX6_isMan : MethodName := ⟨RX6, "isMan", "(I)Z"⟩
def dkwX6_isMan_0 : List UInt8 := [27, 133, 9, 42, 182, 0, 55, 4, 100, 133, 184, 0, 59, 172]
abbrev dktX6_isMan_0 : List UInt8 := dkwX6_isMan_0 ++ []
theorem dksX6_isMan_0 : cX6_isMan.data.toList.drop 0 = dktX6_isMan_0 := by decide +kernel
theorem dX6_isMan_0 : decode cX6_isMan 0 = .ok (.iload_n 1, 1) := dk_27 (dk_at dksX6_isMan_0 0 rfl rfl)
theorem dX6_isMan_1 : decode cX6_isMan 1 = .ok (.i2l, 1) := dk_133 (dk_at dksX6_isMan_0 1 rfl rfl)
theorem dX6_isMan_2 : decode cX6_isMan 2 = .ok (.lconst 0, 1) := dk_9 (dk_at dksX6_isMan_0 2 rfl rfl)
theorem dX6_isMan_3 : decode cX6_isMan 3 = .ok (.aload_n 0, 1) := dk_42 (dk_at dksX6_isMan_0 3 rfl rfl)
theorem dX6_isMan_4 : decode cX6_isMan 4 = .ok (.invokevirtual 55, 3) := dk_182 0 55 (dk_at dksX6_isMan_0 4 rfl rfl)
theorem dX6_isMan_7 : decode cX6_isMan 7 = .ok (.iconst 1, 1) := dk_4 (dk_at dksX6_isMan_0 7 rfl rfl)
theorem dX6_isMan_8 : decode cX6_isMan 8 = .ok (.isub, 1) := dk_100 (dk_at dksX6_isMan_0 8 rfl rfl)
theorem dX6_isMan_9 : decode cX6_isMan 9 = .ok (.i2l, 1) := dk_133 (dk_at dksX6_isMan_0 9 rfl rfl)
theorem dX6_isMan_10 : decode cX6_isMan 10 = .ok (.invokestatic 59, 3) := dk_184 0 59 (dk_at dksX6_isMan_0 10 rfl rfl)
theorem dX6_isMan_13 : decode cX6_isMan 13 = .ok (.ireturn, 1) := dk_172 (dk_at dksX6_isMan_0 13 rfl rfl)
abbrev cX6_undo : ByteArray := prog_21_method_32_code
def yX6_undo : MethodName := ⟨RX6, "undo", "()I"⟩
def dkwX6_undo_3 : List UInt8 := [184, 0, 123, 172]
abbrev dktX6_undo_3 : List UInt8 := dkwX6_undo_3 ++ []
def dkwX6_undo_2 : List UInt8 := [42, 180, 0, 7, 8, 46, 104, 96, 27, 96, 46, 79, 132, 1, 1, 167, 255, 219, 42, 180, 0, 7]
abbrev dktX6_undo_2 : List UInt8 := dkwX6_undo_2 ++ dktX6_undo_3
def dkwX6_undo_1 : List UInt8 := [3, 60, 27, 16, 11, 162, 0, 37, 42, 180, 0, 7, 16, 6, 27, 96, 42, 180, 0, 7, 16, 104, 16, 11]
abbrev dktX6_undo_1 : List UInt8 := dkwX6_undo_1 ++ dktX6_undo_2
def dkwX6_undo_0 : List UInt8 := [42, 180, 0, 7, 8, 46, 154, 0, 8, 42, 182, 0, 111, 172, 42, 180, 0, 7, 8, 92, 46, 4, 100, 79]
abbrev dktX6_undo_0 : List UInt8 := dkwX6_undo_0 ++ dktX6_undo_1
theorem dksX6_undo_0 : cX6_undo.data.toList.drop 0 = dktX6_undo_0 := by decide +kernel
theorem dksX6_undo_1 : cX6_undo.data.toList.drop 24 = dktX6_undo_1 := dk_seg dksX6_undo_0 24 rfl rfl
theorem dksX6_undo_2 : cX6_undo.data.toList.drop 48 = dktX6_undo_2 := dk_seg dksX6_undo_1 24 rfl rfl
theorem dksX6_undo_3 : cX6_undo.data.toList.drop 70 = dktX6_undo_3 := dk_seg dksX6_undo_2 22 rfl rfl
theorem dX6_undo_0 : decode cX6_undo 0 = .ok (.aload_n 0, 1) := dk_42 (dk_at dksX6_undo_0 0 rfl rfl)
theorem dX6_undo_1 : decode cX6_undo 1 = .ok (.getfield 7, 3) := dk_180 0 7 (dk_at dksX6_undo_0 1 rfl rfl)
theorem dX6_undo_4 : decode cX6_undo 4 = .ok (.iconst 5, 1) := dk_8 (dk_at dksX6_undo_0 4 rfl rfl)
theorem dX6_undo_5 : decode cX6_undo 5 = .ok (.iaload, 1) := dk_46 (dk_at dksX6_undo_0 5 rfl rfl)
theorem dX6_undo_6 : decode cX6_undo 6 = .ok (.ifCond .ne 8, 3) := dk_154 0 8 (dk_at dksX6_undo_0 6 rfl rfl)
theorem dX6_undo_9 : decode cX6_undo 9 = .ok (.aload_n 0, 1) := dk_42 (dk_at dksX6_undo_0 9 rfl rfl)
theorem dX6_undo_10 : decode cX6_undo 10 = .ok (.invokevirtual 111, 3) := dk_182 0 111 (dk_at dksX6_undo_0 10 rfl rfl)
theorem dX6_undo_13 : decode cX6_undo 13 = .ok (.ireturn, 1) := dk_172 (dk_at dksX6_undo_0 13 rfl rfl)
theorem dX6_undo_14 : decode cX6_undo 14 = .ok (.aload_n 0, 1) := dk_42 (dk_at dksX6_undo_0 14 rfl rfl)
theorem dX6_undo_15 : decode cX6_undo 15 = .ok (.getfield 7, 3) := dk_180 0 7 (dk_at dksX6_undo_0 15 rfl rfl)
theorem dX6_undo_18 : decode cX6_undo 18 = .ok (.iconst 5, 1) := dk_8 (dk_at dksX6_undo_0 18 rfl rfl)
theorem dX6_undo_19 : decode cX6_undo 19 = .ok (.dup2, 1) := dk_92 (dk_at dksX6_undo_0 19 rfl rfl)
theorem dX6_undo_20 : decode cX6_undo 20 = .ok (.iaload, 1) := dk_46 (dk_at dksX6_undo_0 20 rfl rfl)
theorem dX6_undo_21 : decode cX6_undo 21 = .ok (.iconst 1, 1) := dk_4 (dk_at dksX6_undo_0 21 rfl rfl)
theorem dX6_undo_22 : decode cX6_undo 22 = .ok (.isub, 1) := dk_100 (dk_at dksX6_undo_0 22 rfl rfl)
theorem dX6_undo_23 : decode cX6_undo 23 = .ok (.iastore, 1) := dk_79 (dk_at dksX6_undo_0 23 rfl rfl)
theorem dX6_undo_24 : decode cX6_undo 24 = .ok (.iconst 0, 1) := dk_3 (dk_at dksX6_undo_1 0 rfl rfl)
theorem dX6_undo_25 : decode cX6_undo 25 = .ok (.istore_n 1, 1) := dk_60 (dk_at dksX6_undo_1 1 rfl rfl)
theorem dX6_undo_26 : decode cX6_undo 26 = .ok (.iload_n 1, 1) := dk_27 (dk_at dksX6_undo_1 2 rfl rfl)
theorem dX6_undo_27 : decode cX6_undo 27 = .ok (.bipush 11, 2) := dk_16 11 (dk_at dksX6_undo_1 3 rfl rfl)
theorem dX6_undo_29 : decode cX6_undo 29 = .ok (.if_icmp .ge 37, 3) := dk_162 0 37 (dk_at dksX6_undo_1 5 rfl rfl)
theorem dX6_undo_32 : decode cX6_undo 32 = .ok (.aload_n 0, 1) := dk_42 (dk_at dksX6_undo_1 8 rfl rfl)
theorem dX6_undo_33 : decode cX6_undo 33 = .ok (.getfield 7, 3) := dk_180 0 7 (dk_at dksX6_undo_1 9 rfl rfl)
theorem dX6_undo_36 : decode cX6_undo 36 = .ok (.bipush 6, 2) := dk_16 6 (dk_at dksX6_undo_1 12 rfl rfl)
theorem dX6_undo_38 : decode cX6_undo 38 = .ok (.iload_n 1, 1) := dk_27 (dk_at dksX6_undo_1 14 rfl rfl)
theorem dX6_undo_39 : decode cX6_undo 39 = .ok (.iadd, 1) := dk_96 (dk_at dksX6_undo_1 15 rfl rfl)
theorem dX6_undo_40 : decode cX6_undo 40 = .ok (.aload_n 0, 1) := dk_42 (dk_at dksX6_undo_1 16 rfl rfl)
theorem dX6_undo_41 : decode cX6_undo 41 = .ok (.getfield 7, 3) := dk_180 0 7 (dk_at dksX6_undo_1 17 rfl rfl)
theorem dX6_undo_44 : decode cX6_undo 44 = .ok (.bipush 104, 2) := dk_16 104 (dk_at dksX6_undo_1 20 rfl rfl)
theorem dX6_undo_46 : decode cX6_undo 46 = .ok (.bipush 11, 2) := dk_16 11 (dk_at dksX6_undo_1 22 rfl rfl)
theorem dX6_undo_48 : decode cX6_undo 48 = .ok (.aload_n 0, 1) := dk_42 (dk_at dksX6_undo_2 0 rfl rfl)
theorem dX6_undo_49 : decode cX6_undo 49 = .ok (.getfield 7, 3) := dk_180 0 7 (dk_at dksX6_undo_2 1 rfl rfl)
theorem dX6_undo_52 : decode cX6_undo 52 = .ok (.iconst 5, 1) := dk_8 (dk_at dksX6_undo_2 4 rfl rfl)
theorem dX6_undo_53 : decode cX6_undo 53 = .ok (.iaload, 1) := dk_46 (dk_at dksX6_undo_2 5 rfl rfl)
theorem dX6_undo_54 : decode cX6_undo 54 = .ok (.imul, 1) := dk_104 (dk_at dksX6_undo_2 6 rfl rfl)
theorem dX6_undo_55 : decode cX6_undo 55 = .ok (.iadd, 1) := dk_96 (dk_at dksX6_undo_2 7 rfl rfl)
theorem dX6_undo_56 : decode cX6_undo 56 = .ok (.iload_n 1, 1) := dk_27 (dk_at dksX6_undo_2 8 rfl rfl)
theorem dX6_undo_57 : decode cX6_undo 57 = .ok (.iadd, 1) := dk_96 (dk_at dksX6_undo_2 9 rfl rfl)
theorem dX6_undo_58 : decode cX6_undo 58 = .ok (.iaload, 1) := dk_46 (dk_at dksX6_undo_2 10 rfl rfl)
theorem dX6_undo_59 : decode cX6_undo 59 = .ok (.iastore, 1) := dk_79 (dk_at dksX6_undo_2 11 rfl rfl)
theorem dX6_undo_60 : decode cX6_undo 60 = .ok (.iinc 1 1, 3) := dk_132 1 1 (dk_at dksX6_undo_2 12 rfl rfl)
theorem dX6_undo_63 : decode cX6_undo 63 = .ok (.goto (-37), 3) := dk_167 255 219 (dk_at dksX6_undo_2 15 rfl rfl)
theorem dX6_undo_66 : decode cX6_undo 66 = .ok (.aload_n 0, 1) := dk_42 (dk_at dksX6_undo_2 18 rfl rfl)
theorem dX6_undo_67 : decode cX6_undo 67 = .ok (.getfield 7, 3) := dk_180 0 7 (dk_at dksX6_undo_2 19 rfl rfl)
theorem dX6_undo_70 : decode cX6_undo 70 = .ok (.invokestatic 123, 3) := dk_184 0 123 (dk_at dksX6_undo_3 0 rfl rfl)
theorem dX6_undo_73 : decode cX6_undo 73 = .ok (.ireturn, 1) := dk_172 (dk_at dksX6_undo_3 3 rfl rfl)
abbrev cX6_ashore : ByteArray := prog_21_method_31_code
def yX6_ashore : MethodName := ⟨RX6, "ashore", "([I)I"⟩
def dkwX6_ashore_0 : List UInt8 := [42, 2, 184, 0, 90, 172]
abbrev dktX6_ashore_0 : List UInt8 := dkwX6_ashore_0 ++ []
theorem dksX6_ashore_0 : cX6_ashore.data.toList.drop 0 = dktX6_ashore_0 := by decide +kernel
theorem dX6_ashore_0 : decode cX6_ashore 0 = .ok (.aload_n 0, 1) := dk_42 (dk_at dksX6_ashore_0 0 rfl rfl)
theorem dX6_ashore_1 : decode cX6_ashore 1 = .ok (.iconst (-1), 1) := dk_2 (dk_at dksX6_ashore_0 1 rfl rfl)
theorem dX6_ashore_2 : decode cX6_ashore 2 = .ok (.invokestatic 90, 3) := dk_184 0 90 (dk_at dksX6_ashore_0 2 rfl rfl)
theorem dX6_ashore_5 : decode cX6_ashore 5 = .ok (.ireturn, 1) := dk_172 (dk_at dksX6_ashore_0 5 rfl rfl)
abbrev cX6_of : ByteArray := prog_21_method_33_code
def yX6_of : MethodName := ⟨RX6, "of", "(II)I"⟩
def dkwX6_of_4 : List UInt8 := [160, 0, 7, 2, 167, 0, 12, 42, 180, 0, 7, 27, 29, 184, 0, 104, 172]
abbrev dktX6_of_4 : List UInt8 := dkwX6_of_4 ++ []
def dkwX6_of_3 : List UInt8 := [42, 180, 0, 7, 16, 20, 27, 96, 46, 172, 42, 180, 0, 7, 16, 28, 27, 96, 46, 172, 29, 172, 29, 2]
abbrev dktX6_of_3 : List UInt8 := dkwX6_of_3 ++ dktX6_of_4
def dkwX6_of_2 : List UInt8 := [170, 0, 0, 0, 0, 0, 0, 50, 0, 0, 0, 0, 0, 0, 0, 2, 0, 0, 0, 28, 0, 0, 0, 38, 0, 0, 0, 48]
abbrev dktX6_of_2 : List UInt8 := dkwX6_of_2 ++ dktX6_of_3
def dkwX6_of_1 : List UInt8 := [182, 0, 73, 172, 42, 180, 0, 7, 16, 6, 27, 96, 46, 4, 100, 62, 28]
abbrev dktX6_of_1 : List UInt8 := dkwX6_of_1 ++ dktX6_of_2
def dkwX6_of_0 : List UInt8 := [42, 27, 182, 0, 120, 153, 0, 15, 28, 133, 9, 20, 0, 127, 184, 0, 59, 154, 0, 10, 42, 16, 254]
abbrev dktX6_of_0 : List UInt8 := dkwX6_of_0 ++ dktX6_of_1
theorem dksX6_of_0 : cX6_of.data.toList.drop 0 = dktX6_of_0 := by decide +kernel
theorem dksX6_of_1 : cX6_of.data.toList.drop 23 = dktX6_of_1 := dk_seg dksX6_of_0 23 rfl rfl
theorem dksX6_of_2 : cX6_of.data.toList.drop 40 = dktX6_of_2 := dk_seg dksX6_of_1 17 rfl rfl
theorem dksX6_of_3 : cX6_of.data.toList.drop 68 = dktX6_of_3 := dk_seg dksX6_of_2 28 rfl rfl
theorem dksX6_of_4 : cX6_of.data.toList.drop 92 = dktX6_of_4 := dk_seg dksX6_of_3 24 rfl rfl
theorem dX6_of_0 : decode cX6_of 0 = .ok (.aload_n 0, 1) := dk_42 (dk_at dksX6_of_0 0 rfl rfl)
theorem dX6_of_1 : decode cX6_of 1 = .ok (.iload_n 1, 1) := dk_27 (dk_at dksX6_of_0 1 rfl rfl)
theorem dX6_of_2 : decode cX6_of 2 = .ok (.invokevirtual 120, 3) := dk_182 0 120 (dk_at dksX6_of_0 2 rfl rfl)
theorem dX6_of_5 : decode cX6_of 5 = .ok (.ifCond .eq 15, 3) := dk_153 0 15 (dk_at dksX6_of_0 5 rfl rfl)
theorem dX6_of_8 : decode cX6_of 8 = .ok (.iload_n 2, 1) := dk_28 (dk_at dksX6_of_0 8 rfl rfl)
theorem dX6_of_9 : decode cX6_of 9 = .ok (.i2l, 1) := dk_133 (dk_at dksX6_of_0 9 rfl rfl)
theorem dX6_of_10 : decode cX6_of 10 = .ok (.lconst 0, 1) := dk_9 (dk_at dksX6_of_0 10 rfl rfl)
theorem dX6_of_11 : decode cX6_of 11 = .ok (.ldc2_w 127, 3) := dk_20 0 127 (dk_at dksX6_of_0 11 rfl rfl)
theorem dX6_of_14 : decode cX6_of 14 = .ok (.invokestatic 59, 3) := dk_184 0 59 (dk_at dksX6_of_0 14 rfl rfl)
theorem dX6_of_17 : decode cX6_of 17 = .ok (.ifCond .ne 10, 3) := dk_154 0 10 (dk_at dksX6_of_0 17 rfl rfl)
theorem dX6_of_20 : decode cX6_of 20 = .ok (.aload_n 0, 1) := dk_42 (dk_at dksX6_of_0 20 rfl rfl)
theorem dX6_of_21 : decode cX6_of 21 = .ok (.bipush (-2), 2) := dk_16 254 (dk_at dksX6_of_0 21 rfl rfl)
theorem dX6_of_23 : decode cX6_of 23 = .ok (.invokevirtual 73, 3) := dk_182 0 73 (dk_at dksX6_of_1 0 rfl rfl)
theorem dX6_of_26 : decode cX6_of 26 = .ok (.ireturn, 1) := dk_172 (dk_at dksX6_of_1 3 rfl rfl)
theorem dX6_of_27 : decode cX6_of 27 = .ok (.aload_n 0, 1) := dk_42 (dk_at dksX6_of_1 4 rfl rfl)
theorem dX6_of_28 : decode cX6_of 28 = .ok (.getfield 7, 3) := dk_180 0 7 (dk_at dksX6_of_1 5 rfl rfl)
theorem dX6_of_31 : decode cX6_of 31 = .ok (.bipush 6, 2) := dk_16 6 (dk_at dksX6_of_1 8 rfl rfl)
theorem dX6_of_33 : decode cX6_of 33 = .ok (.iload_n 1, 1) := dk_27 (dk_at dksX6_of_1 10 rfl rfl)
theorem dX6_of_34 : decode cX6_of 34 = .ok (.iadd, 1) := dk_96 (dk_at dksX6_of_1 11 rfl rfl)
theorem dX6_of_35 : decode cX6_of 35 = .ok (.iaload, 1) := dk_46 (dk_at dksX6_of_1 12 rfl rfl)
theorem dX6_of_36 : decode cX6_of 36 = .ok (.iconst 1, 1) := dk_4 (dk_at dksX6_of_1 13 rfl rfl)
theorem dX6_of_37 : decode cX6_of 37 = .ok (.isub, 1) := dk_100 (dk_at dksX6_of_1 14 rfl rfl)
theorem dX6_of_38 : decode cX6_of 38 = .ok (.istore_n 3, 1) := dk_62 (dk_at dksX6_of_1 15 rfl rfl)
theorem dX6_of_39 : decode cX6_of 39 = .ok (.iload_n 2, 1) := dk_28 (dk_at dksX6_of_1 16 rfl rfl)
theorem dX6_of_40 : decode cX6_of 40 = .ok (.tableswitch 50 0 2 #[28, 38, 48], 28) := by decide +kernel
theorem dX6_of_68 : decode cX6_of 68 = .ok (.aload_n 0, 1) := dk_42 (dk_at dksX6_of_3 0 rfl rfl)
theorem dX6_of_69 : decode cX6_of 69 = .ok (.getfield 7, 3) := dk_180 0 7 (dk_at dksX6_of_3 1 rfl rfl)
theorem dX6_of_72 : decode cX6_of 72 = .ok (.bipush 20, 2) := dk_16 20 (dk_at dksX6_of_3 4 rfl rfl)
theorem dX6_of_74 : decode cX6_of 74 = .ok (.iload_n 1, 1) := dk_27 (dk_at dksX6_of_3 6 rfl rfl)
theorem dX6_of_75 : decode cX6_of 75 = .ok (.iadd, 1) := dk_96 (dk_at dksX6_of_3 7 rfl rfl)
theorem dX6_of_76 : decode cX6_of 76 = .ok (.iaload, 1) := dk_46 (dk_at dksX6_of_3 8 rfl rfl)
theorem dX6_of_77 : decode cX6_of 77 = .ok (.ireturn, 1) := dk_172 (dk_at dksX6_of_3 9 rfl rfl)
theorem dX6_of_78 : decode cX6_of 78 = .ok (.aload_n 0, 1) := dk_42 (dk_at dksX6_of_3 10 rfl rfl)
theorem dX6_of_79 : decode cX6_of 79 = .ok (.getfield 7, 3) := dk_180 0 7 (dk_at dksX6_of_3 11 rfl rfl)
theorem dX6_of_82 : decode cX6_of 82 = .ok (.bipush 28, 2) := dk_16 28 (dk_at dksX6_of_3 14 rfl rfl)
theorem dX6_of_84 : decode cX6_of 84 = .ok (.iload_n 1, 1) := dk_27 (dk_at dksX6_of_3 16 rfl rfl)
theorem dX6_of_85 : decode cX6_of 85 = .ok (.iadd, 1) := dk_96 (dk_at dksX6_of_3 17 rfl rfl)
theorem dX6_of_86 : decode cX6_of 86 = .ok (.iaload, 1) := dk_46 (dk_at dksX6_of_3 18 rfl rfl)
theorem dX6_of_87 : decode cX6_of 87 = .ok (.ireturn, 1) := dk_172 (dk_at dksX6_of_3 19 rfl rfl)
theorem dX6_of_88 : decode cX6_of 88 = .ok (.iload_n 3, 1) := dk_29 (dk_at dksX6_of_3 20 rfl rfl)
theorem dX6_of_89 : decode cX6_of 89 = .ok (.ireturn, 1) := dk_172 (dk_at dksX6_of_3 21 rfl rfl)
theorem dX6_of_90 : decode cX6_of 90 = .ok (.iload_n 3, 1) := dk_29 (dk_at dksX6_of_3 22 rfl rfl)
theorem dX6_of_91 : decode cX6_of 91 = .ok (.iconst (-1), 1) := dk_2 (dk_at dksX6_of_3 23 rfl rfl)
theorem dX6_of_92 : decode cX6_of 92 = .ok (.if_icmp .ne 7, 3) := dk_160 0 7 (dk_at dksX6_of_4 0 rfl rfl)
theorem dX6_of_95 : decode cX6_of 95 = .ok (.iconst (-1), 1) := dk_2 (dk_at dksX6_of_4 3 rfl rfl)
theorem dX6_of_96 : decode cX6_of 96 = .ok (.goto 12, 3) := dk_167 0 12 (dk_at dksX6_of_4 4 rfl rfl)
theorem dX6_of_99 : decode cX6_of 99 = .ok (.aload_n 0, 1) := dk_42 (dk_at dksX6_of_4 7 rfl rfl)
theorem dX6_of_100 : decode cX6_of 100 = .ok (.getfield 7, 3) := dk_180 0 7 (dk_at dksX6_of_4 8 rfl rfl)
theorem dX6_of_103 : decode cX6_of 103 = .ok (.iload_n 1, 1) := dk_27 (dk_at dksX6_of_4 11 rfl rfl)
theorem dX6_of_104 : decode cX6_of 104 = .ok (.iload_n 3, 1) := dk_29 (dk_at dksX6_of_4 12 rfl rfl)
theorem dX6_of_105 : decode cX6_of 105 = .ok (.invokestatic 104, 3) := dk_184 0 104 (dk_at dksX6_of_4 13 rfl rfl)
theorem dX6_of_108 : decode cX6_of 108 = .ok (.ireturn, 1) := dk_172 (dk_at dksX6_of_4 16 rfl rfl)
abbrev cX6_about : ByteArray := prog_21_method_35_code
def yX6_about : MethodName := ⟨RX6, "about", "(II)I"⟩
def dkwX6_about_4 : List UInt8 := [182, 0, 129, 172, 42, 180, 0, 7, 27, 4, 96, 184, 0, 94, 172]
abbrev dktX6_about_4 : List UInt8 := dkwX6_about_4 ++ []
def dkwX6_about_3 : List UInt8 := [42, 180, 0, 7, 16, 17, 27, 96, 46, 172, 42, 180, 0, 7, 16, 14, 27, 96, 46, 172, 42, 27]
abbrev dktX6_about_3 : List UInt8 := dkwX6_about_3 ++ dktX6_about_4
def dkwX6_about_2 : List UInt8 := [170, 0, 0, 0, 0, 0, 0, 54, 0, 0, 0, 0, 0, 0, 0, 2, 0, 0, 0, 28, 0, 0, 0, 38, 0, 0, 0, 48]
abbrev dktX6_about_2 : List UInt8 := dkwX6_about_2 ++ dktX6_about_3
def dkwX6_about_1 : List UInt8 := [182, 0, 73, 172, 28]
abbrev dktX6_about_1 : List UInt8 := dkwX6_about_1 ++ dktX6_about_2
def dkwX6_about_0 : List UInt8 := [42, 27, 182, 0, 83, 153, 0, 15, 28, 133, 9, 20, 0, 127, 184, 0, 59, 154, 0, 10, 42, 16, 254]
abbrev dktX6_about_0 : List UInt8 := dkwX6_about_0 ++ dktX6_about_1
theorem dksX6_about_0 : cX6_about.data.toList.drop 0 = dktX6_about_0 := by decide +kernel
theorem dksX6_about_1 : cX6_about.data.toList.drop 23 = dktX6_about_1 := dk_seg dksX6_about_0 23 rfl rfl
theorem dksX6_about_2 : cX6_about.data.toList.drop 28 = dktX6_about_2 := dk_seg dksX6_about_1 5 rfl rfl
theorem dksX6_about_3 : cX6_about.data.toList.drop 56 = dktX6_about_3 := dk_seg dksX6_about_2 28 rfl rfl
theorem dksX6_about_4 : cX6_about.data.toList.drop 78 = dktX6_about_4 := dk_seg dksX6_about_3 22 rfl rfl
theorem dX6_about_0 : decode cX6_about 0 = .ok (.aload_n 0, 1) := dk_42 (dk_at dksX6_about_0 0 rfl rfl)
theorem dX6_about_1 : decode cX6_about 1 = .ok (.iload_n 1, 1) := dk_27 (dk_at dksX6_about_0 1 rfl rfl)
theorem dX6_about_2 : decode cX6_about 2 = .ok (.invokevirtual 83, 3) := dk_182 0 83 (dk_at dksX6_about_0 2 rfl rfl)
theorem dX6_about_5 : decode cX6_about 5 = .ok (.ifCond .eq 15, 3) := dk_153 0 15 (dk_at dksX6_about_0 5 rfl rfl)
theorem dX6_about_8 : decode cX6_about 8 = .ok (.iload_n 2, 1) := dk_28 (dk_at dksX6_about_0 8 rfl rfl)
theorem dX6_about_9 : decode cX6_about 9 = .ok (.i2l, 1) := dk_133 (dk_at dksX6_about_0 9 rfl rfl)
theorem dX6_about_10 : decode cX6_about 10 = .ok (.lconst 0, 1) := dk_9 (dk_at dksX6_about_0 10 rfl rfl)
theorem dX6_about_11 : decode cX6_about 11 = .ok (.ldc2_w 127, 3) := dk_20 0 127 (dk_at dksX6_about_0 11 rfl rfl)
theorem dX6_about_14 : decode cX6_about 14 = .ok (.invokestatic 59, 3) := dk_184 0 59 (dk_at dksX6_about_0 14 rfl rfl)
theorem dX6_about_17 : decode cX6_about 17 = .ok (.ifCond .ne 10, 3) := dk_154 0 10 (dk_at dksX6_about_0 17 rfl rfl)
theorem dX6_about_20 : decode cX6_about 20 = .ok (.aload_n 0, 1) := dk_42 (dk_at dksX6_about_0 20 rfl rfl)
theorem dX6_about_21 : decode cX6_about 21 = .ok (.bipush (-2), 2) := dk_16 254 (dk_at dksX6_about_0 21 rfl rfl)
theorem dX6_about_23 : decode cX6_about 23 = .ok (.invokevirtual 73, 3) := dk_182 0 73 (dk_at dksX6_about_1 0 rfl rfl)
theorem dX6_about_26 : decode cX6_about 26 = .ok (.ireturn, 1) := dk_172 (dk_at dksX6_about_1 3 rfl rfl)
theorem dX6_about_27 : decode cX6_about 27 = .ok (.iload_n 2, 1) := dk_28 (dk_at dksX6_about_1 4 rfl rfl)
theorem dX6_about_28 : decode cX6_about 28 = .ok (.tableswitch 54 0 2 #[28, 38, 48], 28) := by decide +kernel
theorem dX6_about_56 : decode cX6_about 56 = .ok (.aload_n 0, 1) := dk_42 (dk_at dksX6_about_3 0 rfl rfl)
theorem dX6_about_57 : decode cX6_about 57 = .ok (.getfield 7, 3) := dk_180 0 7 (dk_at dksX6_about_3 1 rfl rfl)
theorem dX6_about_60 : decode cX6_about 60 = .ok (.bipush 17, 2) := dk_16 17 (dk_at dksX6_about_3 4 rfl rfl)
theorem dX6_about_62 : decode cX6_about 62 = .ok (.iload_n 1, 1) := dk_27 (dk_at dksX6_about_3 6 rfl rfl)
theorem dX6_about_63 : decode cX6_about 63 = .ok (.iadd, 1) := dk_96 (dk_at dksX6_about_3 7 rfl rfl)
theorem dX6_about_64 : decode cX6_about 64 = .ok (.iaload, 1) := dk_46 (dk_at dksX6_about_3 8 rfl rfl)
theorem dX6_about_65 : decode cX6_about 65 = .ok (.ireturn, 1) := dk_172 (dk_at dksX6_about_3 9 rfl rfl)
theorem dX6_about_66 : decode cX6_about 66 = .ok (.aload_n 0, 1) := dk_42 (dk_at dksX6_about_3 10 rfl rfl)
theorem dX6_about_67 : decode cX6_about 67 = .ok (.getfield 7, 3) := dk_180 0 7 (dk_at dksX6_about_3 11 rfl rfl)
theorem dX6_about_70 : decode cX6_about 70 = .ok (.bipush 14, 2) := dk_16 14 (dk_at dksX6_about_3 14 rfl rfl)
theorem dX6_about_72 : decode cX6_about 72 = .ok (.iload_n 1, 1) := dk_27 (dk_at dksX6_about_3 16 rfl rfl)
theorem dX6_about_73 : decode cX6_about 73 = .ok (.iadd, 1) := dk_96 (dk_at dksX6_about_3 17 rfl rfl)
theorem dX6_about_74 : decode cX6_about 74 = .ok (.iaload, 1) := dk_46 (dk_at dksX6_about_3 18 rfl rfl)
theorem dX6_about_75 : decode cX6_about 75 = .ok (.ireturn, 1) := dk_172 (dk_at dksX6_about_3 19 rfl rfl)
theorem dX6_about_76 : decode cX6_about 76 = .ok (.aload_n 0, 1) := dk_42 (dk_at dksX6_about_3 20 rfl rfl)
theorem dX6_about_77 : decode cX6_about 77 = .ok (.iload_n 1, 1) := dk_27 (dk_at dksX6_about_3 21 rfl rfl)
theorem dX6_about_78 : decode cX6_about 78 = .ok (.invokevirtual 129, 3) := dk_182 0 129 (dk_at dksX6_about_4 0 rfl rfl)
theorem dX6_about_81 : decode cX6_about 81 = .ok (.ireturn, 1) := dk_172 (dk_at dksX6_about_4 3 rfl rfl)
theorem dX6_about_82 : decode cX6_about 82 = .ok (.aload_n 0, 1) := dk_42 (dk_at dksX6_about_4 4 rfl rfl)
theorem dX6_about_83 : decode cX6_about 83 = .ok (.getfield 7, 3) := dk_180 0 7 (dk_at dksX6_about_4 5 rfl rfl)
theorem dX6_about_86 : decode cX6_about 86 = .ok (.iload_n 1, 1) := dk_27 (dk_at dksX6_about_4 8 rfl rfl)
theorem dX6_about_87 : decode cX6_about 87 = .ok (.iconst 1, 1) := dk_4 (dk_at dksX6_about_4 9 rfl rfl)
theorem dX6_about_88 : decode cX6_about 88 = .ok (.iadd, 1) := dk_96 (dk_at dksX6_about_4 10 rfl rfl)
theorem dX6_about_89 : decode cX6_about 89 = .ok (.invokestatic 94, 3) := dk_184 0 94 (dk_at dksX6_about_4 11 rfl rfl)
theorem dX6_about_92 : decode cX6_about 92 = .ok (.ireturn, 1) := dk_172 (dk_at dksX6_about_4 14 rfl rfl)
abbrev cX6_crewOf : ByteArray := prog_21_method_34_code
def yX6_crewOf : MethodName := ⟨RX6, "crewOf", "(I)I"⟩
def dkwX6_crewOf_1 : List UInt8 := [96, 160, 0, 9, 4, 29, 120, 167, 0, 4, 3, 128, 61, 132, 3, 1, 167, 255, 220, 28, 172]
abbrev dktX6_crewOf_1 : List UInt8 := dkwX6_crewOf_1 ++ []
def dkwX6_crewOf_0 : List UInt8 := [3, 61, 3, 62, 29, 42, 182, 0, 55, 162, 0, 34, 28, 42, 180, 0, 7, 16, 6, 29, 96, 46, 27, 4]
abbrev dktX6_crewOf_0 : List UInt8 := dkwX6_crewOf_0 ++ dktX6_crewOf_1
theorem dksX6_crewOf_0 : cX6_crewOf.data.toList.drop 0 = dktX6_crewOf_0 := by decide +kernel
theorem dksX6_crewOf_1 : cX6_crewOf.data.toList.drop 24 = dktX6_crewOf_1 := dk_seg dksX6_crewOf_0 24 rfl rfl
theorem dX6_crewOf_0 : decode cX6_crewOf 0 = .ok (.iconst 0, 1) := dk_3 (dk_at dksX6_crewOf_0 0 rfl rfl)
theorem dX6_crewOf_1 : decode cX6_crewOf 1 = .ok (.istore_n 2, 1) := dk_61 (dk_at dksX6_crewOf_0 1 rfl rfl)
theorem dX6_crewOf_2 : decode cX6_crewOf 2 = .ok (.iconst 0, 1) := dk_3 (dk_at dksX6_crewOf_0 2 rfl rfl)
theorem dX6_crewOf_3 : decode cX6_crewOf 3 = .ok (.istore_n 3, 1) := dk_62 (dk_at dksX6_crewOf_0 3 rfl rfl)
theorem dX6_crewOf_4 : decode cX6_crewOf 4 = .ok (.iload_n 3, 1) := dk_29 (dk_at dksX6_crewOf_0 4 rfl rfl)
theorem dX6_crewOf_5 : decode cX6_crewOf 5 = .ok (.aload_n 0, 1) := dk_42 (dk_at dksX6_crewOf_0 5 rfl rfl)
theorem dX6_crewOf_6 : decode cX6_crewOf 6 = .ok (.invokevirtual 55, 3) := dk_182 0 55 (dk_at dksX6_crewOf_0 6 rfl rfl)
theorem dX6_crewOf_9 : decode cX6_crewOf 9 = .ok (.if_icmp .ge 34, 3) := dk_162 0 34 (dk_at dksX6_crewOf_0 9 rfl rfl)
theorem dX6_crewOf_12 : decode cX6_crewOf 12 = .ok (.iload_n 2, 1) := dk_28 (dk_at dksX6_crewOf_0 12 rfl rfl)
theorem dX6_crewOf_13 : decode cX6_crewOf 13 = .ok (.aload_n 0, 1) := dk_42 (dk_at dksX6_crewOf_0 13 rfl rfl)
theorem dX6_crewOf_14 : decode cX6_crewOf 14 = .ok (.getfield 7, 3) := dk_180 0 7 (dk_at dksX6_crewOf_0 14 rfl rfl)
theorem dX6_crewOf_17 : decode cX6_crewOf 17 = .ok (.bipush 6, 2) := dk_16 6 (dk_at dksX6_crewOf_0 17 rfl rfl)
theorem dX6_crewOf_19 : decode cX6_crewOf 19 = .ok (.iload_n 3, 1) := dk_29 (dk_at dksX6_crewOf_0 19 rfl rfl)
theorem dX6_crewOf_20 : decode cX6_crewOf 20 = .ok (.iadd, 1) := dk_96 (dk_at dksX6_crewOf_0 20 rfl rfl)
theorem dX6_crewOf_21 : decode cX6_crewOf 21 = .ok (.iaload, 1) := dk_46 (dk_at dksX6_crewOf_0 21 rfl rfl)
theorem dX6_crewOf_22 : decode cX6_crewOf 22 = .ok (.iload_n 1, 1) := dk_27 (dk_at dksX6_crewOf_0 22 rfl rfl)
theorem dX6_crewOf_23 : decode cX6_crewOf 23 = .ok (.iconst 1, 1) := dk_4 (dk_at dksX6_crewOf_0 23 rfl rfl)
theorem dX6_crewOf_24 : decode cX6_crewOf 24 = .ok (.iadd, 1) := dk_96 (dk_at dksX6_crewOf_1 0 rfl rfl)
theorem dX6_crewOf_25 : decode cX6_crewOf 25 = .ok (.if_icmp .ne 9, 3) := dk_160 0 9 (dk_at dksX6_crewOf_1 1 rfl rfl)
theorem dX6_crewOf_28 : decode cX6_crewOf 28 = .ok (.iconst 1, 1) := dk_4 (dk_at dksX6_crewOf_1 4 rfl rfl)
theorem dX6_crewOf_29 : decode cX6_crewOf 29 = .ok (.iload_n 3, 1) := dk_29 (dk_at dksX6_crewOf_1 5 rfl rfl)
theorem dX6_crewOf_30 : decode cX6_crewOf 30 = .ok (.ishl, 1) := dk_120 (dk_at dksX6_crewOf_1 6 rfl rfl)
theorem dX6_crewOf_31 : decode cX6_crewOf 31 = .ok (.goto 4, 3) := dk_167 0 4 (dk_at dksX6_crewOf_1 7 rfl rfl)
theorem dX6_crewOf_34 : decode cX6_crewOf 34 = .ok (.iconst 0, 1) := dk_3 (dk_at dksX6_crewOf_1 10 rfl rfl)
theorem dX6_crewOf_35 : decode cX6_crewOf 35 = .ok (.ior, 1) := dk_128 (dk_at dksX6_crewOf_1 11 rfl rfl)
theorem dX6_crewOf_36 : decode cX6_crewOf 36 = .ok (.istore_n 2, 1) := dk_61 (dk_at dksX6_crewOf_1 12 rfl rfl)
theorem dX6_crewOf_37 : decode cX6_crewOf 37 = .ok (.iinc 3 1, 3) := dk_132 3 1 (dk_at dksX6_crewOf_1 13 rfl rfl)
theorem dX6_crewOf_40 : decode cX6_crewOf 40 = .ok (.goto (-36), 3) := dk_167 255 220 (dk_at dksX6_crewOf_1 16 rfl rfl)
theorem dX6_crewOf_43 : decode cX6_crewOf 43 = .ok (.iload_n 2, 1) := dk_28 (dk_at dksX6_crewOf_1 19 rfl rfl)
theorem dX6_crewOf_44 : decode cX6_crewOf 44 = .ok (.ireturn, 1) := dk_172 (dk_at dksX6_crewOf_1 20 rfl rfl)
abbrev cX6_skillsIn : ByteArray := prog_21_method_23_code
def yX6_skillsIn : MethodName := ⟨RX6, "skillsIn", "([II)I"⟩
def dkwX6_skillsIn_1 : List UInt8 := [16, 28, 29, 96, 46, 167, 0, 4, 3, 96, 61, 132, 3, 1, 167, 255, 223, 28, 172]
abbrev dktX6_skillsIn_1 : List UInt8 := dkwX6_skillsIn_1 ++ []
def dkwX6_skillsIn_0 : List UInt8 := [3, 61, 3, 62, 29, 42, 3, 46, 162, 0, 32, 28, 42, 16, 6, 29, 96, 46, 27, 160, 0, 12, 42]
abbrev dktX6_skillsIn_0 : List UInt8 := dkwX6_skillsIn_0 ++ dktX6_skillsIn_1
theorem dksX6_skillsIn_0 : cX6_skillsIn.data.toList.drop 0 = dktX6_skillsIn_0 := by decide +kernel
theorem dksX6_skillsIn_1 : cX6_skillsIn.data.toList.drop 23 = dktX6_skillsIn_1 := dk_seg dksX6_skillsIn_0 23 rfl rfl
theorem dX6_skillsIn_0 : decode cX6_skillsIn 0 = .ok (.iconst 0, 1) := dk_3 (dk_at dksX6_skillsIn_0 0 rfl rfl)
theorem dX6_skillsIn_1 : decode cX6_skillsIn 1 = .ok (.istore_n 2, 1) := dk_61 (dk_at dksX6_skillsIn_0 1 rfl rfl)
theorem dX6_skillsIn_2 : decode cX6_skillsIn 2 = .ok (.iconst 0, 1) := dk_3 (dk_at dksX6_skillsIn_0 2 rfl rfl)
theorem dX6_skillsIn_3 : decode cX6_skillsIn 3 = .ok (.istore_n 3, 1) := dk_62 (dk_at dksX6_skillsIn_0 3 rfl rfl)
theorem dX6_skillsIn_4 : decode cX6_skillsIn 4 = .ok (.iload_n 3, 1) := dk_29 (dk_at dksX6_skillsIn_0 4 rfl rfl)
theorem dX6_skillsIn_5 : decode cX6_skillsIn 5 = .ok (.aload_n 0, 1) := dk_42 (dk_at dksX6_skillsIn_0 5 rfl rfl)
theorem dX6_skillsIn_6 : decode cX6_skillsIn 6 = .ok (.iconst 0, 1) := dk_3 (dk_at dksX6_skillsIn_0 6 rfl rfl)
theorem dX6_skillsIn_7 : decode cX6_skillsIn 7 = .ok (.iaload, 1) := dk_46 (dk_at dksX6_skillsIn_0 7 rfl rfl)
theorem dX6_skillsIn_8 : decode cX6_skillsIn 8 = .ok (.if_icmp .ge 32, 3) := dk_162 0 32 (dk_at dksX6_skillsIn_0 8 rfl rfl)
theorem dX6_skillsIn_11 : decode cX6_skillsIn 11 = .ok (.iload_n 2, 1) := dk_28 (dk_at dksX6_skillsIn_0 11 rfl rfl)
theorem dX6_skillsIn_12 : decode cX6_skillsIn 12 = .ok (.aload_n 0, 1) := dk_42 (dk_at dksX6_skillsIn_0 12 rfl rfl)
theorem dX6_skillsIn_13 : decode cX6_skillsIn 13 = .ok (.bipush 6, 2) := dk_16 6 (dk_at dksX6_skillsIn_0 13 rfl rfl)
theorem dX6_skillsIn_15 : decode cX6_skillsIn 15 = .ok (.iload_n 3, 1) := dk_29 (dk_at dksX6_skillsIn_0 15 rfl rfl)
theorem dX6_skillsIn_16 : decode cX6_skillsIn 16 = .ok (.iadd, 1) := dk_96 (dk_at dksX6_skillsIn_0 16 rfl rfl)
theorem dX6_skillsIn_17 : decode cX6_skillsIn 17 = .ok (.iaload, 1) := dk_46 (dk_at dksX6_skillsIn_0 17 rfl rfl)
theorem dX6_skillsIn_18 : decode cX6_skillsIn 18 = .ok (.iload_n 1, 1) := dk_27 (dk_at dksX6_skillsIn_0 18 rfl rfl)
theorem dX6_skillsIn_19 : decode cX6_skillsIn 19 = .ok (.if_icmp .ne 12, 3) := dk_160 0 12 (dk_at dksX6_skillsIn_0 19 rfl rfl)
theorem dX6_skillsIn_22 : decode cX6_skillsIn 22 = .ok (.aload_n 0, 1) := dk_42 (dk_at dksX6_skillsIn_0 22 rfl rfl)
theorem dX6_skillsIn_23 : decode cX6_skillsIn 23 = .ok (.bipush 28, 2) := dk_16 28 (dk_at dksX6_skillsIn_1 0 rfl rfl)
theorem dX6_skillsIn_25 : decode cX6_skillsIn 25 = .ok (.iload_n 3, 1) := dk_29 (dk_at dksX6_skillsIn_1 2 rfl rfl)
theorem dX6_skillsIn_26 : decode cX6_skillsIn 26 = .ok (.iadd, 1) := dk_96 (dk_at dksX6_skillsIn_1 3 rfl rfl)
theorem dX6_skillsIn_27 : decode cX6_skillsIn 27 = .ok (.iaload, 1) := dk_46 (dk_at dksX6_skillsIn_1 4 rfl rfl)
theorem dX6_skillsIn_28 : decode cX6_skillsIn 28 = .ok (.goto 4, 3) := dk_167 0 4 (dk_at dksX6_skillsIn_1 5 rfl rfl)
theorem dX6_skillsIn_31 : decode cX6_skillsIn 31 = .ok (.iconst 0, 1) := dk_3 (dk_at dksX6_skillsIn_1 8 rfl rfl)
theorem dX6_skillsIn_32 : decode cX6_skillsIn 32 = .ok (.iadd, 1) := dk_96 (dk_at dksX6_skillsIn_1 9 rfl rfl)
theorem dX6_skillsIn_33 : decode cX6_skillsIn 33 = .ok (.istore_n 2, 1) := dk_61 (dk_at dksX6_skillsIn_1 10 rfl rfl)
theorem dX6_skillsIn_34 : decode cX6_skillsIn 34 = .ok (.iinc 3 1, 3) := dk_132 3 1 (dk_at dksX6_skillsIn_1 11 rfl rfl)
theorem dX6_skillsIn_37 : decode cX6_skillsIn 37 = .ok (.goto (-33), 3) := dk_167 255 223 (dk_at dksX6_skillsIn_1 14 rfl rfl)
theorem dX6_skillsIn_40 : decode cX6_skillsIn 40 = .ok (.iload_n 2, 1) := dk_28 (dk_at dksX6_skillsIn_1 17 rfl rfl)
theorem dX6_skillsIn_41 : decode cX6_skillsIn 41 = .ok (.ireturn, 1) := dk_172 (dk_at dksX6_skillsIn_1 18 rfl rfl)
abbrev cX6_left : ByteArray := prog_21_method_36_code
def yX6_left : MethodName := ⟨RX6, "left", "(I)I"⟩
def dkwX6_left_1 : List UInt8 := [182, 0, 73, 172]
abbrev dktX6_left_1 : List UInt8 := dkwX6_left_1 ++ []
def dkwX6_left_0 : List UInt8 := [42, 27, 182, 0, 83, 153, 0, 14, 42, 180, 0, 7, 27, 184, 0, 108, 167, 0, 9, 42, 16, 254]
abbrev dktX6_left_0 : List UInt8 := dkwX6_left_0 ++ dktX6_left_1
theorem dksX6_left_0 : cX6_left.data.toList.drop 0 = dktX6_left_0 := by decide +kernel
theorem dksX6_left_1 : cX6_left.data.toList.drop 22 = dktX6_left_1 := dk_seg dksX6_left_0 22 rfl rfl
theorem dX6_left_0 : decode cX6_left 0 = .ok (.aload_n 0, 1) := dk_42 (dk_at dksX6_left_0 0 rfl rfl)
theorem dX6_left_1 : decode cX6_left 1 = .ok (.iload_n 1, 1) := dk_27 (dk_at dksX6_left_0 1 rfl rfl)
theorem dX6_left_2 : decode cX6_left 2 = .ok (.invokevirtual 83, 3) := dk_182 0 83 (dk_at dksX6_left_0 2 rfl rfl)
theorem dX6_left_5 : decode cX6_left 5 = .ok (.ifCond .eq 14, 3) := dk_153 0 14 (dk_at dksX6_left_0 5 rfl rfl)
theorem dX6_left_8 : decode cX6_left 8 = .ok (.aload_n 0, 1) := dk_42 (dk_at dksX6_left_0 8 rfl rfl)
theorem dX6_left_9 : decode cX6_left 9 = .ok (.getfield 7, 3) := dk_180 0 7 (dk_at dksX6_left_0 9 rfl rfl)
theorem dX6_left_12 : decode cX6_left 12 = .ok (.iload_n 1, 1) := dk_27 (dk_at dksX6_left_0 12 rfl rfl)
theorem dX6_left_13 : decode cX6_left 13 = .ok (.invokestatic 108, 3) := dk_184 0 108 (dk_at dksX6_left_0 13 rfl rfl)
theorem dX6_left_16 : decode cX6_left 16 = .ok (.goto 9, 3) := dk_167 0 9 (dk_at dksX6_left_0 16 rfl rfl)
theorem dX6_left_19 : decode cX6_left 19 = .ok (.aload_n 0, 1) := dk_42 (dk_at dksX6_left_0 19 rfl rfl)
theorem dX6_left_20 : decode cX6_left 20 = .ok (.bipush (-2), 2) := dk_16 254 (dk_at dksX6_left_0 20 rfl rfl)
theorem dX6_left_22 : decode cX6_left 22 = .ok (.invokevirtual 73, 3) := dk_182 0 73 (dk_at dksX6_left_1 0 rfl rfl)
theorem dX6_left_25 : decode cX6_left 25 = .ok (.ireturn, 1) := dk_172 (dk_at dksX6_left_1 3 rfl rfl)
abbrev cX6_needs : ByteArray := prog_21_method_37_code
def yX6_needs : MethodName := ⟨RX6, "needs", "(II)I"⟩
def dkwX6_needs_1 : List UInt8 := [28, 42, 180, 0, 7, 27, 184, 0, 90, 184, 0, 97, 167, 0, 9, 42, 16, 254, 182, 0, 73, 172]
abbrev dktX6_needs_1 : List UInt8 := dkwX6_needs_1 ++ []
def dkwX6_needs_0 : List UInt8 := [42, 27, 182, 0, 83, 153, 0, 34, 28, 184, 0, 132, 153, 0, 27, 42, 180, 0, 7, 16, 17, 27, 96, 46]
abbrev dktX6_needs_0 : List UInt8 := dkwX6_needs_0 ++ dktX6_needs_1
theorem dksX6_needs_0 : cX6_needs.data.toList.drop 0 = dktX6_needs_0 := by decide +kernel
theorem dksX6_needs_1 : cX6_needs.data.toList.drop 24 = dktX6_needs_1 := dk_seg dksX6_needs_0 24 rfl rfl
theorem dX6_needs_0 : decode cX6_needs 0 = .ok (.aload_n 0, 1) := dk_42 (dk_at dksX6_needs_0 0 rfl rfl)
theorem dX6_needs_1 : decode cX6_needs 1 = .ok (.iload_n 1, 1) := dk_27 (dk_at dksX6_needs_0 1 rfl rfl)
theorem dX6_needs_2 : decode cX6_needs 2 = .ok (.invokevirtual 83, 3) := dk_182 0 83 (dk_at dksX6_needs_0 2 rfl rfl)
theorem dX6_needs_5 : decode cX6_needs 5 = .ok (.ifCond .eq 34, 3) := dk_153 0 34 (dk_at dksX6_needs_0 5 rfl rfl)
theorem dX6_needs_8 : decode cX6_needs 8 = .ok (.iload_n 2, 1) := dk_28 (dk_at dksX6_needs_0 8 rfl rfl)
theorem dX6_needs_9 : decode cX6_needs 9 = .ok (.invokestatic 132, 3) := dk_184 0 132 (dk_at dksX6_needs_0 9 rfl rfl)
theorem dX6_needs_12 : decode cX6_needs 12 = .ok (.ifCond .eq 27, 3) := dk_153 0 27 (dk_at dksX6_needs_0 12 rfl rfl)
theorem dX6_needs_15 : decode cX6_needs 15 = .ok (.aload_n 0, 1) := dk_42 (dk_at dksX6_needs_0 15 rfl rfl)
theorem dX6_needs_16 : decode cX6_needs 16 = .ok (.getfield 7, 3) := dk_180 0 7 (dk_at dksX6_needs_0 16 rfl rfl)
theorem dX6_needs_19 : decode cX6_needs 19 = .ok (.bipush 17, 2) := dk_16 17 (dk_at dksX6_needs_0 19 rfl rfl)
theorem dX6_needs_21 : decode cX6_needs 21 = .ok (.iload_n 1, 1) := dk_27 (dk_at dksX6_needs_0 21 rfl rfl)
theorem dX6_needs_22 : decode cX6_needs 22 = .ok (.iadd, 1) := dk_96 (dk_at dksX6_needs_0 22 rfl rfl)
theorem dX6_needs_23 : decode cX6_needs 23 = .ok (.iaload, 1) := dk_46 (dk_at dksX6_needs_0 23 rfl rfl)
theorem dX6_needs_24 : decode cX6_needs 24 = .ok (.iload_n 2, 1) := dk_28 (dk_at dksX6_needs_1 0 rfl rfl)
theorem dX6_needs_25 : decode cX6_needs 25 = .ok (.aload_n 0, 1) := dk_42 (dk_at dksX6_needs_1 1 rfl rfl)
theorem dX6_needs_26 : decode cX6_needs 26 = .ok (.getfield 7, 3) := dk_180 0 7 (dk_at dksX6_needs_1 2 rfl rfl)
theorem dX6_needs_29 : decode cX6_needs 29 = .ok (.iload_n 1, 1) := dk_27 (dk_at dksX6_needs_1 5 rfl rfl)
theorem dX6_needs_30 : decode cX6_needs 30 = .ok (.invokestatic 90, 3) := dk_184 0 90 (dk_at dksX6_needs_1 6 rfl rfl)
theorem dX6_needs_33 : decode cX6_needs 33 = .ok (.invokestatic 97, 3) := dk_184 0 97 (dk_at dksX6_needs_1 9 rfl rfl)
theorem dX6_needs_36 : decode cX6_needs 36 = .ok (.goto 9, 3) := dk_167 0 9 (dk_at dksX6_needs_1 12 rfl rfl)
theorem dX6_needs_39 : decode cX6_needs 39 = .ok (.aload_n 0, 1) := dk_42 (dk_at dksX6_needs_1 15 rfl rfl)
theorem dX6_needs_40 : decode cX6_needs 40 = .ok (.bipush (-2), 2) := dk_16 254 (dk_at dksX6_needs_1 16 rfl rfl)
theorem dX6_needs_42 : decode cX6_needs 42 = .ok (.invokevirtual 73, 3) := dk_182 0 73 (dk_at dksX6_needs_1 18 rfl rfl)
theorem dX6_needs_45 : decode cX6_needs 45 = .ok (.ireturn, 1) := dk_172 (dk_at dksX6_needs_1 21 rfl rfl)
abbrev cX6_isFar : ByteArray := prog_21_method_15_code
def yX6_isFar : MethodName := ⟨RX6, "isFar", "(I)Z"⟩
def dkwX6_isFar_0 : List UInt8 := [26, 133, 10, 20, 0, 67, 184, 0, 59, 172]
abbrev dktX6_isFar_0 : List UInt8 := dkwX6_isFar_0 ++ []
theorem dksX6_isFar_0 : cX6_isFar.data.toList.drop 0 = dktX6_isFar_0 := by decide +kernel
theorem dX6_isFar_0 : decode cX6_isFar 0 = .ok (.iload_n 0, 1) := dk_26 (dk_at dksX6_isFar_0 0 rfl rfl)
theorem dX6_isFar_1 : decode cX6_isFar 1 = .ok (.i2l, 1) := dk_133 (dk_at dksX6_isFar_0 1 rfl rfl)
theorem dX6_isFar_2 : decode cX6_isFar 2 = .ok (.lconst 1, 1) := dk_10 (dk_at dksX6_isFar_0 2 rfl rfl)
theorem dX6_isFar_3 : decode cX6_isFar 3 = .ok (.ldc2_w 67, 3) := dk_20 0 67 (dk_at dksX6_isFar_0 3 rfl rfl)
theorem dX6_isFar_6 : decode cX6_isFar 6 = .ok (.invokestatic 59, 3) := dk_184 0 59 (dk_at dksX6_isFar_0 6 rfl rfl)
theorem dX6_isFar_9 : decode cX6_isFar 9 = .ok (.ireturn, 1) := dk_172 (dk_at dksX6_isFar_0 9 rfl rfl)
abbrev cX6_needsAs : ByteArray := prog_21_method_20_code
def yX6_needsAs : MethodName := ⟨RX6, "needsAs", "(III)I"⟩
def dkwX6_needsAs_4 : List UInt8 := [164, 0, 8, 16, 9, 167, 0, 4, 27, 172, 5, 27, 104, 172]
abbrev dktX6_needsAs_4 : List UInt8 := dkwX6_needsAs_4 ++ []
def dkwX6_needsAs_3 : List UInt8 := [7, 161, 0, 11, 5, 27, 104, 8, 96, 167, 0, 6, 5, 27, 104, 172, 28, 5, 163, 0, 14, 27, 16, 9]
abbrev dktX6_needsAs_3 : List UInt8 := dkwX6_needsAs_3 ++ dktX6_needsAs_4
def dkwX6_needsAs_2 : List UInt8 := [29, 172, 27, 172, 29, 5, 28, 104, 100, 4, 162, 0, 7, 4, 167, 0, 8, 29, 5, 28, 104, 100, 172, 28]
abbrev dktX6_needsAs_2 : List UInt8 := dkwX6_needsAs_2 ++ dktX6_needsAs_3
def dkwX6_needsAs_1 : List UInt8 := [170, 0, 0, 0, 91, 0, 0, 0, 1, 0, 0, 0, 5, 0, 0, 0, 33, 0, 0, 0, 35, 0, 0, 0, 37, 0, 0, 0, 56, 0, 0, 0, 73]
abbrev dktX6_needsAs_1 : List UInt8 := dkwX6_needsAs_1 ++ dktX6_needsAs_2
def dkwX6_needsAs_0 : List UInt8 := [5, 27, 104, 7, 96, 62, 26]
abbrev dktX6_needsAs_0 : List UInt8 := dkwX6_needsAs_0 ++ dktX6_needsAs_1
theorem dksX6_needsAs_0 : cX6_needsAs.data.toList.drop 0 = dktX6_needsAs_0 := by decide +kernel
theorem dksX6_needsAs_1 : cX6_needsAs.data.toList.drop 7 = dktX6_needsAs_1 := dk_seg dksX6_needsAs_0 7 rfl rfl
theorem dksX6_needsAs_2 : cX6_needsAs.data.toList.drop 40 = dktX6_needsAs_2 := dk_seg dksX6_needsAs_1 33 rfl rfl
theorem dksX6_needsAs_3 : cX6_needsAs.data.toList.drop 64 = dktX6_needsAs_3 := dk_seg dksX6_needsAs_2 24 rfl rfl
theorem dksX6_needsAs_4 : cX6_needsAs.data.toList.drop 88 = dktX6_needsAs_4 := dk_seg dksX6_needsAs_3 24 rfl rfl
theorem dX6_needsAs_0 : decode cX6_needsAs 0 = .ok (.iconst 2, 1) := dk_5 (dk_at dksX6_needsAs_0 0 rfl rfl)
theorem dX6_needsAs_1 : decode cX6_needsAs 1 = .ok (.iload_n 1, 1) := dk_27 (dk_at dksX6_needsAs_0 1 rfl rfl)
theorem dX6_needsAs_2 : decode cX6_needsAs 2 = .ok (.imul, 1) := dk_104 (dk_at dksX6_needsAs_0 2 rfl rfl)
theorem dX6_needsAs_3 : decode cX6_needsAs 3 = .ok (.iconst 4, 1) := dk_7 (dk_at dksX6_needsAs_0 3 rfl rfl)
theorem dX6_needsAs_4 : decode cX6_needsAs 4 = .ok (.iadd, 1) := dk_96 (dk_at dksX6_needsAs_0 4 rfl rfl)
theorem dX6_needsAs_5 : decode cX6_needsAs 5 = .ok (.istore_n 3, 1) := dk_62 (dk_at dksX6_needsAs_0 5 rfl rfl)
theorem dX6_needsAs_6 : decode cX6_needsAs 6 = .ok (.iload_n 0, 1) := dk_26 (dk_at dksX6_needsAs_0 6 rfl rfl)
theorem dX6_needsAs_7 : decode cX6_needsAs 7 = .ok (.tableswitch 91 1 5 #[33, 35, 37, 56, 73], 33) := by decide +kernel
theorem dX6_needsAs_40 : decode cX6_needsAs 40 = .ok (.iload_n 3, 1) := dk_29 (dk_at dksX6_needsAs_2 0 rfl rfl)
theorem dX6_needsAs_41 : decode cX6_needsAs 41 = .ok (.ireturn, 1) := dk_172 (dk_at dksX6_needsAs_2 1 rfl rfl)
theorem dX6_needsAs_42 : decode cX6_needsAs 42 = .ok (.iload_n 1, 1) := dk_27 (dk_at dksX6_needsAs_2 2 rfl rfl)
theorem dX6_needsAs_43 : decode cX6_needsAs 43 = .ok (.ireturn, 1) := dk_172 (dk_at dksX6_needsAs_2 3 rfl rfl)
theorem dX6_needsAs_44 : decode cX6_needsAs 44 = .ok (.iload_n 3, 1) := dk_29 (dk_at dksX6_needsAs_2 4 rfl rfl)
theorem dX6_needsAs_45 : decode cX6_needsAs 45 = .ok (.iconst 2, 1) := dk_5 (dk_at dksX6_needsAs_2 5 rfl rfl)
theorem dX6_needsAs_46 : decode cX6_needsAs 46 = .ok (.iload_n 2, 1) := dk_28 (dk_at dksX6_needsAs_2 6 rfl rfl)
theorem dX6_needsAs_47 : decode cX6_needsAs 47 = .ok (.imul, 1) := dk_104 (dk_at dksX6_needsAs_2 7 rfl rfl)
theorem dX6_needsAs_48 : decode cX6_needsAs 48 = .ok (.isub, 1) := dk_100 (dk_at dksX6_needsAs_2 8 rfl rfl)
theorem dX6_needsAs_49 : decode cX6_needsAs 49 = .ok (.iconst 1, 1) := dk_4 (dk_at dksX6_needsAs_2 9 rfl rfl)
theorem dX6_needsAs_50 : decode cX6_needsAs 50 = .ok (.if_icmp .ge 7, 3) := dk_162 0 7 (dk_at dksX6_needsAs_2 10 rfl rfl)
theorem dX6_needsAs_53 : decode cX6_needsAs 53 = .ok (.iconst 1, 1) := dk_4 (dk_at dksX6_needsAs_2 13 rfl rfl)
theorem dX6_needsAs_54 : decode cX6_needsAs 54 = .ok (.goto 8, 3) := dk_167 0 8 (dk_at dksX6_needsAs_2 14 rfl rfl)
theorem dX6_needsAs_57 : decode cX6_needsAs 57 = .ok (.iload_n 3, 1) := dk_29 (dk_at dksX6_needsAs_2 17 rfl rfl)
theorem dX6_needsAs_58 : decode cX6_needsAs 58 = .ok (.iconst 2, 1) := dk_5 (dk_at dksX6_needsAs_2 18 rfl rfl)
theorem dX6_needsAs_59 : decode cX6_needsAs 59 = .ok (.iload_n 2, 1) := dk_28 (dk_at dksX6_needsAs_2 19 rfl rfl)
theorem dX6_needsAs_60 : decode cX6_needsAs 60 = .ok (.imul, 1) := dk_104 (dk_at dksX6_needsAs_2 20 rfl rfl)
theorem dX6_needsAs_61 : decode cX6_needsAs 61 = .ok (.isub, 1) := dk_100 (dk_at dksX6_needsAs_2 21 rfl rfl)
theorem dX6_needsAs_62 : decode cX6_needsAs 62 = .ok (.ireturn, 1) := dk_172 (dk_at dksX6_needsAs_2 22 rfl rfl)
theorem dX6_needsAs_63 : decode cX6_needsAs 63 = .ok (.iload_n 2, 1) := dk_28 (dk_at dksX6_needsAs_2 23 rfl rfl)
theorem dX6_needsAs_64 : decode cX6_needsAs 64 = .ok (.iconst 4, 1) := dk_7 (dk_at dksX6_needsAs_3 0 rfl rfl)
theorem dX6_needsAs_65 : decode cX6_needsAs 65 = .ok (.if_icmp .lt 11, 3) := dk_161 0 11 (dk_at dksX6_needsAs_3 1 rfl rfl)
theorem dX6_needsAs_68 : decode cX6_needsAs 68 = .ok (.iconst 2, 1) := dk_5 (dk_at dksX6_needsAs_3 4 rfl rfl)
theorem dX6_needsAs_69 : decode cX6_needsAs 69 = .ok (.iload_n 1, 1) := dk_27 (dk_at dksX6_needsAs_3 5 rfl rfl)
theorem dX6_needsAs_70 : decode cX6_needsAs 70 = .ok (.imul, 1) := dk_104 (dk_at dksX6_needsAs_3 6 rfl rfl)
theorem dX6_needsAs_71 : decode cX6_needsAs 71 = .ok (.iconst 5, 1) := dk_8 (dk_at dksX6_needsAs_3 7 rfl rfl)
theorem dX6_needsAs_72 : decode cX6_needsAs 72 = .ok (.iadd, 1) := dk_96 (dk_at dksX6_needsAs_3 8 rfl rfl)
theorem dX6_needsAs_73 : decode cX6_needsAs 73 = .ok (.goto 6, 3) := dk_167 0 6 (dk_at dksX6_needsAs_3 9 rfl rfl)
theorem dX6_needsAs_76 : decode cX6_needsAs 76 = .ok (.iconst 2, 1) := dk_5 (dk_at dksX6_needsAs_3 12 rfl rfl)
theorem dX6_needsAs_77 : decode cX6_needsAs 77 = .ok (.iload_n 1, 1) := dk_27 (dk_at dksX6_needsAs_3 13 rfl rfl)
theorem dX6_needsAs_78 : decode cX6_needsAs 78 = .ok (.imul, 1) := dk_104 (dk_at dksX6_needsAs_3 14 rfl rfl)
theorem dX6_needsAs_79 : decode cX6_needsAs 79 = .ok (.ireturn, 1) := dk_172 (dk_at dksX6_needsAs_3 15 rfl rfl)
theorem dX6_needsAs_80 : decode cX6_needsAs 80 = .ok (.iload_n 2, 1) := dk_28 (dk_at dksX6_needsAs_3 16 rfl rfl)
theorem dX6_needsAs_81 : decode cX6_needsAs 81 = .ok (.iconst 2, 1) := dk_5 (dk_at dksX6_needsAs_3 17 rfl rfl)
theorem dX6_needsAs_82 : decode cX6_needsAs 82 = .ok (.if_icmp .gt 14, 3) := dk_163 0 14 (dk_at dksX6_needsAs_3 18 rfl rfl)
theorem dX6_needsAs_85 : decode cX6_needsAs 85 = .ok (.iload_n 1, 1) := dk_27 (dk_at dksX6_needsAs_3 21 rfl rfl)
theorem dX6_needsAs_86 : decode cX6_needsAs 86 = .ok (.bipush 9, 2) := dk_16 9 (dk_at dksX6_needsAs_3 22 rfl rfl)
theorem dX6_needsAs_88 : decode cX6_needsAs 88 = .ok (.if_icmp .le 8, 3) := dk_164 0 8 (dk_at dksX6_needsAs_4 0 rfl rfl)
theorem dX6_needsAs_91 : decode cX6_needsAs 91 = .ok (.bipush 9, 2) := dk_16 9 (dk_at dksX6_needsAs_4 3 rfl rfl)
theorem dX6_needsAs_93 : decode cX6_needsAs 93 = .ok (.goto 4, 3) := dk_167 0 4 (dk_at dksX6_needsAs_4 5 rfl rfl)
theorem dX6_needsAs_96 : decode cX6_needsAs 96 = .ok (.iload_n 1, 1) := dk_27 (dk_at dksX6_needsAs_4 8 rfl rfl)
theorem dX6_needsAs_97 : decode cX6_needsAs 97 = .ok (.ireturn, 1) := dk_172 (dk_at dksX6_needsAs_4 9 rfl rfl)
theorem dX6_needsAs_98 : decode cX6_needsAs 98 = .ok (.iconst 2, 1) := dk_5 (dk_at dksX6_needsAs_4 10 rfl rfl)
theorem dX6_needsAs_99 : decode cX6_needsAs 99 = .ok (.iload_n 1, 1) := dk_27 (dk_at dksX6_needsAs_4 11 rfl rfl)
theorem dX6_needsAs_100 : decode cX6_needsAs 100 = .ok (.imul, 1) := dk_104 (dk_at dksX6_needsAs_4 12 rfl rfl)
theorem dX6_needsAs_101 : decode cX6_needsAs 101 = .ok (.ireturn, 1) := dk_172 (dk_at dksX6_needsAs_4 13 rfl rfl)
abbrev cX6_far : ByteArray := prog_21_method_38_code
def yX6_far : MethodName := ⟨RX6, "far", "(I)I"⟩
def dkwX6_far_2 : List UInt8 := [167, 255, 229, 28, 172]
abbrev dktX6_far_2 : List UInt8 := dkwX6_far_2 ++ []
def dkwX6_far_1 : List UInt8 := [163, 0, 27, 42, 180, 0, 7, 27, 29, 184, 0, 135, 153, 0, 7, 29, 167, 0, 4, 28, 61, 132, 3, 1]
abbrev dktX6_far_1 : List UInt8 := dkwX6_far_1 ++ dktX6_far_2
def dkwX6_far_0 : List UInt8 := [42, 27, 182, 0, 83, 154, 0, 10, 42, 16, 254, 182, 0, 73, 172, 3, 61, 4, 62, 29, 16, 30]
abbrev dktX6_far_0 : List UInt8 := dkwX6_far_0 ++ dktX6_far_1
theorem dksX6_far_0 : cX6_far.data.toList.drop 0 = dktX6_far_0 := by decide +kernel
theorem dksX6_far_1 : cX6_far.data.toList.drop 22 = dktX6_far_1 := dk_seg dksX6_far_0 22 rfl rfl
theorem dksX6_far_2 : cX6_far.data.toList.drop 46 = dktX6_far_2 := dk_seg dksX6_far_1 24 rfl rfl
theorem dX6_far_0 : decode cX6_far 0 = .ok (.aload_n 0, 1) := dk_42 (dk_at dksX6_far_0 0 rfl rfl)
theorem dX6_far_1 : decode cX6_far 1 = .ok (.iload_n 1, 1) := dk_27 (dk_at dksX6_far_0 1 rfl rfl)
theorem dX6_far_2 : decode cX6_far 2 = .ok (.invokevirtual 83, 3) := dk_182 0 83 (dk_at dksX6_far_0 2 rfl rfl)
theorem dX6_far_5 : decode cX6_far 5 = .ok (.ifCond .ne 10, 3) := dk_154 0 10 (dk_at dksX6_far_0 5 rfl rfl)
theorem dX6_far_8 : decode cX6_far 8 = .ok (.aload_n 0, 1) := dk_42 (dk_at dksX6_far_0 8 rfl rfl)
theorem dX6_far_9 : decode cX6_far 9 = .ok (.bipush (-2), 2) := dk_16 254 (dk_at dksX6_far_0 9 rfl rfl)
theorem dX6_far_11 : decode cX6_far 11 = .ok (.invokevirtual 73, 3) := dk_182 0 73 (dk_at dksX6_far_0 11 rfl rfl)
theorem dX6_far_14 : decode cX6_far 14 = .ok (.ireturn, 1) := dk_172 (dk_at dksX6_far_0 14 rfl rfl)
theorem dX6_far_15 : decode cX6_far 15 = .ok (.iconst 0, 1) := dk_3 (dk_at dksX6_far_0 15 rfl rfl)
theorem dX6_far_16 : decode cX6_far 16 = .ok (.istore_n 2, 1) := dk_61 (dk_at dksX6_far_0 16 rfl rfl)
theorem dX6_far_17 : decode cX6_far 17 = .ok (.iconst 1, 1) := dk_4 (dk_at dksX6_far_0 17 rfl rfl)
theorem dX6_far_18 : decode cX6_far 18 = .ok (.istore_n 3, 1) := dk_62 (dk_at dksX6_far_0 18 rfl rfl)
theorem dX6_far_19 : decode cX6_far 19 = .ok (.iload_n 3, 1) := dk_29 (dk_at dksX6_far_0 19 rfl rfl)
theorem dX6_far_20 : decode cX6_far 20 = .ok (.bipush 30, 2) := dk_16 30 (dk_at dksX6_far_0 20 rfl rfl)
theorem dX6_far_22 : decode cX6_far 22 = .ok (.if_icmp .gt 27, 3) := dk_163 0 27 (dk_at dksX6_far_1 0 rfl rfl)
theorem dX6_far_25 : decode cX6_far 25 = .ok (.aload_n 0, 1) := dk_42 (dk_at dksX6_far_1 3 rfl rfl)
theorem dX6_far_26 : decode cX6_far 26 = .ok (.getfield 7, 3) := dk_180 0 7 (dk_at dksX6_far_1 4 rfl rfl)
theorem dX6_far_29 : decode cX6_far 29 = .ok (.iload_n 1, 1) := dk_27 (dk_at dksX6_far_1 7 rfl rfl)
theorem dX6_far_30 : decode cX6_far 30 = .ok (.iload_n 3, 1) := dk_29 (dk_at dksX6_far_1 8 rfl rfl)
theorem dX6_far_31 : decode cX6_far 31 = .ok (.invokestatic 135, 3) := dk_184 0 135 (dk_at dksX6_far_1 9 rfl rfl)
theorem dX6_far_34 : decode cX6_far 34 = .ok (.ifCond .eq 7, 3) := dk_153 0 7 (dk_at dksX6_far_1 12 rfl rfl)
theorem dX6_far_37 : decode cX6_far 37 = .ok (.iload_n 3, 1) := dk_29 (dk_at dksX6_far_1 15 rfl rfl)
theorem dX6_far_38 : decode cX6_far 38 = .ok (.goto 4, 3) := dk_167 0 4 (dk_at dksX6_far_1 16 rfl rfl)
theorem dX6_far_41 : decode cX6_far 41 = .ok (.iload_n 2, 1) := dk_28 (dk_at dksX6_far_1 19 rfl rfl)
theorem dX6_far_42 : decode cX6_far 42 = .ok (.istore_n 2, 1) := dk_61 (dk_at dksX6_far_1 20 rfl rfl)
theorem dX6_far_43 : decode cX6_far 43 = .ok (.iinc 3 1, 3) := dk_132 3 1 (dk_at dksX6_far_1 21 rfl rfl)
theorem dX6_far_46 : decode cX6_far 46 = .ok (.goto (-27), 3) := dk_167 255 229 (dk_at dksX6_far_2 0 rfl rfl)
theorem dX6_far_49 : decode cX6_far 49 = .ok (.iload_n 2, 1) := dk_28 (dk_at dksX6_far_2 3 rfl rfl)
theorem dX6_far_50 : decode cX6_far 50 = .ok (.ireturn, 1) := dk_172 (dk_at dksX6_far_2 4 rfl rfl)
abbrev cX6_canSail : ByteArray := prog_21_method_24_code
def yX6_canSail : MethodName := ⟨RX6, "canSail", "([III)Z"⟩
def dkwX6_canSail_1 : List UInt8 := [29, 184, 0, 97, 161, 0, 7, 4, 167, 0, 4, 3, 172]
abbrev dktX6_canSail_1 : List UInt8 := dkwX6_canSail_1 ++ []
def dkwX6_canSail_0 : List UInt8 := [42, 27, 184, 0, 90, 62, 29, 158, 0, 28, 42, 27, 4, 96, 184, 0, 94, 42, 16, 17, 27, 96, 46, 28]
abbrev dktX6_canSail_0 : List UInt8 := dkwX6_canSail_0 ++ dktX6_canSail_1
theorem dksX6_canSail_0 : cX6_canSail.data.toList.drop 0 = dktX6_canSail_0 := by decide +kernel
theorem dksX6_canSail_1 : cX6_canSail.data.toList.drop 24 = dktX6_canSail_1 := dk_seg dksX6_canSail_0 24 rfl rfl
theorem dX6_canSail_0 : decode cX6_canSail 0 = .ok (.aload_n 0, 1) := dk_42 (dk_at dksX6_canSail_0 0 rfl rfl)
theorem dX6_canSail_1 : decode cX6_canSail 1 = .ok (.iload_n 1, 1) := dk_27 (dk_at dksX6_canSail_0 1 rfl rfl)
theorem dX6_canSail_2 : decode cX6_canSail 2 = .ok (.invokestatic 90, 3) := dk_184 0 90 (dk_at dksX6_canSail_0 2 rfl rfl)
theorem dX6_canSail_5 : decode cX6_canSail 5 = .ok (.istore_n 3, 1) := dk_62 (dk_at dksX6_canSail_0 5 rfl rfl)
theorem dX6_canSail_6 : decode cX6_canSail 6 = .ok (.iload_n 3, 1) := dk_29 (dk_at dksX6_canSail_0 6 rfl rfl)
theorem dX6_canSail_7 : decode cX6_canSail 7 = .ok (.ifCond .le 28, 3) := dk_158 0 28 (dk_at dksX6_canSail_0 7 rfl rfl)
theorem dX6_canSail_10 : decode cX6_canSail 10 = .ok (.aload_n 0, 1) := dk_42 (dk_at dksX6_canSail_0 10 rfl rfl)
theorem dX6_canSail_11 : decode cX6_canSail 11 = .ok (.iload_n 1, 1) := dk_27 (dk_at dksX6_canSail_0 11 rfl rfl)
theorem dX6_canSail_12 : decode cX6_canSail 12 = .ok (.iconst 1, 1) := dk_4 (dk_at dksX6_canSail_0 12 rfl rfl)
theorem dX6_canSail_13 : decode cX6_canSail 13 = .ok (.iadd, 1) := dk_96 (dk_at dksX6_canSail_0 13 rfl rfl)
theorem dX6_canSail_14 : decode cX6_canSail 14 = .ok (.invokestatic 94, 3) := dk_184 0 94 (dk_at dksX6_canSail_0 14 rfl rfl)
theorem dX6_canSail_17 : decode cX6_canSail 17 = .ok (.aload_n 0, 1) := dk_42 (dk_at dksX6_canSail_0 17 rfl rfl)
theorem dX6_canSail_18 : decode cX6_canSail 18 = .ok (.bipush 17, 2) := dk_16 17 (dk_at dksX6_canSail_0 18 rfl rfl)
theorem dX6_canSail_20 : decode cX6_canSail 20 = .ok (.iload_n 1, 1) := dk_27 (dk_at dksX6_canSail_0 20 rfl rfl)
theorem dX6_canSail_21 : decode cX6_canSail 21 = .ok (.iadd, 1) := dk_96 (dk_at dksX6_canSail_0 21 rfl rfl)
theorem dX6_canSail_22 : decode cX6_canSail 22 = .ok (.iaload, 1) := dk_46 (dk_at dksX6_canSail_0 22 rfl rfl)
theorem dX6_canSail_23 : decode cX6_canSail 23 = .ok (.iload_n 2, 1) := dk_28 (dk_at dksX6_canSail_0 23 rfl rfl)
theorem dX6_canSail_24 : decode cX6_canSail 24 = .ok (.iload_n 3, 1) := dk_29 (dk_at dksX6_canSail_1 0 rfl rfl)
theorem dX6_canSail_25 : decode cX6_canSail 25 = .ok (.invokestatic 97, 3) := dk_184 0 97 (dk_at dksX6_canSail_1 1 rfl rfl)
theorem dX6_canSail_28 : decode cX6_canSail 28 = .ok (.if_icmp .lt 7, 3) := dk_161 0 7 (dk_at dksX6_canSail_1 4 rfl rfl)
theorem dX6_canSail_31 : decode cX6_canSail 31 = .ok (.iconst 1, 1) := dk_4 (dk_at dksX6_canSail_1 7 rfl rfl)
theorem dX6_canSail_32 : decode cX6_canSail 32 = .ok (.goto 4, 3) := dk_167 0 4 (dk_at dksX6_canSail_1 8 rfl rfl)
theorem dX6_canSail_35 : decode cX6_canSail 35 = .ok (.iconst 0, 1) := dk_3 (dk_at dksX6_canSail_1 11 rfl rfl)
theorem dX6_canSail_36 : decode cX6_canSail 36 = .ok (.ireturn, 1) := dk_172 (dk_at dksX6_canSail_1 12 rfl rfl)
abbrev cX6_behind : ByteArray := prog_21_method_40_code
def yX6_behind : MethodName := ⟨RX6, "behind", "(II)I"⟩
def dkwX6_behind_2 : List UInt8 := [184, 0, 117, 62, 132, 4, 1, 167, 255, 238, 29, 172]
abbrev dktX6_behind_2 : List UInt8 := dkwX6_behind_2 ++ []
def dkwX6_behind_1 : List UInt8 := [182, 0, 73, 172, 2, 62, 42, 182, 0, 141, 3, 54, 4, 21, 4, 28, 162, 0, 18, 42, 180, 0, 27, 27]
abbrev dktX6_behind_1 : List UInt8 := dkwX6_behind_1 ++ dktX6_behind_2
def dkwX6_behind_0 : List UInt8 := [42, 27, 182, 0, 83, 153, 0, 15, 28, 133, 10, 20, 0, 139, 184, 0, 59, 154, 0, 10, 42, 16, 254]
abbrev dktX6_behind_0 : List UInt8 := dkwX6_behind_0 ++ dktX6_behind_1
theorem dksX6_behind_0 : cX6_behind.data.toList.drop 0 = dktX6_behind_0 := by decide +kernel
theorem dksX6_behind_1 : cX6_behind.data.toList.drop 23 = dktX6_behind_1 := dk_seg dksX6_behind_0 23 rfl rfl
theorem dksX6_behind_2 : cX6_behind.data.toList.drop 47 = dktX6_behind_2 := dk_seg dksX6_behind_1 24 rfl rfl
theorem dX6_behind_0 : decode cX6_behind 0 = .ok (.aload_n 0, 1) := dk_42 (dk_at dksX6_behind_0 0 rfl rfl)
theorem dX6_behind_1 : decode cX6_behind 1 = .ok (.iload_n 1, 1) := dk_27 (dk_at dksX6_behind_0 1 rfl rfl)
theorem dX6_behind_2 : decode cX6_behind 2 = .ok (.invokevirtual 83, 3) := dk_182 0 83 (dk_at dksX6_behind_0 2 rfl rfl)
theorem dX6_behind_5 : decode cX6_behind 5 = .ok (.ifCond .eq 15, 3) := dk_153 0 15 (dk_at dksX6_behind_0 5 rfl rfl)
theorem dX6_behind_8 : decode cX6_behind 8 = .ok (.iload_n 2, 1) := dk_28 (dk_at dksX6_behind_0 8 rfl rfl)
theorem dX6_behind_9 : decode cX6_behind 9 = .ok (.i2l, 1) := dk_133 (dk_at dksX6_behind_0 9 rfl rfl)
theorem dX6_behind_10 : decode cX6_behind 10 = .ok (.lconst 1, 1) := dk_10 (dk_at dksX6_behind_0 10 rfl rfl)
theorem dX6_behind_11 : decode cX6_behind 11 = .ok (.ldc2_w 139, 3) := dk_20 0 139 (dk_at dksX6_behind_0 11 rfl rfl)
theorem dX6_behind_14 : decode cX6_behind 14 = .ok (.invokestatic 59, 3) := dk_184 0 59 (dk_at dksX6_behind_0 14 rfl rfl)
theorem dX6_behind_17 : decode cX6_behind 17 = .ok (.ifCond .ne 10, 3) := dk_154 0 10 (dk_at dksX6_behind_0 17 rfl rfl)
theorem dX6_behind_20 : decode cX6_behind 20 = .ok (.aload_n 0, 1) := dk_42 (dk_at dksX6_behind_0 20 rfl rfl)
theorem dX6_behind_21 : decode cX6_behind 21 = .ok (.bipush (-2), 2) := dk_16 254 (dk_at dksX6_behind_0 21 rfl rfl)
theorem dX6_behind_23 : decode cX6_behind 23 = .ok (.invokevirtual 73, 3) := dk_182 0 73 (dk_at dksX6_behind_1 0 rfl rfl)
theorem dX6_behind_26 : decode cX6_behind 26 = .ok (.ireturn, 1) := dk_172 (dk_at dksX6_behind_1 3 rfl rfl)
theorem dX6_behind_27 : decode cX6_behind 27 = .ok (.iconst (-1), 1) := dk_2 (dk_at dksX6_behind_1 4 rfl rfl)
theorem dX6_behind_28 : decode cX6_behind 28 = .ok (.istore_n 3, 1) := dk_62 (dk_at dksX6_behind_1 5 rfl rfl)
theorem dX6_behind_29 : decode cX6_behind 29 = .ok (.aload_n 0, 1) := dk_42 (dk_at dksX6_behind_1 6 rfl rfl)
theorem dX6_behind_30 : decode cX6_behind 30 = .ok (.invokevirtual 141, 3) := dk_182 0 141 (dk_at dksX6_behind_1 7 rfl rfl)
theorem dX6_behind_33 : decode cX6_behind 33 = .ok (.iconst 0, 1) := dk_3 (dk_at dksX6_behind_1 10 rfl rfl)
theorem dX6_behind_34 : decode cX6_behind 34 = .ok (.istore 4, 2) := dk_54 4 (dk_at dksX6_behind_1 11 rfl rfl)
theorem dX6_behind_36 : decode cX6_behind 36 = .ok (.iload 4, 2) := dk_21 4 (dk_at dksX6_behind_1 13 rfl rfl)
theorem dX6_behind_38 : decode cX6_behind 38 = .ok (.iload_n 2, 1) := dk_28 (dk_at dksX6_behind_1 15 rfl rfl)
theorem dX6_behind_39 : decode cX6_behind 39 = .ok (.if_icmp .ge 18, 3) := dk_162 0 18 (dk_at dksX6_behind_1 16 rfl rfl)
theorem dX6_behind_42 : decode cX6_behind 42 = .ok (.aload_n 0, 1) := dk_42 (dk_at dksX6_behind_1 19 rfl rfl)
theorem dX6_behind_43 : decode cX6_behind 43 = .ok (.getfield 27, 3) := dk_180 0 27 (dk_at dksX6_behind_1 20 rfl rfl)
theorem dX6_behind_46 : decode cX6_behind 46 = .ok (.iload_n 1, 1) := dk_27 (dk_at dksX6_behind_1 23 rfl rfl)
theorem dX6_behind_47 : decode cX6_behind 47 = .ok (.invokestatic 117, 3) := dk_184 0 117 (dk_at dksX6_behind_2 0 rfl rfl)
theorem dX6_behind_50 : decode cX6_behind 50 = .ok (.istore_n 3, 1) := dk_62 (dk_at dksX6_behind_2 3 rfl rfl)
theorem dX6_behind_51 : decode cX6_behind 51 = .ok (.iinc 4 1, 3) := dk_132 4 1 (dk_at dksX6_behind_2 4 rfl rfl)
theorem dX6_behind_54 : decode cX6_behind 54 = .ok (.goto (-18), 3) := dk_167 255 238 (dk_at dksX6_behind_2 7 rfl rfl)
theorem dX6_behind_57 : decode cX6_behind 57 = .ok (.iload_n 3, 1) := dk_29 (dk_at dksX6_behind_2 10 rfl rfl)
theorem dX6_behind_58 : decode cX6_behind 58 = .ok (.ireturn, 1) := dk_172 (dk_at dksX6_behind_2 11 rfl rfl)
abbrev cX6_layHand : ByteArray := prog_21_method_39_code
def yX6_layHand : MethodName := ⟨RX6, "layHand", "()V"⟩
def dkwX6_layHand_1 : List UInt8 := [167, 255, 235, 177]
abbrev dktX6_layHand_1 : List UInt8 := dkwX6_layHand_1 ++ []
def dkwX6_layHand_0 : List UInt8 := [3, 60, 27, 16, 36, 162, 0, 21, 42, 180, 0, 27, 27, 42, 180, 0, 7, 27, 46, 79, 132, 1, 1]
abbrev dktX6_layHand_0 : List UInt8 := dkwX6_layHand_0 ++ dktX6_layHand_1
theorem dksX6_layHand_0 : cX6_layHand.data.toList.drop 0 = dktX6_layHand_0 := by decide +kernel
theorem dksX6_layHand_1 : cX6_layHand.data.toList.drop 23 = dktX6_layHand_1 := dk_seg dksX6_layHand_0 23 rfl rfl
theorem dX6_layHand_0 : decode cX6_layHand 0 = .ok (.iconst 0, 1) := dk_3 (dk_at dksX6_layHand_0 0 rfl rfl)
theorem dX6_layHand_1 : decode cX6_layHand 1 = .ok (.istore_n 1, 1) := dk_60 (dk_at dksX6_layHand_0 1 rfl rfl)
theorem dX6_layHand_2 : decode cX6_layHand 2 = .ok (.iload_n 1, 1) := dk_27 (dk_at dksX6_layHand_0 2 rfl rfl)
theorem dX6_layHand_3 : decode cX6_layHand 3 = .ok (.bipush 36, 2) := dk_16 36 (dk_at dksX6_layHand_0 3 rfl rfl)
theorem dX6_layHand_5 : decode cX6_layHand 5 = .ok (.if_icmp .ge 21, 3) := dk_162 0 21 (dk_at dksX6_layHand_0 5 rfl rfl)
theorem dX6_layHand_8 : decode cX6_layHand 8 = .ok (.aload_n 0, 1) := dk_42 (dk_at dksX6_layHand_0 8 rfl rfl)
theorem dX6_layHand_9 : decode cX6_layHand 9 = .ok (.getfield 27, 3) := dk_180 0 27 (dk_at dksX6_layHand_0 9 rfl rfl)
theorem dX6_layHand_12 : decode cX6_layHand 12 = .ok (.iload_n 1, 1) := dk_27 (dk_at dksX6_layHand_0 12 rfl rfl)
theorem dX6_layHand_13 : decode cX6_layHand 13 = .ok (.aload_n 0, 1) := dk_42 (dk_at dksX6_layHand_0 13 rfl rfl)
theorem dX6_layHand_14 : decode cX6_layHand 14 = .ok (.getfield 7, 3) := dk_180 0 7 (dk_at dksX6_layHand_0 14 rfl rfl)
theorem dX6_layHand_17 : decode cX6_layHand 17 = .ok (.iload_n 1, 1) := dk_27 (dk_at dksX6_layHand_0 17 rfl rfl)
theorem dX6_layHand_18 : decode cX6_layHand 18 = .ok (.iaload, 1) := dk_46 (dk_at dksX6_layHand_0 18 rfl rfl)
theorem dX6_layHand_19 : decode cX6_layHand 19 = .ok (.iastore, 1) := dk_79 (dk_at dksX6_layHand_0 19 rfl rfl)
theorem dX6_layHand_20 : decode cX6_layHand 20 = .ok (.iinc 1 1, 3) := dk_132 1 1 (dk_at dksX6_layHand_0 20 rfl rfl)
theorem dX6_layHand_23 : decode cX6_layHand 23 = .ok (.goto (-21), 3) := dk_167 255 235 (dk_at dksX6_layHand_1 0 rfl rfl)
theorem dX6_layHand_26 : decode cX6_layHand 26 = .ok (.return_, 1) := dk_177 (dk_at dksX6_layHand_1 3 rfl rfl)
abbrev cX6_lasts : ByteArray := prog_21_method_41_code
def yX6_lasts : MethodName := ⟨RX6, "lasts", "(II)I"⟩
def dkwX6_lasts_2 : List UInt8 := [54, 4, 132, 3, 1, 167, 255, 231, 29, 172]
abbrev dktX6_lasts_2 : List UInt8 := dkwX6_lasts_2 ++ []
def dkwX6_lasts_1 : List UInt8 := [42, 182, 0, 141, 42, 180, 0, 27, 27, 28, 184, 0, 135, 153, 0, 19, 42, 180, 0, 27, 27, 184, 0, 117]
abbrev dktX6_lasts_1 : List UInt8 := dkwX6_lasts_1 ++ dktX6_lasts_2
def dkwX6_lasts_0 : List UInt8 := [42, 27, 182, 0, 83, 153, 0, 10, 28, 184, 0, 132, 154, 0, 10, 42, 16, 254, 182, 0, 73, 172, 3, 62]
abbrev dktX6_lasts_0 : List UInt8 := dkwX6_lasts_0 ++ dktX6_lasts_1
theorem dksX6_lasts_0 : cX6_lasts.data.toList.drop 0 = dktX6_lasts_0 := by decide +kernel
theorem dksX6_lasts_1 : cX6_lasts.data.toList.drop 24 = dktX6_lasts_1 := dk_seg dksX6_lasts_0 24 rfl rfl
theorem dksX6_lasts_2 : cX6_lasts.data.toList.drop 48 = dktX6_lasts_2 := dk_seg dksX6_lasts_1 24 rfl rfl
theorem dX6_lasts_0 : decode cX6_lasts 0 = .ok (.aload_n 0, 1) := dk_42 (dk_at dksX6_lasts_0 0 rfl rfl)
theorem dX6_lasts_1 : decode cX6_lasts 1 = .ok (.iload_n 1, 1) := dk_27 (dk_at dksX6_lasts_0 1 rfl rfl)
theorem dX6_lasts_2 : decode cX6_lasts 2 = .ok (.invokevirtual 83, 3) := dk_182 0 83 (dk_at dksX6_lasts_0 2 rfl rfl)
theorem dX6_lasts_5 : decode cX6_lasts 5 = .ok (.ifCond .eq 10, 3) := dk_153 0 10 (dk_at dksX6_lasts_0 5 rfl rfl)
theorem dX6_lasts_8 : decode cX6_lasts 8 = .ok (.iload_n 2, 1) := dk_28 (dk_at dksX6_lasts_0 8 rfl rfl)
theorem dX6_lasts_9 : decode cX6_lasts 9 = .ok (.invokestatic 132, 3) := dk_184 0 132 (dk_at dksX6_lasts_0 9 rfl rfl)
theorem dX6_lasts_12 : decode cX6_lasts 12 = .ok (.ifCond .ne 10, 3) := dk_154 0 10 (dk_at dksX6_lasts_0 12 rfl rfl)
theorem dX6_lasts_15 : decode cX6_lasts 15 = .ok (.aload_n 0, 1) := dk_42 (dk_at dksX6_lasts_0 15 rfl rfl)
theorem dX6_lasts_16 : decode cX6_lasts 16 = .ok (.bipush (-2), 2) := dk_16 254 (dk_at dksX6_lasts_0 16 rfl rfl)
theorem dX6_lasts_18 : decode cX6_lasts 18 = .ok (.invokevirtual 73, 3) := dk_182 0 73 (dk_at dksX6_lasts_0 18 rfl rfl)
theorem dX6_lasts_21 : decode cX6_lasts 21 = .ok (.ireturn, 1) := dk_172 (dk_at dksX6_lasts_0 21 rfl rfl)
theorem dX6_lasts_22 : decode cX6_lasts 22 = .ok (.iconst 0, 1) := dk_3 (dk_at dksX6_lasts_0 22 rfl rfl)
theorem dX6_lasts_23 : decode cX6_lasts 23 = .ok (.istore_n 3, 1) := dk_62 (dk_at dksX6_lasts_0 23 rfl rfl)
theorem dX6_lasts_24 : decode cX6_lasts 24 = .ok (.aload_n 0, 1) := dk_42 (dk_at dksX6_lasts_1 0 rfl rfl)
theorem dX6_lasts_25 : decode cX6_lasts 25 = .ok (.invokevirtual 141, 3) := dk_182 0 141 (dk_at dksX6_lasts_1 1 rfl rfl)
theorem dX6_lasts_28 : decode cX6_lasts 28 = .ok (.aload_n 0, 1) := dk_42 (dk_at dksX6_lasts_1 4 rfl rfl)
theorem dX6_lasts_29 : decode cX6_lasts 29 = .ok (.getfield 27, 3) := dk_180 0 27 (dk_at dksX6_lasts_1 5 rfl rfl)
theorem dX6_lasts_32 : decode cX6_lasts 32 = .ok (.iload_n 1, 1) := dk_27 (dk_at dksX6_lasts_1 8 rfl rfl)
theorem dX6_lasts_33 : decode cX6_lasts 33 = .ok (.iload_n 2, 1) := dk_28 (dk_at dksX6_lasts_1 9 rfl rfl)
theorem dX6_lasts_34 : decode cX6_lasts 34 = .ok (.invokestatic 135, 3) := dk_184 0 135 (dk_at dksX6_lasts_1 10 rfl rfl)
theorem dX6_lasts_37 : decode cX6_lasts 37 = .ok (.ifCond .eq 19, 3) := dk_153 0 19 (dk_at dksX6_lasts_1 13 rfl rfl)
theorem dX6_lasts_40 : decode cX6_lasts 40 = .ok (.aload_n 0, 1) := dk_42 (dk_at dksX6_lasts_1 16 rfl rfl)
theorem dX6_lasts_41 : decode cX6_lasts 41 = .ok (.getfield 27, 3) := dk_180 0 27 (dk_at dksX6_lasts_1 17 rfl rfl)
theorem dX6_lasts_44 : decode cX6_lasts 44 = .ok (.iload_n 1, 1) := dk_27 (dk_at dksX6_lasts_1 20 rfl rfl)
theorem dX6_lasts_45 : decode cX6_lasts 45 = .ok (.invokestatic 117, 3) := dk_184 0 117 (dk_at dksX6_lasts_1 21 rfl rfl)
theorem dX6_lasts_48 : decode cX6_lasts 48 = .ok (.istore 4, 2) := dk_54 4 (dk_at dksX6_lasts_2 0 rfl rfl)
theorem dX6_lasts_50 : decode cX6_lasts 50 = .ok (.iinc 3 1, 3) := dk_132 3 1 (dk_at dksX6_lasts_2 2 rfl rfl)
theorem dX6_lasts_53 : decode cX6_lasts 53 = .ok (.goto (-25), 3) := dk_167 255 231 (dk_at dksX6_lasts_2 5 rfl rfl)
theorem dX6_lasts_56 : decode cX6_lasts 56 = .ok (.iload_n 3, 1) := dk_29 (dk_at dksX6_lasts_2 8 rfl rfl)
theorem dX6_lasts_57 : decode cX6_lasts 57 = .ok (.ireturn, 1) := dk_172 (dk_at dksX6_lasts_2 9 rfl rfl)
abbrev cX6_few : ByteArray := prog_21_method_43_code
def yX6_few : MethodName := ⟨RX6, "few", "(II)I"⟩
def dkwX6_few_6 : List UInt8 := [160, 0, 8, 16, 250, 167, 0, 18, 28, 2, 160, 0, 7, 29, 167, 0, 9, 42, 180, 0, 33, 28, 46, 172]
abbrev dktX6_few_6 : List UInt8 := dkwX6_few_6 ++ []
def dkwX6_few_5 : List UInt8 := [180, 0, 30, 21, 7, 46, 79, 132, 7, 1, 167, 255, 233, 132, 4, 1, 167, 255, 163, 29, 18, 146]
abbrev dktX6_few_5 : List UInt8 := dkwX6_few_5 ++ dktX6_few_6
def dkwX6_few_4 : List UInt8 := [162, 0, 35, 21, 6, 62, 3, 54, 7, 21, 7, 6, 162, 0, 23, 42, 180, 0, 33, 21, 7, 42]
abbrev dktX6_few_4 : List UInt8 := dkwX6_few_4 ++ dktX6_few_5
def dkwX6_few_3 : List UInt8 := [180, 0, 30, 4, 46, 96, 42, 180, 0, 30, 5, 46, 96, 54, 6, 21, 5, 153, 0, 41, 21, 6, 29]
abbrev dktX6_few_3 : List UInt8 := dkwX6_few_3 ++ dktX6_few_4
def dkwX6_few_2 : List UInt8 := [42, 21, 4, 182, 0, 147, 27, 161, 0, 7, 4, 167, 0, 4, 3, 54, 5, 42, 180, 0, 30, 3, 46, 42]
abbrev dktX6_few_2 : List UInt8 := dkwX6_few_2 ++ dktX6_few_3
def dkwX6_few_1 : List UInt8 := [154, 0, 10, 42, 16, 246, 182, 0, 73, 172, 18, 146, 62, 3, 54, 4, 21, 4, 17, 2, 217, 162, 0, 91]
abbrev dktX6_few_1 : List UInt8 := dkwX6_few_1 ++ dktX6_few_2
def dkwX6_few_0 : List UInt8 := [27, 133, 10, 20, 0, 144, 184, 0, 59, 153, 0, 16, 28, 2, 159, 0, 18, 42, 28, 182, 0, 83]
abbrev dktX6_few_0 : List UInt8 := dkwX6_few_0 ++ dktX6_few_1
theorem dksX6_few_0 : cX6_few.data.toList.drop 0 = dktX6_few_0 := by decide +kernel
theorem dksX6_few_1 : cX6_few.data.toList.drop 22 = dktX6_few_1 := dk_seg dksX6_few_0 22 rfl rfl
theorem dksX6_few_2 : cX6_few.data.toList.drop 46 = dktX6_few_2 := dk_seg dksX6_few_1 24 rfl rfl
theorem dksX6_few_3 : cX6_few.data.toList.drop 70 = dktX6_few_3 := dk_seg dksX6_few_2 24 rfl rfl
theorem dksX6_few_4 : cX6_few.data.toList.drop 93 = dktX6_few_4 := dk_seg dksX6_few_3 23 rfl rfl
theorem dksX6_few_5 : cX6_few.data.toList.drop 115 = dktX6_few_5 := dk_seg dksX6_few_4 22 rfl rfl
theorem dksX6_few_6 : cX6_few.data.toList.drop 137 = dktX6_few_6 := dk_seg dksX6_few_5 22 rfl rfl
theorem dX6_few_0 : decode cX6_few 0 = .ok (.iload_n 1, 1) := dk_27 (dk_at dksX6_few_0 0 rfl rfl)
theorem dX6_few_1 : decode cX6_few 1 = .ok (.i2l, 1) := dk_133 (dk_at dksX6_few_0 1 rfl rfl)
theorem dX6_few_2 : decode cX6_few 2 = .ok (.lconst 1, 1) := dk_10 (dk_at dksX6_few_0 2 rfl rfl)
theorem dX6_few_3 : decode cX6_few 3 = .ok (.ldc2_w 144, 3) := dk_20 0 144 (dk_at dksX6_few_0 3 rfl rfl)
theorem dX6_few_6 : decode cX6_few 6 = .ok (.invokestatic 59, 3) := dk_184 0 59 (dk_at dksX6_few_0 6 rfl rfl)
theorem dX6_few_9 : decode cX6_few 9 = .ok (.ifCond .eq 16, 3) := dk_153 0 16 (dk_at dksX6_few_0 9 rfl rfl)
theorem dX6_few_12 : decode cX6_few 12 = .ok (.iload_n 2, 1) := dk_28 (dk_at dksX6_few_0 12 rfl rfl)
theorem dX6_few_13 : decode cX6_few 13 = .ok (.iconst (-1), 1) := dk_2 (dk_at dksX6_few_0 13 rfl rfl)
theorem dX6_few_14 : decode cX6_few 14 = .ok (.if_icmp .eq 18, 3) := dk_159 0 18 (dk_at dksX6_few_0 14 rfl rfl)
theorem dX6_few_17 : decode cX6_few 17 = .ok (.aload_n 0, 1) := dk_42 (dk_at dksX6_few_0 17 rfl rfl)
theorem dX6_few_18 : decode cX6_few 18 = .ok (.iload_n 2, 1) := dk_28 (dk_at dksX6_few_0 18 rfl rfl)
theorem dX6_few_19 : decode cX6_few 19 = .ok (.invokevirtual 83, 3) := dk_182 0 83 (dk_at dksX6_few_0 19 rfl rfl)
theorem dX6_few_22 : decode cX6_few 22 = .ok (.ifCond .ne 10, 3) := dk_154 0 10 (dk_at dksX6_few_1 0 rfl rfl)
theorem dX6_few_25 : decode cX6_few 25 = .ok (.aload_n 0, 1) := dk_42 (dk_at dksX6_few_1 3 rfl rfl)
theorem dX6_few_26 : decode cX6_few 26 = .ok (.bipush (-10), 2) := dk_16 246 (dk_at dksX6_few_1 4 rfl rfl)
theorem dX6_few_28 : decode cX6_few 28 = .ok (.invokevirtual 73, 3) := dk_182 0 73 (dk_at dksX6_few_1 6 rfl rfl)
theorem dX6_few_31 : decode cX6_few 31 = .ok (.ireturn, 1) := dk_172 (dk_at dksX6_few_1 9 rfl rfl)
theorem dX6_few_32 : decode cX6_few 32 = .ok (.ldc 146, 2) := dk_18 146 (dk_at dksX6_few_1 10 rfl rfl)
theorem dX6_few_34 : decode cX6_few 34 = .ok (.istore_n 3, 1) := dk_62 (dk_at dksX6_few_1 12 rfl rfl)
theorem dX6_few_35 : decode cX6_few 35 = .ok (.iconst 0, 1) := dk_3 (dk_at dksX6_few_1 13 rfl rfl)
theorem dX6_few_36 : decode cX6_few 36 = .ok (.istore 4, 2) := dk_54 4 (dk_at dksX6_few_1 14 rfl rfl)
theorem dX6_few_38 : decode cX6_few 38 = .ok (.iload 4, 2) := dk_21 4 (dk_at dksX6_few_1 16 rfl rfl)
theorem dX6_few_40 : decode cX6_few 40 = .ok (.sipush 729, 3) := dk_17 2 217 (dk_at dksX6_few_1 18 rfl rfl)
theorem dX6_few_43 : decode cX6_few 43 = .ok (.if_icmp .ge 91, 3) := dk_162 0 91 (dk_at dksX6_few_1 21 rfl rfl)
theorem dX6_few_46 : decode cX6_few 46 = .ok (.aload_n 0, 1) := dk_42 (dk_at dksX6_few_2 0 rfl rfl)
theorem dX6_few_47 : decode cX6_few 47 = .ok (.iload 4, 2) := dk_21 4 (dk_at dksX6_few_2 1 rfl rfl)
theorem dX6_few_49 : decode cX6_few 49 = .ok (.invokevirtual 147, 3) := dk_182 0 147 (dk_at dksX6_few_2 3 rfl rfl)
theorem dX6_few_52 : decode cX6_few 52 = .ok (.iload_n 1, 1) := dk_27 (dk_at dksX6_few_2 6 rfl rfl)
theorem dX6_few_53 : decode cX6_few 53 = .ok (.if_icmp .lt 7, 3) := dk_161 0 7 (dk_at dksX6_few_2 7 rfl rfl)
theorem dX6_few_56 : decode cX6_few 56 = .ok (.iconst 1, 1) := dk_4 (dk_at dksX6_few_2 10 rfl rfl)
theorem dX6_few_57 : decode cX6_few 57 = .ok (.goto 4, 3) := dk_167 0 4 (dk_at dksX6_few_2 11 rfl rfl)
theorem dX6_few_60 : decode cX6_few 60 = .ok (.iconst 0, 1) := dk_3 (dk_at dksX6_few_2 14 rfl rfl)
theorem dX6_few_61 : decode cX6_few 61 = .ok (.istore 5, 2) := dk_54 5 (dk_at dksX6_few_2 15 rfl rfl)
theorem dX6_few_63 : decode cX6_few 63 = .ok (.aload_n 0, 1) := dk_42 (dk_at dksX6_few_2 17 rfl rfl)
theorem dX6_few_64 : decode cX6_few 64 = .ok (.getfield 30, 3) := dk_180 0 30 (dk_at dksX6_few_2 18 rfl rfl)
theorem dX6_few_67 : decode cX6_few 67 = .ok (.iconst 0, 1) := dk_3 (dk_at dksX6_few_2 21 rfl rfl)
theorem dX6_few_68 : decode cX6_few 68 = .ok (.iaload, 1) := dk_46 (dk_at dksX6_few_2 22 rfl rfl)
theorem dX6_few_69 : decode cX6_few 69 = .ok (.aload_n 0, 1) := dk_42 (dk_at dksX6_few_2 23 rfl rfl)
theorem dX6_few_70 : decode cX6_few 70 = .ok (.getfield 30, 3) := dk_180 0 30 (dk_at dksX6_few_3 0 rfl rfl)
theorem dX6_few_73 : decode cX6_few 73 = .ok (.iconst 1, 1) := dk_4 (dk_at dksX6_few_3 3 rfl rfl)
theorem dX6_few_74 : decode cX6_few 74 = .ok (.iaload, 1) := dk_46 (dk_at dksX6_few_3 4 rfl rfl)
theorem dX6_few_75 : decode cX6_few 75 = .ok (.iadd, 1) := dk_96 (dk_at dksX6_few_3 5 rfl rfl)
theorem dX6_few_76 : decode cX6_few 76 = .ok (.aload_n 0, 1) := dk_42 (dk_at dksX6_few_3 6 rfl rfl)
theorem dX6_few_77 : decode cX6_few 77 = .ok (.getfield 30, 3) := dk_180 0 30 (dk_at dksX6_few_3 7 rfl rfl)
theorem dX6_few_80 : decode cX6_few 80 = .ok (.iconst 2, 1) := dk_5 (dk_at dksX6_few_3 10 rfl rfl)
theorem dX6_few_81 : decode cX6_few 81 = .ok (.iaload, 1) := dk_46 (dk_at dksX6_few_3 11 rfl rfl)
theorem dX6_few_82 : decode cX6_few 82 = .ok (.iadd, 1) := dk_96 (dk_at dksX6_few_3 12 rfl rfl)
theorem dX6_few_83 : decode cX6_few 83 = .ok (.istore 6, 2) := dk_54 6 (dk_at dksX6_few_3 13 rfl rfl)
theorem dX6_few_85 : decode cX6_few 85 = .ok (.iload 5, 2) := dk_21 5 (dk_at dksX6_few_3 15 rfl rfl)
theorem dX6_few_87 : decode cX6_few 87 = .ok (.ifCond .eq 41, 3) := dk_153 0 41 (dk_at dksX6_few_3 17 rfl rfl)
theorem dX6_few_90 : decode cX6_few 90 = .ok (.iload 6, 2) := dk_21 6 (dk_at dksX6_few_3 20 rfl rfl)
theorem dX6_few_92 : decode cX6_few 92 = .ok (.iload_n 3, 1) := dk_29 (dk_at dksX6_few_3 22 rfl rfl)
theorem dX6_few_93 : decode cX6_few 93 = .ok (.if_icmp .ge 35, 3) := dk_162 0 35 (dk_at dksX6_few_4 0 rfl rfl)
theorem dX6_few_96 : decode cX6_few 96 = .ok (.iload 6, 2) := dk_21 6 (dk_at dksX6_few_4 3 rfl rfl)
theorem dX6_few_98 : decode cX6_few 98 = .ok (.istore_n 3, 1) := dk_62 (dk_at dksX6_few_4 5 rfl rfl)
theorem dX6_few_99 : decode cX6_few 99 = .ok (.iconst 0, 1) := dk_3 (dk_at dksX6_few_4 6 rfl rfl)
theorem dX6_few_100 : decode cX6_few 100 = .ok (.istore 7, 2) := dk_54 7 (dk_at dksX6_few_4 7 rfl rfl)
theorem dX6_few_102 : decode cX6_few 102 = .ok (.iload 7, 2) := dk_21 7 (dk_at dksX6_few_4 9 rfl rfl)
theorem dX6_few_104 : decode cX6_few 104 = .ok (.iconst 3, 1) := dk_6 (dk_at dksX6_few_4 11 rfl rfl)
theorem dX6_few_105 : decode cX6_few 105 = .ok (.if_icmp .ge 23, 3) := dk_162 0 23 (dk_at dksX6_few_4 12 rfl rfl)
theorem dX6_few_108 : decode cX6_few 108 = .ok (.aload_n 0, 1) := dk_42 (dk_at dksX6_few_4 15 rfl rfl)
theorem dX6_few_109 : decode cX6_few 109 = .ok (.getfield 33, 3) := dk_180 0 33 (dk_at dksX6_few_4 16 rfl rfl)
theorem dX6_few_112 : decode cX6_few 112 = .ok (.iload 7, 2) := dk_21 7 (dk_at dksX6_few_4 19 rfl rfl)
theorem dX6_few_114 : decode cX6_few 114 = .ok (.aload_n 0, 1) := dk_42 (dk_at dksX6_few_4 21 rfl rfl)
theorem dX6_few_115 : decode cX6_few 115 = .ok (.getfield 30, 3) := dk_180 0 30 (dk_at dksX6_few_5 0 rfl rfl)
theorem dX6_few_118 : decode cX6_few 118 = .ok (.iload 7, 2) := dk_21 7 (dk_at dksX6_few_5 3 rfl rfl)
theorem dX6_few_120 : decode cX6_few 120 = .ok (.iaload, 1) := dk_46 (dk_at dksX6_few_5 5 rfl rfl)
theorem dX6_few_121 : decode cX6_few 121 = .ok (.iastore, 1) := dk_79 (dk_at dksX6_few_5 6 rfl rfl)
theorem dX6_few_122 : decode cX6_few 122 = .ok (.iinc 7 1, 3) := dk_132 7 1 (dk_at dksX6_few_5 7 rfl rfl)
theorem dX6_few_125 : decode cX6_few 125 = .ok (.goto (-23), 3) := dk_167 255 233 (dk_at dksX6_few_5 10 rfl rfl)
theorem dX6_few_128 : decode cX6_few 128 = .ok (.iinc 4 1, 3) := dk_132 4 1 (dk_at dksX6_few_5 13 rfl rfl)
theorem dX6_few_131 : decode cX6_few 131 = .ok (.goto (-93), 3) := dk_167 255 163 (dk_at dksX6_few_5 16 rfl rfl)
theorem dX6_few_134 : decode cX6_few 134 = .ok (.iload_n 3, 1) := dk_29 (dk_at dksX6_few_5 19 rfl rfl)
theorem dX6_few_135 : decode cX6_few 135 = .ok (.ldc 146, 2) := dk_18 146 (dk_at dksX6_few_5 20 rfl rfl)
theorem dX6_few_137 : decode cX6_few 137 = .ok (.if_icmp .ne 8, 3) := dk_160 0 8 (dk_at dksX6_few_6 0 rfl rfl)
theorem dX6_few_140 : decode cX6_few 140 = .ok (.bipush (-6), 2) := dk_16 250 (dk_at dksX6_few_6 3 rfl rfl)
theorem dX6_few_142 : decode cX6_few 142 = .ok (.goto 18, 3) := dk_167 0 18 (dk_at dksX6_few_6 5 rfl rfl)
theorem dX6_few_145 : decode cX6_few 145 = .ok (.iload_n 2, 1) := dk_28 (dk_at dksX6_few_6 8 rfl rfl)
theorem dX6_few_146 : decode cX6_few 146 = .ok (.iconst (-1), 1) := dk_2 (dk_at dksX6_few_6 9 rfl rfl)
theorem dX6_few_147 : decode cX6_few 147 = .ok (.if_icmp .ne 7, 3) := dk_160 0 7 (dk_at dksX6_few_6 10 rfl rfl)
theorem dX6_few_150 : decode cX6_few 150 = .ok (.iload_n 3, 1) := dk_29 (dk_at dksX6_few_6 13 rfl rfl)
theorem dX6_few_151 : decode cX6_few 151 = .ok (.goto 9, 3) := dk_167 0 9 (dk_at dksX6_few_6 14 rfl rfl)
theorem dX6_few_154 : decode cX6_few 154 = .ok (.aload_n 0, 1) := dk_42 (dk_at dksX6_few_6 17 rfl rfl)
theorem dX6_few_155 : decode cX6_few 155 = .ok (.getfield 33, 3) := dk_180 0 33 (dk_at dksX6_few_6 18 rfl rfl)
theorem dX6_few_158 : decode cX6_few 158 = .ok (.iload_n 2, 1) := dk_28 (dk_at dksX6_few_6 21 rfl rfl)
theorem dX6_few_159 : decode cX6_few 159 = .ok (.iaload, 1) := dk_46 (dk_at dksX6_few_6 22 rfl rfl)
theorem dX6_few_160 : decode cX6_few 160 = .ok (.ireturn, 1) := dk_172 (dk_at dksX6_few_6 23 rfl rfl)
abbrev cX6_ashoreBy : ByteArray := prog_21_method_42_code
def yX6_ashoreBy : MethodName := ⟨RX6, "ashoreBy", "(I)I"⟩
def dkwX6_ashoreBy_5 : List UInt8 := [167, 255, 182, 42, 180, 0, 27, 3, 184, 0, 94, 172]
abbrev dktX6_ashoreBy_5 : List UInt8 := dkwX6_ashoreBy_5 ++ []
def dkwX6_ashoreBy_4 : List UInt8 := [162, 0, 19, 42, 180, 0, 27, 28, 184, 0, 117, 54, 4, 132, 3, 1, 167, 255, 233, 132, 2, 1]
abbrev dktX6_ashoreBy_4 : List UInt8 := dkwX6_ashoreBy_4 ++ dktX6_ashoreBy_5
def dkwX6_ashoreBy_3 : List UInt8 := [42, 180, 0, 7, 28, 184, 0, 90, 164, 0, 5, 2, 172, 3, 62, 29, 42, 180, 0, 30, 28, 46]
abbrev dktX6_ashoreBy_3 : List UInt8 := dkwX6_ashoreBy_3 ++ dktX6_ashoreBy_4
def dkwX6_ashoreBy_2 : List UInt8 := [180, 0, 30, 28, 46, 158, 0, 32, 28, 42, 180, 0, 7, 4, 46, 162, 0, 20, 42, 180, 0, 30, 28, 46]
abbrev dktX6_ashoreBy_2 : List UInt8 := dkwX6_ashoreBy_2 ++ dktX6_ashoreBy_3
def dkwX6_ashoreBy_1 : List UInt8 := [16, 9, 112, 79, 42, 180, 0, 30, 5, 27, 16, 9, 112, 79, 3, 61, 28, 6, 162, 0, 75, 42]
abbrev dktX6_ashoreBy_1 : List UInt8 := dkwX6_ashoreBy_1 ++ dktX6_ashoreBy_2
def dkwX6_ashoreBy_0 : List UInt8 := [42, 182, 0, 141, 42, 180, 0, 30, 3, 27, 16, 81, 108, 79, 42, 180, 0, 30, 4, 27, 16, 9, 108]
abbrev dktX6_ashoreBy_0 : List UInt8 := dkwX6_ashoreBy_0 ++ dktX6_ashoreBy_1
theorem dksX6_ashoreBy_0 : cX6_ashoreBy.data.toList.drop 0 = dktX6_ashoreBy_0 := by decide +kernel
theorem dksX6_ashoreBy_1 : cX6_ashoreBy.data.toList.drop 23 = dktX6_ashoreBy_1 := dk_seg dksX6_ashoreBy_0 23 rfl rfl
theorem dksX6_ashoreBy_2 : cX6_ashoreBy.data.toList.drop 45 = dktX6_ashoreBy_2 := dk_seg dksX6_ashoreBy_1 22 rfl rfl
theorem dksX6_ashoreBy_3 : cX6_ashoreBy.data.toList.drop 69 = dktX6_ashoreBy_3 := dk_seg dksX6_ashoreBy_2 24 rfl rfl
theorem dksX6_ashoreBy_4 : cX6_ashoreBy.data.toList.drop 91 = dktX6_ashoreBy_4 := dk_seg dksX6_ashoreBy_3 22 rfl rfl
theorem dksX6_ashoreBy_5 : cX6_ashoreBy.data.toList.drop 113 = dktX6_ashoreBy_5 := dk_seg dksX6_ashoreBy_4 22 rfl rfl
theorem dX6_ashoreBy_0 : decode cX6_ashoreBy 0 = .ok (.aload_n 0, 1) := dk_42 (dk_at dksX6_ashoreBy_0 0 rfl rfl)
theorem dX6_ashoreBy_1 : decode cX6_ashoreBy 1 = .ok (.invokevirtual 141, 3) := dk_182 0 141 (dk_at dksX6_ashoreBy_0 1 rfl rfl)
theorem dX6_ashoreBy_4 : decode cX6_ashoreBy 4 = .ok (.aload_n 0, 1) := dk_42 (dk_at dksX6_ashoreBy_0 4 rfl rfl)
theorem dX6_ashoreBy_5 : decode cX6_ashoreBy 5 = .ok (.getfield 30, 3) := dk_180 0 30 (dk_at dksX6_ashoreBy_0 5 rfl rfl)
theorem dX6_ashoreBy_8 : decode cX6_ashoreBy 8 = .ok (.iconst 0, 1) := dk_3 (dk_at dksX6_ashoreBy_0 8 rfl rfl)
theorem dX6_ashoreBy_9 : decode cX6_ashoreBy 9 = .ok (.iload_n 1, 1) := dk_27 (dk_at dksX6_ashoreBy_0 9 rfl rfl)
theorem dX6_ashoreBy_10 : decode cX6_ashoreBy 10 = .ok (.bipush 81, 2) := dk_16 81 (dk_at dksX6_ashoreBy_0 10 rfl rfl)
theorem dX6_ashoreBy_12 : decode cX6_ashoreBy 12 = .ok (.idiv, 1) := dk_108 (dk_at dksX6_ashoreBy_0 12 rfl rfl)
theorem dX6_ashoreBy_13 : decode cX6_ashoreBy 13 = .ok (.iastore, 1) := dk_79 (dk_at dksX6_ashoreBy_0 13 rfl rfl)
theorem dX6_ashoreBy_14 : decode cX6_ashoreBy 14 = .ok (.aload_n 0, 1) := dk_42 (dk_at dksX6_ashoreBy_0 14 rfl rfl)
theorem dX6_ashoreBy_15 : decode cX6_ashoreBy 15 = .ok (.getfield 30, 3) := dk_180 0 30 (dk_at dksX6_ashoreBy_0 15 rfl rfl)
theorem dX6_ashoreBy_18 : decode cX6_ashoreBy 18 = .ok (.iconst 1, 1) := dk_4 (dk_at dksX6_ashoreBy_0 18 rfl rfl)
theorem dX6_ashoreBy_19 : decode cX6_ashoreBy 19 = .ok (.iload_n 1, 1) := dk_27 (dk_at dksX6_ashoreBy_0 19 rfl rfl)
theorem dX6_ashoreBy_20 : decode cX6_ashoreBy 20 = .ok (.bipush 9, 2) := dk_16 9 (dk_at dksX6_ashoreBy_0 20 rfl rfl)
theorem dX6_ashoreBy_22 : decode cX6_ashoreBy 22 = .ok (.idiv, 1) := dk_108 (dk_at dksX6_ashoreBy_0 22 rfl rfl)
theorem dX6_ashoreBy_23 : decode cX6_ashoreBy 23 = .ok (.bipush 9, 2) := dk_16 9 (dk_at dksX6_ashoreBy_1 0 rfl rfl)
theorem dX6_ashoreBy_25 : decode cX6_ashoreBy 25 = .ok (.irem, 1) := dk_112 (dk_at dksX6_ashoreBy_1 2 rfl rfl)
theorem dX6_ashoreBy_26 : decode cX6_ashoreBy 26 = .ok (.iastore, 1) := dk_79 (dk_at dksX6_ashoreBy_1 3 rfl rfl)
theorem dX6_ashoreBy_27 : decode cX6_ashoreBy 27 = .ok (.aload_n 0, 1) := dk_42 (dk_at dksX6_ashoreBy_1 4 rfl rfl)
theorem dX6_ashoreBy_28 : decode cX6_ashoreBy 28 = .ok (.getfield 30, 3) := dk_180 0 30 (dk_at dksX6_ashoreBy_1 5 rfl rfl)
theorem dX6_ashoreBy_31 : decode cX6_ashoreBy 31 = .ok (.iconst 2, 1) := dk_5 (dk_at dksX6_ashoreBy_1 8 rfl rfl)
theorem dX6_ashoreBy_32 : decode cX6_ashoreBy 32 = .ok (.iload_n 1, 1) := dk_27 (dk_at dksX6_ashoreBy_1 9 rfl rfl)
theorem dX6_ashoreBy_33 : decode cX6_ashoreBy 33 = .ok (.bipush 9, 2) := dk_16 9 (dk_at dksX6_ashoreBy_1 10 rfl rfl)
theorem dX6_ashoreBy_35 : decode cX6_ashoreBy 35 = .ok (.irem, 1) := dk_112 (dk_at dksX6_ashoreBy_1 12 rfl rfl)
theorem dX6_ashoreBy_36 : decode cX6_ashoreBy 36 = .ok (.iastore, 1) := dk_79 (dk_at dksX6_ashoreBy_1 13 rfl rfl)
theorem dX6_ashoreBy_37 : decode cX6_ashoreBy 37 = .ok (.iconst 0, 1) := dk_3 (dk_at dksX6_ashoreBy_1 14 rfl rfl)
theorem dX6_ashoreBy_38 : decode cX6_ashoreBy 38 = .ok (.istore_n 2, 1) := dk_61 (dk_at dksX6_ashoreBy_1 15 rfl rfl)
theorem dX6_ashoreBy_39 : decode cX6_ashoreBy 39 = .ok (.iload_n 2, 1) := dk_28 (dk_at dksX6_ashoreBy_1 16 rfl rfl)
theorem dX6_ashoreBy_40 : decode cX6_ashoreBy 40 = .ok (.iconst 3, 1) := dk_6 (dk_at dksX6_ashoreBy_1 17 rfl rfl)
theorem dX6_ashoreBy_41 : decode cX6_ashoreBy 41 = .ok (.if_icmp .ge 75, 3) := dk_162 0 75 (dk_at dksX6_ashoreBy_1 18 rfl rfl)
theorem dX6_ashoreBy_44 : decode cX6_ashoreBy 44 = .ok (.aload_n 0, 1) := dk_42 (dk_at dksX6_ashoreBy_1 21 rfl rfl)
theorem dX6_ashoreBy_45 : decode cX6_ashoreBy 45 = .ok (.getfield 30, 3) := dk_180 0 30 (dk_at dksX6_ashoreBy_2 0 rfl rfl)
theorem dX6_ashoreBy_48 : decode cX6_ashoreBy 48 = .ok (.iload_n 2, 1) := dk_28 (dk_at dksX6_ashoreBy_2 3 rfl rfl)
theorem dX6_ashoreBy_49 : decode cX6_ashoreBy 49 = .ok (.iaload, 1) := dk_46 (dk_at dksX6_ashoreBy_2 4 rfl rfl)
theorem dX6_ashoreBy_50 : decode cX6_ashoreBy 50 = .ok (.ifCond .le 32, 3) := dk_158 0 32 (dk_at dksX6_ashoreBy_2 5 rfl rfl)
theorem dX6_ashoreBy_53 : decode cX6_ashoreBy 53 = .ok (.iload_n 2, 1) := dk_28 (dk_at dksX6_ashoreBy_2 8 rfl rfl)
theorem dX6_ashoreBy_54 : decode cX6_ashoreBy 54 = .ok (.aload_n 0, 1) := dk_42 (dk_at dksX6_ashoreBy_2 9 rfl rfl)
theorem dX6_ashoreBy_55 : decode cX6_ashoreBy 55 = .ok (.getfield 7, 3) := dk_180 0 7 (dk_at dksX6_ashoreBy_2 10 rfl rfl)
theorem dX6_ashoreBy_58 : decode cX6_ashoreBy 58 = .ok (.iconst 1, 1) := dk_4 (dk_at dksX6_ashoreBy_2 13 rfl rfl)
theorem dX6_ashoreBy_59 : decode cX6_ashoreBy 59 = .ok (.iaload, 1) := dk_46 (dk_at dksX6_ashoreBy_2 14 rfl rfl)
theorem dX6_ashoreBy_60 : decode cX6_ashoreBy 60 = .ok (.if_icmp .ge 20, 3) := dk_162 0 20 (dk_at dksX6_ashoreBy_2 15 rfl rfl)
theorem dX6_ashoreBy_63 : decode cX6_ashoreBy 63 = .ok (.aload_n 0, 1) := dk_42 (dk_at dksX6_ashoreBy_2 18 rfl rfl)
theorem dX6_ashoreBy_64 : decode cX6_ashoreBy 64 = .ok (.getfield 30, 3) := dk_180 0 30 (dk_at dksX6_ashoreBy_2 19 rfl rfl)
theorem dX6_ashoreBy_67 : decode cX6_ashoreBy 67 = .ok (.iload_n 2, 1) := dk_28 (dk_at dksX6_ashoreBy_2 22 rfl rfl)
theorem dX6_ashoreBy_68 : decode cX6_ashoreBy 68 = .ok (.iaload, 1) := dk_46 (dk_at dksX6_ashoreBy_2 23 rfl rfl)
theorem dX6_ashoreBy_69 : decode cX6_ashoreBy 69 = .ok (.aload_n 0, 1) := dk_42 (dk_at dksX6_ashoreBy_3 0 rfl rfl)
theorem dX6_ashoreBy_70 : decode cX6_ashoreBy 70 = .ok (.getfield 7, 3) := dk_180 0 7 (dk_at dksX6_ashoreBy_3 1 rfl rfl)
theorem dX6_ashoreBy_73 : decode cX6_ashoreBy 73 = .ok (.iload_n 2, 1) := dk_28 (dk_at dksX6_ashoreBy_3 4 rfl rfl)
theorem dX6_ashoreBy_74 : decode cX6_ashoreBy 74 = .ok (.invokestatic 90, 3) := dk_184 0 90 (dk_at dksX6_ashoreBy_3 5 rfl rfl)
theorem dX6_ashoreBy_77 : decode cX6_ashoreBy 77 = .ok (.if_icmp .le 5, 3) := dk_164 0 5 (dk_at dksX6_ashoreBy_3 8 rfl rfl)
theorem dX6_ashoreBy_80 : decode cX6_ashoreBy 80 = .ok (.iconst (-1), 1) := dk_2 (dk_at dksX6_ashoreBy_3 11 rfl rfl)
theorem dX6_ashoreBy_81 : decode cX6_ashoreBy 81 = .ok (.ireturn, 1) := dk_172 (dk_at dksX6_ashoreBy_3 12 rfl rfl)
theorem dX6_ashoreBy_82 : decode cX6_ashoreBy 82 = .ok (.iconst 0, 1) := dk_3 (dk_at dksX6_ashoreBy_3 13 rfl rfl)
theorem dX6_ashoreBy_83 : decode cX6_ashoreBy 83 = .ok (.istore_n 3, 1) := dk_62 (dk_at dksX6_ashoreBy_3 14 rfl rfl)
theorem dX6_ashoreBy_84 : decode cX6_ashoreBy 84 = .ok (.iload_n 3, 1) := dk_29 (dk_at dksX6_ashoreBy_3 15 rfl rfl)
theorem dX6_ashoreBy_85 : decode cX6_ashoreBy 85 = .ok (.aload_n 0, 1) := dk_42 (dk_at dksX6_ashoreBy_3 16 rfl rfl)
theorem dX6_ashoreBy_86 : decode cX6_ashoreBy 86 = .ok (.getfield 30, 3) := dk_180 0 30 (dk_at dksX6_ashoreBy_3 17 rfl rfl)
theorem dX6_ashoreBy_89 : decode cX6_ashoreBy 89 = .ok (.iload_n 2, 1) := dk_28 (dk_at dksX6_ashoreBy_3 20 rfl rfl)
theorem dX6_ashoreBy_90 : decode cX6_ashoreBy 90 = .ok (.iaload, 1) := dk_46 (dk_at dksX6_ashoreBy_3 21 rfl rfl)
theorem dX6_ashoreBy_91 : decode cX6_ashoreBy 91 = .ok (.if_icmp .ge 19, 3) := dk_162 0 19 (dk_at dksX6_ashoreBy_4 0 rfl rfl)
theorem dX6_ashoreBy_94 : decode cX6_ashoreBy 94 = .ok (.aload_n 0, 1) := dk_42 (dk_at dksX6_ashoreBy_4 3 rfl rfl)
theorem dX6_ashoreBy_95 : decode cX6_ashoreBy 95 = .ok (.getfield 27, 3) := dk_180 0 27 (dk_at dksX6_ashoreBy_4 4 rfl rfl)
theorem dX6_ashoreBy_98 : decode cX6_ashoreBy 98 = .ok (.iload_n 2, 1) := dk_28 (dk_at dksX6_ashoreBy_4 7 rfl rfl)
theorem dX6_ashoreBy_99 : decode cX6_ashoreBy 99 = .ok (.invokestatic 117, 3) := dk_184 0 117 (dk_at dksX6_ashoreBy_4 8 rfl rfl)
theorem dX6_ashoreBy_102 : decode cX6_ashoreBy 102 = .ok (.istore 4, 2) := dk_54 4 (dk_at dksX6_ashoreBy_4 11 rfl rfl)
theorem dX6_ashoreBy_104 : decode cX6_ashoreBy 104 = .ok (.iinc 3 1, 3) := dk_132 3 1 (dk_at dksX6_ashoreBy_4 13 rfl rfl)
theorem dX6_ashoreBy_107 : decode cX6_ashoreBy 107 = .ok (.goto (-23), 3) := dk_167 255 233 (dk_at dksX6_ashoreBy_4 16 rfl rfl)
theorem dX6_ashoreBy_110 : decode cX6_ashoreBy 110 = .ok (.iinc 2 1, 3) := dk_132 2 1 (dk_at dksX6_ashoreBy_4 19 rfl rfl)
theorem dX6_ashoreBy_113 : decode cX6_ashoreBy 113 = .ok (.goto (-74), 3) := dk_167 255 182 (dk_at dksX6_ashoreBy_5 0 rfl rfl)
theorem dX6_ashoreBy_116 : decode cX6_ashoreBy 116 = .ok (.aload_n 0, 1) := dk_42 (dk_at dksX6_ashoreBy_5 3 rfl rfl)
theorem dX6_ashoreBy_117 : decode cX6_ashoreBy 117 = .ok (.getfield 27, 3) := dk_180 0 27 (dk_at dksX6_ashoreBy_5 4 rfl rfl)
theorem dX6_ashoreBy_120 : decode cX6_ashoreBy 120 = .ok (.iconst 0, 1) := dk_3 (dk_at dksX6_ashoreBy_5 7 rfl rfl)
theorem dX6_ashoreBy_121 : decode cX6_ashoreBy 121 = .ok (.invokestatic 94, 3) := dk_184 0 94 (dk_at dksX6_ashoreBy_5 8 rfl rfl)
theorem dX6_ashoreBy_124 : decode cX6_ashoreBy 124 = .ok (.ireturn, 1) := dk_172 (dk_at dksX6_ashoreBy_5 11 rfl rfl)
abbrev cX6_crew : ByteArray := prog_21_method_45_code
def yX6_crew : MethodName := ⟨RX6, "crew", "(II)I"⟩
def dkwX6_crew_5 : List UInt8 := [182, 0, 150, 54, 6, 28, 2, 160, 0, 8, 21, 4, 167, 0, 11, 42, 180, 0, 36, 28, 46, 4, 100, 172]
abbrev dktX6_crew_5 : List UInt8 := dkwX6_crew_5 ++ []
def dkwX6_crew_4 : List UInt8 := [21, 4, 164, 0, 8, 21, 7, 167, 0, 5, 21, 4, 54, 4, 132, 6, 1, 167, 255, 206, 42, 21, 5, 27]
abbrev dktX6_crew_4 : List UInt8 := dkwX6_crew_4 ++ dktX6_crew_5
def dkwX6_crew_3 : List UInt8 := [182, 0, 150, 54, 7, 21, 7, 21, 4, 164, 0, 8, 21, 6, 167, 0, 5, 21, 5, 54, 5, 21, 7]
abbrev dktX6_crew_3 : List UInt8 := dkwX6_crew_3 ++ dktX6_crew_4
def dkwX6_crew_2 : List UInt8 := [29, 7, 104, 62, 132, 6, 1, 167, 255, 240, 3, 54, 6, 21, 6, 29, 162, 0, 50, 42, 21, 6, 27]
abbrev dktX6_crew_2 : List UInt8 := dkwX6_crew_2 ++ dktX6_crew_3
def dkwX6_crew_1 : List UInt8 := [182, 0, 73, 172, 4, 62, 2, 54, 4, 3, 54, 5, 3, 54, 6, 21, 6, 42, 182, 0, 55, 162, 0, 13]
abbrev dktX6_crew_1 : List UInt8 := dkwX6_crew_1 ++ dktX6_crew_2
def dkwX6_crew_0 : List UInt8 := [27, 184, 0, 132, 153, 0, 16, 28, 2, 159, 0, 18, 42, 28, 182, 0, 120, 154, 0, 10, 42, 16, 246]
abbrev dktX6_crew_0 : List UInt8 := dkwX6_crew_0 ++ dktX6_crew_1
theorem dksX6_crew_0 : cX6_crew.data.toList.drop 0 = dktX6_crew_0 := by decide +kernel
theorem dksX6_crew_1 : cX6_crew.data.toList.drop 23 = dktX6_crew_1 := dk_seg dksX6_crew_0 23 rfl rfl
theorem dksX6_crew_2 : cX6_crew.data.toList.drop 47 = dktX6_crew_2 := dk_seg dksX6_crew_1 24 rfl rfl
theorem dksX6_crew_3 : cX6_crew.data.toList.drop 70 = dktX6_crew_3 := dk_seg dksX6_crew_2 23 rfl rfl
theorem dksX6_crew_4 : cX6_crew.data.toList.drop 93 = dktX6_crew_4 := dk_seg dksX6_crew_3 23 rfl rfl
theorem dksX6_crew_5 : cX6_crew.data.toList.drop 117 = dktX6_crew_5 := dk_seg dksX6_crew_4 24 rfl rfl
theorem dX6_crew_0 : decode cX6_crew 0 = .ok (.iload_n 1, 1) := dk_27 (dk_at dksX6_crew_0 0 rfl rfl)
theorem dX6_crew_1 : decode cX6_crew 1 = .ok (.invokestatic 132, 3) := dk_184 0 132 (dk_at dksX6_crew_0 1 rfl rfl)
theorem dX6_crew_4 : decode cX6_crew 4 = .ok (.ifCond .eq 16, 3) := dk_153 0 16 (dk_at dksX6_crew_0 4 rfl rfl)
theorem dX6_crew_7 : decode cX6_crew 7 = .ok (.iload_n 2, 1) := dk_28 (dk_at dksX6_crew_0 7 rfl rfl)
theorem dX6_crew_8 : decode cX6_crew 8 = .ok (.iconst (-1), 1) := dk_2 (dk_at dksX6_crew_0 8 rfl rfl)
theorem dX6_crew_9 : decode cX6_crew 9 = .ok (.if_icmp .eq 18, 3) := dk_159 0 18 (dk_at dksX6_crew_0 9 rfl rfl)
theorem dX6_crew_12 : decode cX6_crew 12 = .ok (.aload_n 0, 1) := dk_42 (dk_at dksX6_crew_0 12 rfl rfl)
theorem dX6_crew_13 : decode cX6_crew 13 = .ok (.iload_n 2, 1) := dk_28 (dk_at dksX6_crew_0 13 rfl rfl)
theorem dX6_crew_14 : decode cX6_crew 14 = .ok (.invokevirtual 120, 3) := dk_182 0 120 (dk_at dksX6_crew_0 14 rfl rfl)
theorem dX6_crew_17 : decode cX6_crew 17 = .ok (.ifCond .ne 10, 3) := dk_154 0 10 (dk_at dksX6_crew_0 17 rfl rfl)
theorem dX6_crew_20 : decode cX6_crew 20 = .ok (.aload_n 0, 1) := dk_42 (dk_at dksX6_crew_0 20 rfl rfl)
theorem dX6_crew_21 : decode cX6_crew 21 = .ok (.bipush (-10), 2) := dk_16 246 (dk_at dksX6_crew_0 21 rfl rfl)
theorem dX6_crew_23 : decode cX6_crew 23 = .ok (.invokevirtual 73, 3) := dk_182 0 73 (dk_at dksX6_crew_1 0 rfl rfl)
theorem dX6_crew_26 : decode cX6_crew 26 = .ok (.ireturn, 1) := dk_172 (dk_at dksX6_crew_1 3 rfl rfl)
theorem dX6_crew_27 : decode cX6_crew 27 = .ok (.iconst 1, 1) := dk_4 (dk_at dksX6_crew_1 4 rfl rfl)
theorem dX6_crew_28 : decode cX6_crew 28 = .ok (.istore_n 3, 1) := dk_62 (dk_at dksX6_crew_1 5 rfl rfl)
theorem dX6_crew_29 : decode cX6_crew 29 = .ok (.iconst (-1), 1) := dk_2 (dk_at dksX6_crew_1 6 rfl rfl)
theorem dX6_crew_30 : decode cX6_crew 30 = .ok (.istore 4, 2) := dk_54 4 (dk_at dksX6_crew_1 7 rfl rfl)
theorem dX6_crew_32 : decode cX6_crew 32 = .ok (.iconst 0, 1) := dk_3 (dk_at dksX6_crew_1 9 rfl rfl)
theorem dX6_crew_33 : decode cX6_crew 33 = .ok (.istore 5, 2) := dk_54 5 (dk_at dksX6_crew_1 10 rfl rfl)
theorem dX6_crew_35 : decode cX6_crew 35 = .ok (.iconst 0, 1) := dk_3 (dk_at dksX6_crew_1 12 rfl rfl)
theorem dX6_crew_36 : decode cX6_crew 36 = .ok (.istore 6, 2) := dk_54 6 (dk_at dksX6_crew_1 13 rfl rfl)
theorem dX6_crew_38 : decode cX6_crew 38 = .ok (.iload 6, 2) := dk_21 6 (dk_at dksX6_crew_1 15 rfl rfl)
theorem dX6_crew_40 : decode cX6_crew 40 = .ok (.aload_n 0, 1) := dk_42 (dk_at dksX6_crew_1 17 rfl rfl)
theorem dX6_crew_41 : decode cX6_crew 41 = .ok (.invokevirtual 55, 3) := dk_182 0 55 (dk_at dksX6_crew_1 18 rfl rfl)
theorem dX6_crew_44 : decode cX6_crew 44 = .ok (.if_icmp .ge 13, 3) := dk_162 0 13 (dk_at dksX6_crew_1 21 rfl rfl)
theorem dX6_crew_47 : decode cX6_crew 47 = .ok (.iload_n 3, 1) := dk_29 (dk_at dksX6_crew_2 0 rfl rfl)
theorem dX6_crew_48 : decode cX6_crew 48 = .ok (.iconst 4, 1) := dk_7 (dk_at dksX6_crew_2 1 rfl rfl)
theorem dX6_crew_49 : decode cX6_crew 49 = .ok (.imul, 1) := dk_104 (dk_at dksX6_crew_2 2 rfl rfl)
theorem dX6_crew_50 : decode cX6_crew 50 = .ok (.istore_n 3, 1) := dk_62 (dk_at dksX6_crew_2 3 rfl rfl)
theorem dX6_crew_51 : decode cX6_crew 51 = .ok (.iinc 6 1, 3) := dk_132 6 1 (dk_at dksX6_crew_2 4 rfl rfl)
theorem dX6_crew_54 : decode cX6_crew 54 = .ok (.goto (-16), 3) := dk_167 255 240 (dk_at dksX6_crew_2 7 rfl rfl)
theorem dX6_crew_57 : decode cX6_crew 57 = .ok (.iconst 0, 1) := dk_3 (dk_at dksX6_crew_2 10 rfl rfl)
theorem dX6_crew_58 : decode cX6_crew 58 = .ok (.istore 6, 2) := dk_54 6 (dk_at dksX6_crew_2 11 rfl rfl)
theorem dX6_crew_60 : decode cX6_crew 60 = .ok (.iload 6, 2) := dk_21 6 (dk_at dksX6_crew_2 13 rfl rfl)
theorem dX6_crew_62 : decode cX6_crew 62 = .ok (.iload_n 3, 1) := dk_29 (dk_at dksX6_crew_2 15 rfl rfl)
theorem dX6_crew_63 : decode cX6_crew 63 = .ok (.if_icmp .ge 50, 3) := dk_162 0 50 (dk_at dksX6_crew_2 16 rfl rfl)
theorem dX6_crew_66 : decode cX6_crew 66 = .ok (.aload_n 0, 1) := dk_42 (dk_at dksX6_crew_2 19 rfl rfl)
theorem dX6_crew_67 : decode cX6_crew 67 = .ok (.iload 6, 2) := dk_21 6 (dk_at dksX6_crew_2 20 rfl rfl)
theorem dX6_crew_69 : decode cX6_crew 69 = .ok (.iload_n 1, 1) := dk_27 (dk_at dksX6_crew_2 22 rfl rfl)
theorem dX6_crew_70 : decode cX6_crew 70 = .ok (.invokevirtual 150, 3) := dk_182 0 150 (dk_at dksX6_crew_3 0 rfl rfl)
theorem dX6_crew_73 : decode cX6_crew 73 = .ok (.istore 7, 2) := dk_54 7 (dk_at dksX6_crew_3 3 rfl rfl)
theorem dX6_crew_75 : decode cX6_crew 75 = .ok (.iload 7, 2) := dk_21 7 (dk_at dksX6_crew_3 5 rfl rfl)
theorem dX6_crew_77 : decode cX6_crew 77 = .ok (.iload 4, 2) := dk_21 4 (dk_at dksX6_crew_3 7 rfl rfl)
theorem dX6_crew_79 : decode cX6_crew 79 = .ok (.if_icmp .le 8, 3) := dk_164 0 8 (dk_at dksX6_crew_3 9 rfl rfl)
theorem dX6_crew_82 : decode cX6_crew 82 = .ok (.iload 6, 2) := dk_21 6 (dk_at dksX6_crew_3 12 rfl rfl)
theorem dX6_crew_84 : decode cX6_crew 84 = .ok (.goto 5, 3) := dk_167 0 5 (dk_at dksX6_crew_3 14 rfl rfl)
theorem dX6_crew_87 : decode cX6_crew 87 = .ok (.iload 5, 2) := dk_21 5 (dk_at dksX6_crew_3 17 rfl rfl)
theorem dX6_crew_89 : decode cX6_crew 89 = .ok (.istore 5, 2) := dk_54 5 (dk_at dksX6_crew_3 19 rfl rfl)
theorem dX6_crew_91 : decode cX6_crew 91 = .ok (.iload 7, 2) := dk_21 7 (dk_at dksX6_crew_3 21 rfl rfl)
theorem dX6_crew_93 : decode cX6_crew 93 = .ok (.iload 4, 2) := dk_21 4 (dk_at dksX6_crew_4 0 rfl rfl)
theorem dX6_crew_95 : decode cX6_crew 95 = .ok (.if_icmp .le 8, 3) := dk_164 0 8 (dk_at dksX6_crew_4 2 rfl rfl)
theorem dX6_crew_98 : decode cX6_crew 98 = .ok (.iload 7, 2) := dk_21 7 (dk_at dksX6_crew_4 5 rfl rfl)
theorem dX6_crew_100 : decode cX6_crew 100 = .ok (.goto 5, 3) := dk_167 0 5 (dk_at dksX6_crew_4 7 rfl rfl)
theorem dX6_crew_103 : decode cX6_crew 103 = .ok (.iload 4, 2) := dk_21 4 (dk_at dksX6_crew_4 10 rfl rfl)
theorem dX6_crew_105 : decode cX6_crew 105 = .ok (.istore 4, 2) := dk_54 4 (dk_at dksX6_crew_4 12 rfl rfl)
theorem dX6_crew_107 : decode cX6_crew 107 = .ok (.iinc 6 1, 3) := dk_132 6 1 (dk_at dksX6_crew_4 14 rfl rfl)
theorem dX6_crew_110 : decode cX6_crew 110 = .ok (.goto (-50), 3) := dk_167 255 206 (dk_at dksX6_crew_4 17 rfl rfl)
theorem dX6_crew_113 : decode cX6_crew 113 = .ok (.aload_n 0, 1) := dk_42 (dk_at dksX6_crew_4 20 rfl rfl)
theorem dX6_crew_114 : decode cX6_crew 114 = .ok (.iload 5, 2) := dk_21 5 (dk_at dksX6_crew_4 21 rfl rfl)
theorem dX6_crew_116 : decode cX6_crew 116 = .ok (.iload_n 1, 1) := dk_27 (dk_at dksX6_crew_4 23 rfl rfl)
theorem dX6_crew_117 : decode cX6_crew 117 = .ok (.invokevirtual 150, 3) := dk_182 0 150 (dk_at dksX6_crew_5 0 rfl rfl)
theorem dX6_crew_120 : decode cX6_crew 120 = .ok (.istore 6, 2) := dk_54 6 (dk_at dksX6_crew_5 3 rfl rfl)
theorem dX6_crew_122 : decode cX6_crew 122 = .ok (.iload_n 2, 1) := dk_28 (dk_at dksX6_crew_5 5 rfl rfl)
theorem dX6_crew_123 : decode cX6_crew 123 = .ok (.iconst (-1), 1) := dk_2 (dk_at dksX6_crew_5 6 rfl rfl)
theorem dX6_crew_124 : decode cX6_crew 124 = .ok (.if_icmp .ne 8, 3) := dk_160 0 8 (dk_at dksX6_crew_5 7 rfl rfl)
theorem dX6_crew_127 : decode cX6_crew 127 = .ok (.iload 4, 2) := dk_21 4 (dk_at dksX6_crew_5 10 rfl rfl)
theorem dX6_crew_129 : decode cX6_crew 129 = .ok (.goto 11, 3) := dk_167 0 11 (dk_at dksX6_crew_5 12 rfl rfl)
theorem dX6_crew_132 : decode cX6_crew 132 = .ok (.aload_n 0, 1) := dk_42 (dk_at dksX6_crew_5 15 rfl rfl)
theorem dX6_crew_133 : decode cX6_crew 133 = .ok (.getfield 36, 3) := dk_180 0 36 (dk_at dksX6_crew_5 16 rfl rfl)
theorem dX6_crew_136 : decode cX6_crew 136 = .ok (.iload_n 2, 1) := dk_28 (dk_at dksX6_crew_5 19 rfl rfl)
theorem dX6_crew_137 : decode cX6_crew 137 = .ok (.iaload, 1) := dk_46 (dk_at dksX6_crew_5 20 rfl rfl)
theorem dX6_crew_138 : decode cX6_crew 138 = .ok (.iconst 1, 1) := dk_4 (dk_at dksX6_crew_5 21 rfl rfl)
theorem dX6_crew_139 : decode cX6_crew 139 = .ok (.isub, 1) := dk_100 (dk_at dksX6_crew_5 22 rfl rfl)
theorem dX6_crew_140 : decode cX6_crew 140 = .ok (.ireturn, 1) := dk_172 (dk_at dksX6_crew_5 23 rfl rfl)
abbrev cX6_crewBy : ByteArray := prog_21_method_44_code
def yX6_crewBy : MethodName := ⟨RX6, "crewBy", "(II)I"⟩
def dkwX6_crewBy_7 : List UInt8 := [167, 255, 219, 21, 4, 172]
abbrev dktX6_crewBy_7 : List UInt8 := dkwX6_crewBy_7 ++ []
def dkwX6_crewBy_6 : List UInt8 := [180, 0, 27, 21, 5, 28, 184, 0, 135, 153, 0, 7, 4, 167, 0, 4, 3, 96, 54, 4, 132, 5, 1]
abbrev dktX6_crewBy_6 : List UInt8 := dkwX6_crewBy_6 ++ dktX6_crewBy_7
def dkwX6_crewBy_5 : List UInt8 := [167, 255, 153, 3, 54, 4, 3, 54, 5, 21, 5, 42, 180, 0, 7, 4, 46, 162, 0, 32, 21, 4, 42]
abbrev dktX6_crewBy_5 : List UInt8 := dkwX6_crewBy_5 ++ dktX6_crewBy_6
def dkwX6_crewBy_4 : List UInt8 := [42, 180, 0, 36, 21, 4, 46, 167, 0, 13, 42, 180, 0, 27, 16, 6, 21, 4, 96, 46, 79, 132, 4, 255]
abbrev dktX6_crewBy_4 : List UInt8 := dkwX6_crewBy_4 ++ dktX6_crewBy_5
def dkwX6_crewBy_3 : List UInt8 := [164, 0, 5, 2, 172, 42, 180, 0, 27, 16, 6, 21, 4, 96, 42, 180, 0, 36, 21, 4, 46, 158, 0, 13]
abbrev dktX6_crewBy_3 : List UInt8 := dkwX6_crewBy_3 ++ dktX6_crewBy_4
def dkwX6_crewBy_2 : List UInt8 := [16, 6, 21, 4, 96, 46, 154, 0, 19, 42, 180, 0, 36, 21, 4, 46, 42, 180, 0, 7, 4, 46]
abbrev dktX6_crewBy_2 : List UInt8 := dkwX6_crewBy_2 ++ dktX6_crewBy_3
def dkwX6_crewBy_1 : List UInt8 := [21, 4, 29, 7, 112, 79, 29, 7, 108, 62, 42, 180, 0, 36, 21, 4, 46, 158, 0, 34, 42, 180, 0, 7]
abbrev dktX6_crewBy_1 : List UInt8 := dkwX6_crewBy_1 ++ dktX6_crewBy_2
def dkwX6_crewBy_0 : List UInt8 := [27, 62, 42, 182, 0, 141, 42, 182, 0, 55, 4, 100, 54, 4, 21, 4, 155, 0, 104, 42, 180, 0, 36]
abbrev dktX6_crewBy_0 : List UInt8 := dkwX6_crewBy_0 ++ dktX6_crewBy_1
theorem dksX6_crewBy_0 : cX6_crewBy.data.toList.drop 0 = dktX6_crewBy_0 := by decide +kernel
theorem dksX6_crewBy_1 : cX6_crewBy.data.toList.drop 23 = dktX6_crewBy_1 := dk_seg dksX6_crewBy_0 23 rfl rfl
theorem dksX6_crewBy_2 : cX6_crewBy.data.toList.drop 47 = dktX6_crewBy_2 := dk_seg dksX6_crewBy_1 24 rfl rfl
theorem dksX6_crewBy_3 : cX6_crewBy.data.toList.drop 69 = dktX6_crewBy_3 := dk_seg dksX6_crewBy_2 22 rfl rfl
theorem dksX6_crewBy_4 : cX6_crewBy.data.toList.drop 93 = dktX6_crewBy_4 := dk_seg dksX6_crewBy_3 24 rfl rfl
theorem dksX6_crewBy_5 : cX6_crewBy.data.toList.drop 117 = dktX6_crewBy_5 := dk_seg dksX6_crewBy_4 24 rfl rfl
theorem dksX6_crewBy_6 : cX6_crewBy.data.toList.drop 140 = dktX6_crewBy_6 := dk_seg dksX6_crewBy_5 23 rfl rfl
theorem dksX6_crewBy_7 : cX6_crewBy.data.toList.drop 163 = dktX6_crewBy_7 := dk_seg dksX6_crewBy_6 23 rfl rfl
theorem dX6_crewBy_0 : decode cX6_crewBy 0 = .ok (.iload_n 1, 1) := dk_27 (dk_at dksX6_crewBy_0 0 rfl rfl)
theorem dX6_crewBy_1 : decode cX6_crewBy 1 = .ok (.istore_n 3, 1) := dk_62 (dk_at dksX6_crewBy_0 1 rfl rfl)
theorem dX6_crewBy_2 : decode cX6_crewBy 2 = .ok (.aload_n 0, 1) := dk_42 (dk_at dksX6_crewBy_0 2 rfl rfl)
theorem dX6_crewBy_3 : decode cX6_crewBy 3 = .ok (.invokevirtual 141, 3) := dk_182 0 141 (dk_at dksX6_crewBy_0 3 rfl rfl)
theorem dX6_crewBy_6 : decode cX6_crewBy 6 = .ok (.aload_n 0, 1) := dk_42 (dk_at dksX6_crewBy_0 6 rfl rfl)
theorem dX6_crewBy_7 : decode cX6_crewBy 7 = .ok (.invokevirtual 55, 3) := dk_182 0 55 (dk_at dksX6_crewBy_0 7 rfl rfl)
theorem dX6_crewBy_10 : decode cX6_crewBy 10 = .ok (.iconst 1, 1) := dk_4 (dk_at dksX6_crewBy_0 10 rfl rfl)
theorem dX6_crewBy_11 : decode cX6_crewBy 11 = .ok (.isub, 1) := dk_100 (dk_at dksX6_crewBy_0 11 rfl rfl)
theorem dX6_crewBy_12 : decode cX6_crewBy 12 = .ok (.istore 4, 2) := dk_54 4 (dk_at dksX6_crewBy_0 12 rfl rfl)
theorem dX6_crewBy_14 : decode cX6_crewBy 14 = .ok (.iload 4, 2) := dk_21 4 (dk_at dksX6_crewBy_0 14 rfl rfl)
theorem dX6_crewBy_16 : decode cX6_crewBy 16 = .ok (.ifCond .lt 104, 3) := dk_155 0 104 (dk_at dksX6_crewBy_0 16 rfl rfl)
theorem dX6_crewBy_19 : decode cX6_crewBy 19 = .ok (.aload_n 0, 1) := dk_42 (dk_at dksX6_crewBy_0 19 rfl rfl)
theorem dX6_crewBy_20 : decode cX6_crewBy 20 = .ok (.getfield 36, 3) := dk_180 0 36 (dk_at dksX6_crewBy_0 20 rfl rfl)
theorem dX6_crewBy_23 : decode cX6_crewBy 23 = .ok (.iload 4, 2) := dk_21 4 (dk_at dksX6_crewBy_1 0 rfl rfl)
theorem dX6_crewBy_25 : decode cX6_crewBy 25 = .ok (.iload_n 3, 1) := dk_29 (dk_at dksX6_crewBy_1 2 rfl rfl)
theorem dX6_crewBy_26 : decode cX6_crewBy 26 = .ok (.iconst 4, 1) := dk_7 (dk_at dksX6_crewBy_1 3 rfl rfl)
theorem dX6_crewBy_27 : decode cX6_crewBy 27 = .ok (.irem, 1) := dk_112 (dk_at dksX6_crewBy_1 4 rfl rfl)
theorem dX6_crewBy_28 : decode cX6_crewBy 28 = .ok (.iastore, 1) := dk_79 (dk_at dksX6_crewBy_1 5 rfl rfl)
theorem dX6_crewBy_29 : decode cX6_crewBy 29 = .ok (.iload_n 3, 1) := dk_29 (dk_at dksX6_crewBy_1 6 rfl rfl)
theorem dX6_crewBy_30 : decode cX6_crewBy 30 = .ok (.iconst 4, 1) := dk_7 (dk_at dksX6_crewBy_1 7 rfl rfl)
theorem dX6_crewBy_31 : decode cX6_crewBy 31 = .ok (.idiv, 1) := dk_108 (dk_at dksX6_crewBy_1 8 rfl rfl)
theorem dX6_crewBy_32 : decode cX6_crewBy 32 = .ok (.istore_n 3, 1) := dk_62 (dk_at dksX6_crewBy_1 9 rfl rfl)
theorem dX6_crewBy_33 : decode cX6_crewBy 33 = .ok (.aload_n 0, 1) := dk_42 (dk_at dksX6_crewBy_1 10 rfl rfl)
theorem dX6_crewBy_34 : decode cX6_crewBy 34 = .ok (.getfield 36, 3) := dk_180 0 36 (dk_at dksX6_crewBy_1 11 rfl rfl)
theorem dX6_crewBy_37 : decode cX6_crewBy 37 = .ok (.iload 4, 2) := dk_21 4 (dk_at dksX6_crewBy_1 14 rfl rfl)
theorem dX6_crewBy_39 : decode cX6_crewBy 39 = .ok (.iaload, 1) := dk_46 (dk_at dksX6_crewBy_1 16 rfl rfl)
theorem dX6_crewBy_40 : decode cX6_crewBy 40 = .ok (.ifCond .le 34, 3) := dk_158 0 34 (dk_at dksX6_crewBy_1 17 rfl rfl)
theorem dX6_crewBy_43 : decode cX6_crewBy 43 = .ok (.aload_n 0, 1) := dk_42 (dk_at dksX6_crewBy_1 20 rfl rfl)
theorem dX6_crewBy_44 : decode cX6_crewBy 44 = .ok (.getfield 7, 3) := dk_180 0 7 (dk_at dksX6_crewBy_1 21 rfl rfl)
theorem dX6_crewBy_47 : decode cX6_crewBy 47 = .ok (.bipush 6, 2) := dk_16 6 (dk_at dksX6_crewBy_2 0 rfl rfl)
theorem dX6_crewBy_49 : decode cX6_crewBy 49 = .ok (.iload 4, 2) := dk_21 4 (dk_at dksX6_crewBy_2 2 rfl rfl)
theorem dX6_crewBy_51 : decode cX6_crewBy 51 = .ok (.iadd, 1) := dk_96 (dk_at dksX6_crewBy_2 4 rfl rfl)
theorem dX6_crewBy_52 : decode cX6_crewBy 52 = .ok (.iaload, 1) := dk_46 (dk_at dksX6_crewBy_2 5 rfl rfl)
theorem dX6_crewBy_53 : decode cX6_crewBy 53 = .ok (.ifCond .ne 19, 3) := dk_154 0 19 (dk_at dksX6_crewBy_2 6 rfl rfl)
theorem dX6_crewBy_56 : decode cX6_crewBy 56 = .ok (.aload_n 0, 1) := dk_42 (dk_at dksX6_crewBy_2 9 rfl rfl)
theorem dX6_crewBy_57 : decode cX6_crewBy 57 = .ok (.getfield 36, 3) := dk_180 0 36 (dk_at dksX6_crewBy_2 10 rfl rfl)
theorem dX6_crewBy_60 : decode cX6_crewBy 60 = .ok (.iload 4, 2) := dk_21 4 (dk_at dksX6_crewBy_2 13 rfl rfl)
theorem dX6_crewBy_62 : decode cX6_crewBy 62 = .ok (.iaload, 1) := dk_46 (dk_at dksX6_crewBy_2 15 rfl rfl)
theorem dX6_crewBy_63 : decode cX6_crewBy 63 = .ok (.aload_n 0, 1) := dk_42 (dk_at dksX6_crewBy_2 16 rfl rfl)
theorem dX6_crewBy_64 : decode cX6_crewBy 64 = .ok (.getfield 7, 3) := dk_180 0 7 (dk_at dksX6_crewBy_2 17 rfl rfl)
theorem dX6_crewBy_67 : decode cX6_crewBy 67 = .ok (.iconst 1, 1) := dk_4 (dk_at dksX6_crewBy_2 20 rfl rfl)
theorem dX6_crewBy_68 : decode cX6_crewBy 68 = .ok (.iaload, 1) := dk_46 (dk_at dksX6_crewBy_2 21 rfl rfl)
theorem dX6_crewBy_69 : decode cX6_crewBy 69 = .ok (.if_icmp .le 5, 3) := dk_164 0 5 (dk_at dksX6_crewBy_3 0 rfl rfl)
theorem dX6_crewBy_72 : decode cX6_crewBy 72 = .ok (.iconst (-1), 1) := dk_2 (dk_at dksX6_crewBy_3 3 rfl rfl)
theorem dX6_crewBy_73 : decode cX6_crewBy 73 = .ok (.ireturn, 1) := dk_172 (dk_at dksX6_crewBy_3 4 rfl rfl)
theorem dX6_crewBy_74 : decode cX6_crewBy 74 = .ok (.aload_n 0, 1) := dk_42 (dk_at dksX6_crewBy_3 5 rfl rfl)
theorem dX6_crewBy_75 : decode cX6_crewBy 75 = .ok (.getfield 27, 3) := dk_180 0 27 (dk_at dksX6_crewBy_3 6 rfl rfl)
theorem dX6_crewBy_78 : decode cX6_crewBy 78 = .ok (.bipush 6, 2) := dk_16 6 (dk_at dksX6_crewBy_3 9 rfl rfl)
theorem dX6_crewBy_80 : decode cX6_crewBy 80 = .ok (.iload 4, 2) := dk_21 4 (dk_at dksX6_crewBy_3 11 rfl rfl)
theorem dX6_crewBy_82 : decode cX6_crewBy 82 = .ok (.iadd, 1) := dk_96 (dk_at dksX6_crewBy_3 13 rfl rfl)
theorem dX6_crewBy_83 : decode cX6_crewBy 83 = .ok (.aload_n 0, 1) := dk_42 (dk_at dksX6_crewBy_3 14 rfl rfl)
theorem dX6_crewBy_84 : decode cX6_crewBy 84 = .ok (.getfield 36, 3) := dk_180 0 36 (dk_at dksX6_crewBy_3 15 rfl rfl)
theorem dX6_crewBy_87 : decode cX6_crewBy 87 = .ok (.iload 4, 2) := dk_21 4 (dk_at dksX6_crewBy_3 18 rfl rfl)
theorem dX6_crewBy_89 : decode cX6_crewBy 89 = .ok (.iaload, 1) := dk_46 (dk_at dksX6_crewBy_3 20 rfl rfl)
theorem dX6_crewBy_90 : decode cX6_crewBy 90 = .ok (.ifCond .le 13, 3) := dk_158 0 13 (dk_at dksX6_crewBy_3 21 rfl rfl)
theorem dX6_crewBy_93 : decode cX6_crewBy 93 = .ok (.aload_n 0, 1) := dk_42 (dk_at dksX6_crewBy_4 0 rfl rfl)
theorem dX6_crewBy_94 : decode cX6_crewBy 94 = .ok (.getfield 36, 3) := dk_180 0 36 (dk_at dksX6_crewBy_4 1 rfl rfl)
theorem dX6_crewBy_97 : decode cX6_crewBy 97 = .ok (.iload 4, 2) := dk_21 4 (dk_at dksX6_crewBy_4 4 rfl rfl)
theorem dX6_crewBy_99 : decode cX6_crewBy 99 = .ok (.iaload, 1) := dk_46 (dk_at dksX6_crewBy_4 6 rfl rfl)
theorem dX6_crewBy_100 : decode cX6_crewBy 100 = .ok (.goto 13, 3) := dk_167 0 13 (dk_at dksX6_crewBy_4 7 rfl rfl)
theorem dX6_crewBy_103 : decode cX6_crewBy 103 = .ok (.aload_n 0, 1) := dk_42 (dk_at dksX6_crewBy_4 10 rfl rfl)
theorem dX6_crewBy_104 : decode cX6_crewBy 104 = .ok (.getfield 27, 3) := dk_180 0 27 (dk_at dksX6_crewBy_4 11 rfl rfl)
theorem dX6_crewBy_107 : decode cX6_crewBy 107 = .ok (.bipush 6, 2) := dk_16 6 (dk_at dksX6_crewBy_4 14 rfl rfl)
theorem dX6_crewBy_109 : decode cX6_crewBy 109 = .ok (.iload 4, 2) := dk_21 4 (dk_at dksX6_crewBy_4 16 rfl rfl)
theorem dX6_crewBy_111 : decode cX6_crewBy 111 = .ok (.iadd, 1) := dk_96 (dk_at dksX6_crewBy_4 18 rfl rfl)
theorem dX6_crewBy_112 : decode cX6_crewBy 112 = .ok (.iaload, 1) := dk_46 (dk_at dksX6_crewBy_4 19 rfl rfl)
theorem dX6_crewBy_113 : decode cX6_crewBy 113 = .ok (.iastore, 1) := dk_79 (dk_at dksX6_crewBy_4 20 rfl rfl)
theorem dX6_crewBy_114 : decode cX6_crewBy 114 = .ok (.iinc 4 (-1), 3) := dk_132 4 255 (dk_at dksX6_crewBy_4 21 rfl rfl)
theorem dX6_crewBy_117 : decode cX6_crewBy 117 = .ok (.goto (-103), 3) := dk_167 255 153 (dk_at dksX6_crewBy_5 0 rfl rfl)
theorem dX6_crewBy_120 : decode cX6_crewBy 120 = .ok (.iconst 0, 1) := dk_3 (dk_at dksX6_crewBy_5 3 rfl rfl)
theorem dX6_crewBy_121 : decode cX6_crewBy 121 = .ok (.istore 4, 2) := dk_54 4 (dk_at dksX6_crewBy_5 4 rfl rfl)
theorem dX6_crewBy_123 : decode cX6_crewBy 123 = .ok (.iconst 0, 1) := dk_3 (dk_at dksX6_crewBy_5 6 rfl rfl)
theorem dX6_crewBy_124 : decode cX6_crewBy 124 = .ok (.istore 5, 2) := dk_54 5 (dk_at dksX6_crewBy_5 7 rfl rfl)
theorem dX6_crewBy_126 : decode cX6_crewBy 126 = .ok (.iload 5, 2) := dk_21 5 (dk_at dksX6_crewBy_5 9 rfl rfl)
theorem dX6_crewBy_128 : decode cX6_crewBy 128 = .ok (.aload_n 0, 1) := dk_42 (dk_at dksX6_crewBy_5 11 rfl rfl)
theorem dX6_crewBy_129 : decode cX6_crewBy 129 = .ok (.getfield 7, 3) := dk_180 0 7 (dk_at dksX6_crewBy_5 12 rfl rfl)
theorem dX6_crewBy_132 : decode cX6_crewBy 132 = .ok (.iconst 1, 1) := dk_4 (dk_at dksX6_crewBy_5 15 rfl rfl)
theorem dX6_crewBy_133 : decode cX6_crewBy 133 = .ok (.iaload, 1) := dk_46 (dk_at dksX6_crewBy_5 16 rfl rfl)
theorem dX6_crewBy_134 : decode cX6_crewBy 134 = .ok (.if_icmp .ge 32, 3) := dk_162 0 32 (dk_at dksX6_crewBy_5 17 rfl rfl)
theorem dX6_crewBy_137 : decode cX6_crewBy 137 = .ok (.iload 4, 2) := dk_21 4 (dk_at dksX6_crewBy_5 20 rfl rfl)
theorem dX6_crewBy_139 : decode cX6_crewBy 139 = .ok (.aload_n 0, 1) := dk_42 (dk_at dksX6_crewBy_5 22 rfl rfl)
theorem dX6_crewBy_140 : decode cX6_crewBy 140 = .ok (.getfield 27, 3) := dk_180 0 27 (dk_at dksX6_crewBy_6 0 rfl rfl)
theorem dX6_crewBy_143 : decode cX6_crewBy 143 = .ok (.iload 5, 2) := dk_21 5 (dk_at dksX6_crewBy_6 3 rfl rfl)
theorem dX6_crewBy_145 : decode cX6_crewBy 145 = .ok (.iload_n 2, 1) := dk_28 (dk_at dksX6_crewBy_6 5 rfl rfl)
theorem dX6_crewBy_146 : decode cX6_crewBy 146 = .ok (.invokestatic 135, 3) := dk_184 0 135 (dk_at dksX6_crewBy_6 6 rfl rfl)
theorem dX6_crewBy_149 : decode cX6_crewBy 149 = .ok (.ifCond .eq 7, 3) := dk_153 0 7 (dk_at dksX6_crewBy_6 9 rfl rfl)
theorem dX6_crewBy_152 : decode cX6_crewBy 152 = .ok (.iconst 1, 1) := dk_4 (dk_at dksX6_crewBy_6 12 rfl rfl)
theorem dX6_crewBy_153 : decode cX6_crewBy 153 = .ok (.goto 4, 3) := dk_167 0 4 (dk_at dksX6_crewBy_6 13 rfl rfl)
theorem dX6_crewBy_156 : decode cX6_crewBy 156 = .ok (.iconst 0, 1) := dk_3 (dk_at dksX6_crewBy_6 16 rfl rfl)
theorem dX6_crewBy_157 : decode cX6_crewBy 157 = .ok (.iadd, 1) := dk_96 (dk_at dksX6_crewBy_6 17 rfl rfl)
theorem dX6_crewBy_158 : decode cX6_crewBy 158 = .ok (.istore 4, 2) := dk_54 4 (dk_at dksX6_crewBy_6 18 rfl rfl)
theorem dX6_crewBy_160 : decode cX6_crewBy 160 = .ok (.iinc 5 1, 3) := dk_132 5 1 (dk_at dksX6_crewBy_6 20 rfl rfl)
theorem dX6_crewBy_163 : decode cX6_crewBy 163 = .ok (.goto (-37), 3) := dk_167 255 219 (dk_at dksX6_crewBy_7 0 rfl rfl)
theorem dX6_crewBy_166 : decode cX6_crewBy 166 = .ok (.iload 4, 2) := dk_21 4 (dk_at dksX6_crewBy_7 3 rfl rfl)
theorem dX6_crewBy_168 : decode cX6_crewBy 168 = .ok (.ireturn, 1) := dk_172 (dk_at dksX6_crewBy_7 5 rfl rfl)
abbrev cX6_seen : ByteArray := prog_21_method_47_code
def yX6_seen : MethodName := ⟨RX6, "seen", "(IIII)I"⟩
def dkwX6_seen_4 : List UInt8 := [79, 42, 180, 0, 7, 5, 46, 172]
abbrev dktX6_seen_4 : List UInt8 := dkwX6_seen_4 ++ []
def dkwX6_seen_3 : List UInt8 := [180, 0, 7, 5, 46, 104, 96, 27, 28, 29, 21, 4, 182, 0, 156, 42, 180, 0, 7, 5, 92, 46, 4, 96]
abbrev dktX6_seen_3 : List UInt8 := dkwX6_seen_3 ++ dktX6_seen_4
def dkwX6_seen_2 : List UInt8 := [182, 0, 73, 172, 42, 180, 0, 7, 5, 46, 8, 160, 0, 8, 42, 182, 0, 77, 172, 42, 16, 36, 7, 42]
abbrev dktX6_seen_2 : List UInt8 := dkwX6_seen_2 ++ dktX6_seen_3
def dkwX6_seen_1 : List UInt8 := [20, 0, 67, 184, 0, 59, 153, 0, 14, 21, 4, 133, 9, 10, 184, 0, 59, 154, 0, 10, 42, 16, 254]
abbrev dktX6_seen_1 : List UInt8 := dkwX6_seen_1 ++ dktX6_seen_2
def dkwX6_seen_0 : List UInt8 := [42, 27, 182, 0, 120, 153, 0, 38, 28, 133, 9, 20, 0, 154, 184, 0, 59, 153, 0, 26, 29, 133, 9]
abbrev dktX6_seen_0 : List UInt8 := dkwX6_seen_0 ++ dktX6_seen_1
theorem dksX6_seen_0 : cX6_seen.data.toList.drop 0 = dktX6_seen_0 := by decide +kernel
theorem dksX6_seen_1 : cX6_seen.data.toList.drop 23 = dktX6_seen_1 := dk_seg dksX6_seen_0 23 rfl rfl
theorem dksX6_seen_2 : cX6_seen.data.toList.drop 46 = dktX6_seen_2 := dk_seg dksX6_seen_1 23 rfl rfl
theorem dksX6_seen_3 : cX6_seen.data.toList.drop 70 = dktX6_seen_3 := dk_seg dksX6_seen_2 24 rfl rfl
theorem dksX6_seen_4 : cX6_seen.data.toList.drop 94 = dktX6_seen_4 := dk_seg dksX6_seen_3 24 rfl rfl
theorem dX6_seen_0 : decode cX6_seen 0 = .ok (.aload_n 0, 1) := dk_42 (dk_at dksX6_seen_0 0 rfl rfl)
theorem dX6_seen_1 : decode cX6_seen 1 = .ok (.iload_n 1, 1) := dk_27 (dk_at dksX6_seen_0 1 rfl rfl)
theorem dX6_seen_2 : decode cX6_seen 2 = .ok (.invokevirtual 120, 3) := dk_182 0 120 (dk_at dksX6_seen_0 2 rfl rfl)
theorem dX6_seen_5 : decode cX6_seen 5 = .ok (.ifCond .eq 38, 3) := dk_153 0 38 (dk_at dksX6_seen_0 5 rfl rfl)
theorem dX6_seen_8 : decode cX6_seen 8 = .ok (.iload_n 2, 1) := dk_28 (dk_at dksX6_seen_0 8 rfl rfl)
theorem dX6_seen_9 : decode cX6_seen 9 = .ok (.i2l, 1) := dk_133 (dk_at dksX6_seen_0 9 rfl rfl)
theorem dX6_seen_10 : decode cX6_seen 10 = .ok (.lconst 0, 1) := dk_9 (dk_at dksX6_seen_0 10 rfl rfl)
theorem dX6_seen_11 : decode cX6_seen 11 = .ok (.ldc2_w 154, 3) := dk_20 0 154 (dk_at dksX6_seen_0 11 rfl rfl)
theorem dX6_seen_14 : decode cX6_seen 14 = .ok (.invokestatic 59, 3) := dk_184 0 59 (dk_at dksX6_seen_0 14 rfl rfl)
theorem dX6_seen_17 : decode cX6_seen 17 = .ok (.ifCond .eq 26, 3) := dk_153 0 26 (dk_at dksX6_seen_0 17 rfl rfl)
theorem dX6_seen_20 : decode cX6_seen 20 = .ok (.iload_n 3, 1) := dk_29 (dk_at dksX6_seen_0 20 rfl rfl)
theorem dX6_seen_21 : decode cX6_seen 21 = .ok (.i2l, 1) := dk_133 (dk_at dksX6_seen_0 21 rfl rfl)
theorem dX6_seen_22 : decode cX6_seen 22 = .ok (.lconst 0, 1) := dk_9 (dk_at dksX6_seen_0 22 rfl rfl)
theorem dX6_seen_23 : decode cX6_seen 23 = .ok (.ldc2_w 67, 3) := dk_20 0 67 (dk_at dksX6_seen_1 0 rfl rfl)
theorem dX6_seen_26 : decode cX6_seen 26 = .ok (.invokestatic 59, 3) := dk_184 0 59 (dk_at dksX6_seen_1 3 rfl rfl)
theorem dX6_seen_29 : decode cX6_seen 29 = .ok (.ifCond .eq 14, 3) := dk_153 0 14 (dk_at dksX6_seen_1 6 rfl rfl)
theorem dX6_seen_32 : decode cX6_seen 32 = .ok (.iload 4, 2) := dk_21 4 (dk_at dksX6_seen_1 9 rfl rfl)
theorem dX6_seen_34 : decode cX6_seen 34 = .ok (.i2l, 1) := dk_133 (dk_at dksX6_seen_1 11 rfl rfl)
theorem dX6_seen_35 : decode cX6_seen 35 = .ok (.lconst 0, 1) := dk_9 (dk_at dksX6_seen_1 12 rfl rfl)
theorem dX6_seen_36 : decode cX6_seen 36 = .ok (.lconst 1, 1) := dk_10 (dk_at dksX6_seen_1 13 rfl rfl)
theorem dX6_seen_37 : decode cX6_seen 37 = .ok (.invokestatic 59, 3) := dk_184 0 59 (dk_at dksX6_seen_1 14 rfl rfl)
theorem dX6_seen_40 : decode cX6_seen 40 = .ok (.ifCond .ne 10, 3) := dk_154 0 10 (dk_at dksX6_seen_1 17 rfl rfl)
theorem dX6_seen_43 : decode cX6_seen 43 = .ok (.aload_n 0, 1) := dk_42 (dk_at dksX6_seen_1 20 rfl rfl)
theorem dX6_seen_44 : decode cX6_seen 44 = .ok (.bipush (-2), 2) := dk_16 254 (dk_at dksX6_seen_1 21 rfl rfl)
theorem dX6_seen_46 : decode cX6_seen 46 = .ok (.invokevirtual 73, 3) := dk_182 0 73 (dk_at dksX6_seen_2 0 rfl rfl)
theorem dX6_seen_49 : decode cX6_seen 49 = .ok (.ireturn, 1) := dk_172 (dk_at dksX6_seen_2 3 rfl rfl)
theorem dX6_seen_50 : decode cX6_seen 50 = .ok (.aload_n 0, 1) := dk_42 (dk_at dksX6_seen_2 4 rfl rfl)
theorem dX6_seen_51 : decode cX6_seen 51 = .ok (.getfield 7, 3) := dk_180 0 7 (dk_at dksX6_seen_2 5 rfl rfl)
theorem dX6_seen_54 : decode cX6_seen 54 = .ok (.iconst 2, 1) := dk_5 (dk_at dksX6_seen_2 8 rfl rfl)
theorem dX6_seen_55 : decode cX6_seen 55 = .ok (.iaload, 1) := dk_46 (dk_at dksX6_seen_2 9 rfl rfl)
theorem dX6_seen_56 : decode cX6_seen 56 = .ok (.iconst 5, 1) := dk_8 (dk_at dksX6_seen_2 10 rfl rfl)
theorem dX6_seen_57 : decode cX6_seen 57 = .ok (.if_icmp .ne 8, 3) := dk_160 0 8 (dk_at dksX6_seen_2 11 rfl rfl)
theorem dX6_seen_60 : decode cX6_seen 60 = .ok (.aload_n 0, 1) := dk_42 (dk_at dksX6_seen_2 14 rfl rfl)
theorem dX6_seen_61 : decode cX6_seen 61 = .ok (.invokevirtual 77, 3) := dk_182 0 77 (dk_at dksX6_seen_2 15 rfl rfl)
theorem dX6_seen_64 : decode cX6_seen 64 = .ok (.ireturn, 1) := dk_172 (dk_at dksX6_seen_2 18 rfl rfl)
theorem dX6_seen_65 : decode cX6_seen 65 = .ok (.aload_n 0, 1) := dk_42 (dk_at dksX6_seen_2 19 rfl rfl)
theorem dX6_seen_66 : decode cX6_seen 66 = .ok (.bipush 36, 2) := dk_16 36 (dk_at dksX6_seen_2 20 rfl rfl)
theorem dX6_seen_68 : decode cX6_seen 68 = .ok (.iconst 4, 1) := dk_7 (dk_at dksX6_seen_2 22 rfl rfl)
theorem dX6_seen_69 : decode cX6_seen 69 = .ok (.aload_n 0, 1) := dk_42 (dk_at dksX6_seen_2 23 rfl rfl)
theorem dX6_seen_70 : decode cX6_seen 70 = .ok (.getfield 7, 3) := dk_180 0 7 (dk_at dksX6_seen_3 0 rfl rfl)
theorem dX6_seen_73 : decode cX6_seen 73 = .ok (.iconst 2, 1) := dk_5 (dk_at dksX6_seen_3 3 rfl rfl)
theorem dX6_seen_74 : decode cX6_seen 74 = .ok (.iaload, 1) := dk_46 (dk_at dksX6_seen_3 4 rfl rfl)
theorem dX6_seen_75 : decode cX6_seen 75 = .ok (.imul, 1) := dk_104 (dk_at dksX6_seen_3 5 rfl rfl)
theorem dX6_seen_76 : decode cX6_seen 76 = .ok (.iadd, 1) := dk_96 (dk_at dksX6_seen_3 6 rfl rfl)
theorem dX6_seen_77 : decode cX6_seen 77 = .ok (.iload_n 1, 1) := dk_27 (dk_at dksX6_seen_3 7 rfl rfl)
theorem dX6_seen_78 : decode cX6_seen 78 = .ok (.iload_n 2, 1) := dk_28 (dk_at dksX6_seen_3 8 rfl rfl)
theorem dX6_seen_79 : decode cX6_seen 79 = .ok (.iload_n 3, 1) := dk_29 (dk_at dksX6_seen_3 9 rfl rfl)
theorem dX6_seen_80 : decode cX6_seen 80 = .ok (.iload 4, 2) := dk_21 4 (dk_at dksX6_seen_3 10 rfl rfl)
theorem dX6_seen_82 : decode cX6_seen 82 = .ok (.invokevirtual 156, 3) := dk_182 0 156 (dk_at dksX6_seen_3 12 rfl rfl)
theorem dX6_seen_85 : decode cX6_seen 85 = .ok (.aload_n 0, 1) := dk_42 (dk_at dksX6_seen_3 15 rfl rfl)
theorem dX6_seen_86 : decode cX6_seen 86 = .ok (.getfield 7, 3) := dk_180 0 7 (dk_at dksX6_seen_3 16 rfl rfl)
theorem dX6_seen_89 : decode cX6_seen 89 = .ok (.iconst 2, 1) := dk_5 (dk_at dksX6_seen_3 19 rfl rfl)
theorem dX6_seen_90 : decode cX6_seen 90 = .ok (.dup2, 1) := dk_92 (dk_at dksX6_seen_3 20 rfl rfl)
theorem dX6_seen_91 : decode cX6_seen 91 = .ok (.iaload, 1) := dk_46 (dk_at dksX6_seen_3 21 rfl rfl)
theorem dX6_seen_92 : decode cX6_seen 92 = .ok (.iconst 1, 1) := dk_4 (dk_at dksX6_seen_3 22 rfl rfl)
theorem dX6_seen_93 : decode cX6_seen 93 = .ok (.iadd, 1) := dk_96 (dk_at dksX6_seen_3 23 rfl rfl)
theorem dX6_seen_94 : decode cX6_seen 94 = .ok (.iastore, 1) := dk_79 (dk_at dksX6_seen_4 0 rfl rfl)
theorem dX6_seen_95 : decode cX6_seen 95 = .ok (.aload_n 0, 1) := dk_42 (dk_at dksX6_seen_4 1 rfl rfl)
theorem dX6_seen_96 : decode cX6_seen 96 = .ok (.getfield 7, 3) := dk_180 0 7 (dk_at dksX6_seen_4 2 rfl rfl)
theorem dX6_seen_99 : decode cX6_seen 99 = .ok (.iconst 2, 1) := dk_5 (dk_at dksX6_seen_4 5 rfl rfl)
theorem dX6_seen_100 : decode cX6_seen 100 = .ok (.iaload, 1) := dk_46 (dk_at dksX6_seen_4 6 rfl rfl)
theorem dX6_seen_101 : decode cX6_seen 101 = .ok (.ireturn, 1) := dk_172 (dk_at dksX6_seen_4 7 rfl rfl)
abbrev cX6_layFour : ByteArray := prog_21_method_46_code
def yX6_layFour : MethodName := ⟨RX6, "layFour", "(IIIII)V"⟩
def dkwX6_layFour_1 : List UInt8 := [21, 4, 79, 42, 180, 0, 7, 27, 6, 96, 21, 5, 79, 177]
abbrev dktX6_layFour_1 : List UInt8 := dkwX6_layFour_1 ++ []
def dkwX6_layFour_0 : List UInt8 := [42, 180, 0, 7, 27, 28, 79, 42, 180, 0, 7, 27, 4, 96, 29, 79, 42, 180, 0, 7, 27, 5, 96]
abbrev dktX6_layFour_0 : List UInt8 := dkwX6_layFour_0 ++ dktX6_layFour_1
theorem dksX6_layFour_0 : cX6_layFour.data.toList.drop 0 = dktX6_layFour_0 := by decide +kernel
theorem dksX6_layFour_1 : cX6_layFour.data.toList.drop 23 = dktX6_layFour_1 := dk_seg dksX6_layFour_0 23 rfl rfl
theorem dX6_layFour_0 : decode cX6_layFour 0 = .ok (.aload_n 0, 1) := dk_42 (dk_at dksX6_layFour_0 0 rfl rfl)
theorem dX6_layFour_1 : decode cX6_layFour 1 = .ok (.getfield 7, 3) := dk_180 0 7 (dk_at dksX6_layFour_0 1 rfl rfl)
theorem dX6_layFour_4 : decode cX6_layFour 4 = .ok (.iload_n 1, 1) := dk_27 (dk_at dksX6_layFour_0 4 rfl rfl)
theorem dX6_layFour_5 : decode cX6_layFour 5 = .ok (.iload_n 2, 1) := dk_28 (dk_at dksX6_layFour_0 5 rfl rfl)
theorem dX6_layFour_6 : decode cX6_layFour 6 = .ok (.iastore, 1) := dk_79 (dk_at dksX6_layFour_0 6 rfl rfl)
theorem dX6_layFour_7 : decode cX6_layFour 7 = .ok (.aload_n 0, 1) := dk_42 (dk_at dksX6_layFour_0 7 rfl rfl)
theorem dX6_layFour_8 : decode cX6_layFour 8 = .ok (.getfield 7, 3) := dk_180 0 7 (dk_at dksX6_layFour_0 8 rfl rfl)
theorem dX6_layFour_11 : decode cX6_layFour 11 = .ok (.iload_n 1, 1) := dk_27 (dk_at dksX6_layFour_0 11 rfl rfl)
theorem dX6_layFour_12 : decode cX6_layFour 12 = .ok (.iconst 1, 1) := dk_4 (dk_at dksX6_layFour_0 12 rfl rfl)
theorem dX6_layFour_13 : decode cX6_layFour 13 = .ok (.iadd, 1) := dk_96 (dk_at dksX6_layFour_0 13 rfl rfl)
theorem dX6_layFour_14 : decode cX6_layFour 14 = .ok (.iload_n 3, 1) := dk_29 (dk_at dksX6_layFour_0 14 rfl rfl)
theorem dX6_layFour_15 : decode cX6_layFour 15 = .ok (.iastore, 1) := dk_79 (dk_at dksX6_layFour_0 15 rfl rfl)
theorem dX6_layFour_16 : decode cX6_layFour 16 = .ok (.aload_n 0, 1) := dk_42 (dk_at dksX6_layFour_0 16 rfl rfl)
theorem dX6_layFour_17 : decode cX6_layFour 17 = .ok (.getfield 7, 3) := dk_180 0 7 (dk_at dksX6_layFour_0 17 rfl rfl)
theorem dX6_layFour_20 : decode cX6_layFour 20 = .ok (.iload_n 1, 1) := dk_27 (dk_at dksX6_layFour_0 20 rfl rfl)
theorem dX6_layFour_21 : decode cX6_layFour 21 = .ok (.iconst 2, 1) := dk_5 (dk_at dksX6_layFour_0 21 rfl rfl)
theorem dX6_layFour_22 : decode cX6_layFour 22 = .ok (.iadd, 1) := dk_96 (dk_at dksX6_layFour_0 22 rfl rfl)
theorem dX6_layFour_23 : decode cX6_layFour 23 = .ok (.iload 4, 2) := dk_21 4 (dk_at dksX6_layFour_1 0 rfl rfl)
theorem dX6_layFour_25 : decode cX6_layFour 25 = .ok (.iastore, 1) := dk_79 (dk_at dksX6_layFour_1 2 rfl rfl)
theorem dX6_layFour_26 : decode cX6_layFour 26 = .ok (.aload_n 0, 1) := dk_42 (dk_at dksX6_layFour_1 3 rfl rfl)
theorem dX6_layFour_27 : decode cX6_layFour 27 = .ok (.getfield 7, 3) := dk_180 0 7 (dk_at dksX6_layFour_1 4 rfl rfl)
theorem dX6_layFour_30 : decode cX6_layFour 30 = .ok (.iload_n 1, 1) := dk_27 (dk_at dksX6_layFour_1 7 rfl rfl)
theorem dX6_layFour_31 : decode cX6_layFour 31 = .ok (.iconst 3, 1) := dk_6 (dk_at dksX6_layFour_1 8 rfl rfl)
theorem dX6_layFour_32 : decode cX6_layFour 32 = .ok (.iadd, 1) := dk_96 (dk_at dksX6_layFour_1 9 rfl rfl)
theorem dX6_layFour_33 : decode cX6_layFour 33 = .ok (.iload 5, 2) := dk_21 5 (dk_at dksX6_layFour_1 10 rfl rfl)
theorem dX6_layFour_35 : decode cX6_layFour 35 = .ok (.iastore, 1) := dk_79 (dk_at dksX6_layFour_1 12 rfl rfl)
theorem dX6_layFour_36 : decode cX6_layFour 36 = .ok (.return_, 1) := dk_177 (dk_at dksX6_layFour_1 13 rfl rfl)
abbrev cX6_skilled : ByteArray := prog_21_method_49_code
def yX6_skilled : MethodName := ⟨RX6, "skilled", "(II)I"⟩
def dkwX6_skilled_4 : List UInt8 := [21, 4, 167, 0, 5, 21, 5, 172]
abbrev dktX6_skilled_4 : List UInt8 := dkwX6_skilled_4 ++ []
def dkwX6_skilled_3 : List UInt8 := [54, 5, 132, 3, 1, 132, 6, 1, 167, 255, 216, 28, 154, 0, 7, 29, 167, 0, 15, 28, 4, 160, 0, 8]
abbrev dktX6_skilled_3 : List UInt8 := dkwX6_skilled_3 ++ dktX6_skilled_4
def dkwX6_skilled_2 : List UInt8 := [21, 6, 182, 0, 162, 153, 0, 23, 29, 154, 0, 8, 21, 6, 167, 0, 5, 21, 4, 54, 4, 21, 6]
abbrev dktX6_skilled_2 : List UInt8 := dkwX6_skilled_2 ++ dktX6_skilled_3
def dkwX6_skilled_1 : List UInt8 := [182, 0, 73, 172, 3, 62, 2, 54, 4, 2, 54, 5, 4, 54, 6, 21, 6, 16, 10, 162, 0, 39, 42, 27]
abbrev dktX6_skilled_1 : List UInt8 := dkwX6_skilled_1 ++ dktX6_skilled_2
def dkwX6_skilled_0 : List UInt8 := [42, 27, 182, 0, 120, 153, 0, 15, 28, 133, 9, 20, 0, 160, 184, 0, 59, 154, 0, 10, 42, 16, 254]
abbrev dktX6_skilled_0 : List UInt8 := dkwX6_skilled_0 ++ dktX6_skilled_1
theorem dksX6_skilled_0 : cX6_skilled.data.toList.drop 0 = dktX6_skilled_0 := by decide +kernel
theorem dksX6_skilled_1 : cX6_skilled.data.toList.drop 23 = dktX6_skilled_1 := dk_seg dksX6_skilled_0 23 rfl rfl
theorem dksX6_skilled_2 : cX6_skilled.data.toList.drop 47 = dktX6_skilled_2 := dk_seg dksX6_skilled_1 24 rfl rfl
theorem dksX6_skilled_3 : cX6_skilled.data.toList.drop 70 = dktX6_skilled_3 := dk_seg dksX6_skilled_2 23 rfl rfl
theorem dksX6_skilled_4 : cX6_skilled.data.toList.drop 94 = dktX6_skilled_4 := dk_seg dksX6_skilled_3 24 rfl rfl
theorem dX6_skilled_0 : decode cX6_skilled 0 = .ok (.aload_n 0, 1) := dk_42 (dk_at dksX6_skilled_0 0 rfl rfl)
theorem dX6_skilled_1 : decode cX6_skilled 1 = .ok (.iload_n 1, 1) := dk_27 (dk_at dksX6_skilled_0 1 rfl rfl)
theorem dX6_skilled_2 : decode cX6_skilled 2 = .ok (.invokevirtual 120, 3) := dk_182 0 120 (dk_at dksX6_skilled_0 2 rfl rfl)
theorem dX6_skilled_5 : decode cX6_skilled 5 = .ok (.ifCond .eq 15, 3) := dk_153 0 15 (dk_at dksX6_skilled_0 5 rfl rfl)
theorem dX6_skilled_8 : decode cX6_skilled 8 = .ok (.iload_n 2, 1) := dk_28 (dk_at dksX6_skilled_0 8 rfl rfl)
theorem dX6_skilled_9 : decode cX6_skilled 9 = .ok (.i2l, 1) := dk_133 (dk_at dksX6_skilled_0 9 rfl rfl)
theorem dX6_skilled_10 : decode cX6_skilled 10 = .ok (.lconst 0, 1) := dk_9 (dk_at dksX6_skilled_0 10 rfl rfl)
theorem dX6_skilled_11 : decode cX6_skilled 11 = .ok (.ldc2_w 160, 3) := dk_20 0 160 (dk_at dksX6_skilled_0 11 rfl rfl)
theorem dX6_skilled_14 : decode cX6_skilled 14 = .ok (.invokestatic 59, 3) := dk_184 0 59 (dk_at dksX6_skilled_0 14 rfl rfl)
theorem dX6_skilled_17 : decode cX6_skilled 17 = .ok (.ifCond .ne 10, 3) := dk_154 0 10 (dk_at dksX6_skilled_0 17 rfl rfl)
theorem dX6_skilled_20 : decode cX6_skilled 20 = .ok (.aload_n 0, 1) := dk_42 (dk_at dksX6_skilled_0 20 rfl rfl)
theorem dX6_skilled_21 : decode cX6_skilled 21 = .ok (.bipush (-2), 2) := dk_16 254 (dk_at dksX6_skilled_0 21 rfl rfl)
theorem dX6_skilled_23 : decode cX6_skilled 23 = .ok (.invokevirtual 73, 3) := dk_182 0 73 (dk_at dksX6_skilled_1 0 rfl rfl)
theorem dX6_skilled_26 : decode cX6_skilled 26 = .ok (.ireturn, 1) := dk_172 (dk_at dksX6_skilled_1 3 rfl rfl)
theorem dX6_skilled_27 : decode cX6_skilled 27 = .ok (.iconst 0, 1) := dk_3 (dk_at dksX6_skilled_1 4 rfl rfl)
theorem dX6_skilled_28 : decode cX6_skilled 28 = .ok (.istore_n 3, 1) := dk_62 (dk_at dksX6_skilled_1 5 rfl rfl)
theorem dX6_skilled_29 : decode cX6_skilled 29 = .ok (.iconst (-1), 1) := dk_2 (dk_at dksX6_skilled_1 6 rfl rfl)
theorem dX6_skilled_30 : decode cX6_skilled 30 = .ok (.istore 4, 2) := dk_54 4 (dk_at dksX6_skilled_1 7 rfl rfl)
theorem dX6_skilled_32 : decode cX6_skilled 32 = .ok (.iconst (-1), 1) := dk_2 (dk_at dksX6_skilled_1 9 rfl rfl)
theorem dX6_skilled_33 : decode cX6_skilled 33 = .ok (.istore 5, 2) := dk_54 5 (dk_at dksX6_skilled_1 10 rfl rfl)
theorem dX6_skilled_35 : decode cX6_skilled 35 = .ok (.iconst 1, 1) := dk_4 (dk_at dksX6_skilled_1 12 rfl rfl)
theorem dX6_skilled_36 : decode cX6_skilled 36 = .ok (.istore 6, 2) := dk_54 6 (dk_at dksX6_skilled_1 13 rfl rfl)
theorem dX6_skilled_38 : decode cX6_skilled 38 = .ok (.iload 6, 2) := dk_21 6 (dk_at dksX6_skilled_1 15 rfl rfl)
theorem dX6_skilled_40 : decode cX6_skilled 40 = .ok (.bipush 10, 2) := dk_16 10 (dk_at dksX6_skilled_1 17 rfl rfl)
theorem dX6_skilled_42 : decode cX6_skilled 42 = .ok (.if_icmp .ge 39, 3) := dk_162 0 39 (dk_at dksX6_skilled_1 19 rfl rfl)
theorem dX6_skilled_45 : decode cX6_skilled 45 = .ok (.aload_n 0, 1) := dk_42 (dk_at dksX6_skilled_1 22 rfl rfl)
theorem dX6_skilled_46 : decode cX6_skilled 46 = .ok (.iload_n 1, 1) := dk_27 (dk_at dksX6_skilled_1 23 rfl rfl)
theorem dX6_skilled_47 : decode cX6_skilled 47 = .ok (.iload 6, 2) := dk_21 6 (dk_at dksX6_skilled_2 0 rfl rfl)
theorem dX6_skilled_49 : decode cX6_skilled 49 = .ok (.invokevirtual 162, 3) := dk_182 0 162 (dk_at dksX6_skilled_2 2 rfl rfl)
theorem dX6_skilled_52 : decode cX6_skilled 52 = .ok (.ifCond .eq 23, 3) := dk_153 0 23 (dk_at dksX6_skilled_2 5 rfl rfl)
theorem dX6_skilled_55 : decode cX6_skilled 55 = .ok (.iload_n 3, 1) := dk_29 (dk_at dksX6_skilled_2 8 rfl rfl)
theorem dX6_skilled_56 : decode cX6_skilled 56 = .ok (.ifCond .ne 8, 3) := dk_154 0 8 (dk_at dksX6_skilled_2 9 rfl rfl)
theorem dX6_skilled_59 : decode cX6_skilled 59 = .ok (.iload 6, 2) := dk_21 6 (dk_at dksX6_skilled_2 12 rfl rfl)
theorem dX6_skilled_61 : decode cX6_skilled 61 = .ok (.goto 5, 3) := dk_167 0 5 (dk_at dksX6_skilled_2 14 rfl rfl)
theorem dX6_skilled_64 : decode cX6_skilled 64 = .ok (.iload 4, 2) := dk_21 4 (dk_at dksX6_skilled_2 17 rfl rfl)
theorem dX6_skilled_66 : decode cX6_skilled 66 = .ok (.istore 4, 2) := dk_54 4 (dk_at dksX6_skilled_2 19 rfl rfl)
theorem dX6_skilled_68 : decode cX6_skilled 68 = .ok (.iload 6, 2) := dk_21 6 (dk_at dksX6_skilled_2 21 rfl rfl)
theorem dX6_skilled_70 : decode cX6_skilled 70 = .ok (.istore 5, 2) := dk_54 5 (dk_at dksX6_skilled_3 0 rfl rfl)
theorem dX6_skilled_72 : decode cX6_skilled 72 = .ok (.iinc 3 1, 3) := dk_132 3 1 (dk_at dksX6_skilled_3 2 rfl rfl)
theorem dX6_skilled_75 : decode cX6_skilled 75 = .ok (.iinc 6 1, 3) := dk_132 6 1 (dk_at dksX6_skilled_3 5 rfl rfl)
theorem dX6_skilled_78 : decode cX6_skilled 78 = .ok (.goto (-40), 3) := dk_167 255 216 (dk_at dksX6_skilled_3 8 rfl rfl)
theorem dX6_skilled_81 : decode cX6_skilled 81 = .ok (.iload_n 2, 1) := dk_28 (dk_at dksX6_skilled_3 11 rfl rfl)
theorem dX6_skilled_82 : decode cX6_skilled 82 = .ok (.ifCond .ne 7, 3) := dk_154 0 7 (dk_at dksX6_skilled_3 12 rfl rfl)
theorem dX6_skilled_85 : decode cX6_skilled 85 = .ok (.iload_n 3, 1) := dk_29 (dk_at dksX6_skilled_3 15 rfl rfl)
theorem dX6_skilled_86 : decode cX6_skilled 86 = .ok (.goto 15, 3) := dk_167 0 15 (dk_at dksX6_skilled_3 16 rfl rfl)
theorem dX6_skilled_89 : decode cX6_skilled 89 = .ok (.iload_n 2, 1) := dk_28 (dk_at dksX6_skilled_3 19 rfl rfl)
theorem dX6_skilled_90 : decode cX6_skilled 90 = .ok (.iconst 1, 1) := dk_4 (dk_at dksX6_skilled_3 20 rfl rfl)
theorem dX6_skilled_91 : decode cX6_skilled 91 = .ok (.if_icmp .ne 8, 3) := dk_160 0 8 (dk_at dksX6_skilled_3 21 rfl rfl)
theorem dX6_skilled_94 : decode cX6_skilled 94 = .ok (.iload 4, 2) := dk_21 4 (dk_at dksX6_skilled_4 0 rfl rfl)
theorem dX6_skilled_96 : decode cX6_skilled 96 = .ok (.goto 5, 3) := dk_167 0 5 (dk_at dksX6_skilled_4 2 rfl rfl)
theorem dX6_skilled_99 : decode cX6_skilled 99 = .ok (.iload 5, 2) := dk_21 5 (dk_at dksX6_skilled_4 5 rfl rfl)
theorem dX6_skilled_101 : decode cX6_skilled 101 = .ok (.ireturn, 1) := dk_172 (dk_at dksX6_skilled_4 7 rfl rfl)
abbrev cX6_isSkilledBy : ByteArray := prog_21_method_48_code
def yX6_isSkilledBy : MethodName := ⟨RX6, "isSkilledBy", "(II)Z"⟩
def dkwX6_isSkilledBy_5 : List UInt8 := [172]
abbrev dktX6_isSkilledBy_5 : List UInt8 := dkwX6_isSkilledBy_5 ++ []
def dkwX6_isSkilledBy_4 : List UInt8 := [160, 0, 7, 4, 167, 0, 4, 3, 160, 0, 7, 4, 167, 0, 4, 3, 62, 132, 4, 1, 167, 255, 148, 29]
abbrev dktX6_isSkilledBy_4 : List UInt8 := dkwX6_isSkilledBy_4 ++ dktX6_isSkilledBy_5
def dkwX6_isSkilledBy_3 : List UInt8 := [180, 0, 7, 21, 5, 46, 27, 160, 0, 26, 21, 6, 42, 180, 0, 7, 21, 5, 6, 96, 46, 4]
abbrev dktX6_isSkilledBy_3 : List UInt8 := dkwX6_isSkilledBy_3 ++ dktX6_isSkilledBy_4
def dkwX6_isSkilledBy_2 : List UInt8 := [42, 180, 0, 7, 21, 5, 5, 96, 46, 163, 0, 7, 4, 167, 0, 4, 3, 54, 6, 29, 153, 0, 41, 42]
abbrev dktX6_isSkilledBy_2 : List UInt8 := dkwX6_isSkilledBy_2 ++ dktX6_isSkilledBy_3
def dkwX6_isSkilledBy_1 : List UInt8 := [54, 5, 42, 180, 0, 7, 16, 20, 27, 96, 46, 28, 42, 180, 0, 7, 21, 5, 4, 96, 46, 184, 0, 101]
abbrev dktX6_isSkilledBy_1 : List UInt8 := dkwX6_isSkilledBy_1 ++ dktX6_isSkilledBy_2
def dkwX6_isSkilledBy_0 : List UInt8 := [4, 62, 3, 54, 4, 21, 4, 42, 180, 0, 7, 5, 46, 162, 0, 103, 16, 36, 7, 21, 4, 104, 96]
abbrev dktX6_isSkilledBy_0 : List UInt8 := dkwX6_isSkilledBy_0 ++ dktX6_isSkilledBy_1
theorem dksX6_isSkilledBy_0 : cX6_isSkilledBy.data.toList.drop 0 = dktX6_isSkilledBy_0 := by decide +kernel
theorem dksX6_isSkilledBy_1 : cX6_isSkilledBy.data.toList.drop 23 = dktX6_isSkilledBy_1 := dk_seg dksX6_isSkilledBy_0 23 rfl rfl
theorem dksX6_isSkilledBy_2 : cX6_isSkilledBy.data.toList.drop 47 = dktX6_isSkilledBy_2 := dk_seg dksX6_isSkilledBy_1 24 rfl rfl
theorem dksX6_isSkilledBy_3 : cX6_isSkilledBy.data.toList.drop 71 = dktX6_isSkilledBy_3 := dk_seg dksX6_isSkilledBy_2 24 rfl rfl
theorem dksX6_isSkilledBy_4 : cX6_isSkilledBy.data.toList.drop 93 = dktX6_isSkilledBy_4 := dk_seg dksX6_isSkilledBy_3 22 rfl rfl
theorem dksX6_isSkilledBy_5 : cX6_isSkilledBy.data.toList.drop 117 = dktX6_isSkilledBy_5 := dk_seg dksX6_isSkilledBy_4 24 rfl rfl
theorem dX6_isSkilledBy_0 : decode cX6_isSkilledBy 0 = .ok (.iconst 1, 1) := dk_4 (dk_at dksX6_isSkilledBy_0 0 rfl rfl)
theorem dX6_isSkilledBy_1 : decode cX6_isSkilledBy 1 = .ok (.istore_n 3, 1) := dk_62 (dk_at dksX6_isSkilledBy_0 1 rfl rfl)
theorem dX6_isSkilledBy_2 : decode cX6_isSkilledBy 2 = .ok (.iconst 0, 1) := dk_3 (dk_at dksX6_isSkilledBy_0 2 rfl rfl)
theorem dX6_isSkilledBy_3 : decode cX6_isSkilledBy 3 = .ok (.istore 4, 2) := dk_54 4 (dk_at dksX6_isSkilledBy_0 3 rfl rfl)
theorem dX6_isSkilledBy_5 : decode cX6_isSkilledBy 5 = .ok (.iload 4, 2) := dk_21 4 (dk_at dksX6_isSkilledBy_0 5 rfl rfl)
theorem dX6_isSkilledBy_7 : decode cX6_isSkilledBy 7 = .ok (.aload_n 0, 1) := dk_42 (dk_at dksX6_isSkilledBy_0 7 rfl rfl)
theorem dX6_isSkilledBy_8 : decode cX6_isSkilledBy 8 = .ok (.getfield 7, 3) := dk_180 0 7 (dk_at dksX6_isSkilledBy_0 8 rfl rfl)
theorem dX6_isSkilledBy_11 : decode cX6_isSkilledBy 11 = .ok (.iconst 2, 1) := dk_5 (dk_at dksX6_isSkilledBy_0 11 rfl rfl)
theorem dX6_isSkilledBy_12 : decode cX6_isSkilledBy 12 = .ok (.iaload, 1) := dk_46 (dk_at dksX6_isSkilledBy_0 12 rfl rfl)
theorem dX6_isSkilledBy_13 : decode cX6_isSkilledBy 13 = .ok (.if_icmp .ge 103, 3) := dk_162 0 103 (dk_at dksX6_isSkilledBy_0 13 rfl rfl)
theorem dX6_isSkilledBy_16 : decode cX6_isSkilledBy 16 = .ok (.bipush 36, 2) := dk_16 36 (dk_at dksX6_isSkilledBy_0 16 rfl rfl)
theorem dX6_isSkilledBy_18 : decode cX6_isSkilledBy 18 = .ok (.iconst 4, 1) := dk_7 (dk_at dksX6_isSkilledBy_0 18 rfl rfl)
theorem dX6_isSkilledBy_19 : decode cX6_isSkilledBy 19 = .ok (.iload 4, 2) := dk_21 4 (dk_at dksX6_isSkilledBy_0 19 rfl rfl)
theorem dX6_isSkilledBy_21 : decode cX6_isSkilledBy 21 = .ok (.imul, 1) := dk_104 (dk_at dksX6_isSkilledBy_0 21 rfl rfl)
theorem dX6_isSkilledBy_22 : decode cX6_isSkilledBy 22 = .ok (.iadd, 1) := dk_96 (dk_at dksX6_isSkilledBy_0 22 rfl rfl)
theorem dX6_isSkilledBy_23 : decode cX6_isSkilledBy 23 = .ok (.istore 5, 2) := dk_54 5 (dk_at dksX6_isSkilledBy_1 0 rfl rfl)
theorem dX6_isSkilledBy_25 : decode cX6_isSkilledBy 25 = .ok (.aload_n 0, 1) := dk_42 (dk_at dksX6_isSkilledBy_1 2 rfl rfl)
theorem dX6_isSkilledBy_26 : decode cX6_isSkilledBy 26 = .ok (.getfield 7, 3) := dk_180 0 7 (dk_at dksX6_isSkilledBy_1 3 rfl rfl)
theorem dX6_isSkilledBy_29 : decode cX6_isSkilledBy 29 = .ok (.bipush 20, 2) := dk_16 20 (dk_at dksX6_isSkilledBy_1 6 rfl rfl)
theorem dX6_isSkilledBy_31 : decode cX6_isSkilledBy 31 = .ok (.iload_n 1, 1) := dk_27 (dk_at dksX6_isSkilledBy_1 8 rfl rfl)
theorem dX6_isSkilledBy_32 : decode cX6_isSkilledBy 32 = .ok (.iadd, 1) := dk_96 (dk_at dksX6_isSkilledBy_1 9 rfl rfl)
theorem dX6_isSkilledBy_33 : decode cX6_isSkilledBy 33 = .ok (.iaload, 1) := dk_46 (dk_at dksX6_isSkilledBy_1 10 rfl rfl)
theorem dX6_isSkilledBy_34 : decode cX6_isSkilledBy 34 = .ok (.iload_n 2, 1) := dk_28 (dk_at dksX6_isSkilledBy_1 11 rfl rfl)
theorem dX6_isSkilledBy_35 : decode cX6_isSkilledBy 35 = .ok (.aload_n 0, 1) := dk_42 (dk_at dksX6_isSkilledBy_1 12 rfl rfl)
theorem dX6_isSkilledBy_36 : decode cX6_isSkilledBy 36 = .ok (.getfield 7, 3) := dk_180 0 7 (dk_at dksX6_isSkilledBy_1 13 rfl rfl)
theorem dX6_isSkilledBy_39 : decode cX6_isSkilledBy 39 = .ok (.iload 5, 2) := dk_21 5 (dk_at dksX6_isSkilledBy_1 16 rfl rfl)
theorem dX6_isSkilledBy_41 : decode cX6_isSkilledBy 41 = .ok (.iconst 1, 1) := dk_4 (dk_at dksX6_isSkilledBy_1 18 rfl rfl)
theorem dX6_isSkilledBy_42 : decode cX6_isSkilledBy 42 = .ok (.iadd, 1) := dk_96 (dk_at dksX6_isSkilledBy_1 19 rfl rfl)
theorem dX6_isSkilledBy_43 : decode cX6_isSkilledBy 43 = .ok (.iaload, 1) := dk_46 (dk_at dksX6_isSkilledBy_1 20 rfl rfl)
theorem dX6_isSkilledBy_44 : decode cX6_isSkilledBy 44 = .ok (.invokestatic 101, 3) := dk_184 0 101 (dk_at dksX6_isSkilledBy_1 21 rfl rfl)
theorem dX6_isSkilledBy_47 : decode cX6_isSkilledBy 47 = .ok (.aload_n 0, 1) := dk_42 (dk_at dksX6_isSkilledBy_2 0 rfl rfl)
theorem dX6_isSkilledBy_48 : decode cX6_isSkilledBy 48 = .ok (.getfield 7, 3) := dk_180 0 7 (dk_at dksX6_isSkilledBy_2 1 rfl rfl)
theorem dX6_isSkilledBy_51 : decode cX6_isSkilledBy 51 = .ok (.iload 5, 2) := dk_21 5 (dk_at dksX6_isSkilledBy_2 4 rfl rfl)
theorem dX6_isSkilledBy_53 : decode cX6_isSkilledBy 53 = .ok (.iconst 2, 1) := dk_5 (dk_at dksX6_isSkilledBy_2 6 rfl rfl)
theorem dX6_isSkilledBy_54 : decode cX6_isSkilledBy 54 = .ok (.iadd, 1) := dk_96 (dk_at dksX6_isSkilledBy_2 7 rfl rfl)
theorem dX6_isSkilledBy_55 : decode cX6_isSkilledBy 55 = .ok (.iaload, 1) := dk_46 (dk_at dksX6_isSkilledBy_2 8 rfl rfl)
theorem dX6_isSkilledBy_56 : decode cX6_isSkilledBy 56 = .ok (.if_icmp .gt 7, 3) := dk_163 0 7 (dk_at dksX6_isSkilledBy_2 9 rfl rfl)
theorem dX6_isSkilledBy_59 : decode cX6_isSkilledBy 59 = .ok (.iconst 1, 1) := dk_4 (dk_at dksX6_isSkilledBy_2 12 rfl rfl)
theorem dX6_isSkilledBy_60 : decode cX6_isSkilledBy 60 = .ok (.goto 4, 3) := dk_167 0 4 (dk_at dksX6_isSkilledBy_2 13 rfl rfl)
theorem dX6_isSkilledBy_63 : decode cX6_isSkilledBy 63 = .ok (.iconst 0, 1) := dk_3 (dk_at dksX6_isSkilledBy_2 16 rfl rfl)
theorem dX6_isSkilledBy_64 : decode cX6_isSkilledBy 64 = .ok (.istore 6, 2) := dk_54 6 (dk_at dksX6_isSkilledBy_2 17 rfl rfl)
theorem dX6_isSkilledBy_66 : decode cX6_isSkilledBy 66 = .ok (.iload_n 3, 1) := dk_29 (dk_at dksX6_isSkilledBy_2 19 rfl rfl)
theorem dX6_isSkilledBy_67 : decode cX6_isSkilledBy 67 = .ok (.ifCond .eq 41, 3) := dk_153 0 41 (dk_at dksX6_isSkilledBy_2 20 rfl rfl)
theorem dX6_isSkilledBy_70 : decode cX6_isSkilledBy 70 = .ok (.aload_n 0, 1) := dk_42 (dk_at dksX6_isSkilledBy_2 23 rfl rfl)
theorem dX6_isSkilledBy_71 : decode cX6_isSkilledBy 71 = .ok (.getfield 7, 3) := dk_180 0 7 (dk_at dksX6_isSkilledBy_3 0 rfl rfl)
theorem dX6_isSkilledBy_74 : decode cX6_isSkilledBy 74 = .ok (.iload 5, 2) := dk_21 5 (dk_at dksX6_isSkilledBy_3 3 rfl rfl)
theorem dX6_isSkilledBy_76 : decode cX6_isSkilledBy 76 = .ok (.iaload, 1) := dk_46 (dk_at dksX6_isSkilledBy_3 5 rfl rfl)
theorem dX6_isSkilledBy_77 : decode cX6_isSkilledBy 77 = .ok (.iload_n 1, 1) := dk_27 (dk_at dksX6_isSkilledBy_3 6 rfl rfl)
theorem dX6_isSkilledBy_78 : decode cX6_isSkilledBy 78 = .ok (.if_icmp .ne 26, 3) := dk_160 0 26 (dk_at dksX6_isSkilledBy_3 7 rfl rfl)
theorem dX6_isSkilledBy_81 : decode cX6_isSkilledBy 81 = .ok (.iload 6, 2) := dk_21 6 (dk_at dksX6_isSkilledBy_3 10 rfl rfl)
theorem dX6_isSkilledBy_83 : decode cX6_isSkilledBy 83 = .ok (.aload_n 0, 1) := dk_42 (dk_at dksX6_isSkilledBy_3 12 rfl rfl)
theorem dX6_isSkilledBy_84 : decode cX6_isSkilledBy 84 = .ok (.getfield 7, 3) := dk_180 0 7 (dk_at dksX6_isSkilledBy_3 13 rfl rfl)
theorem dX6_isSkilledBy_87 : decode cX6_isSkilledBy 87 = .ok (.iload 5, 2) := dk_21 5 (dk_at dksX6_isSkilledBy_3 16 rfl rfl)
theorem dX6_isSkilledBy_89 : decode cX6_isSkilledBy 89 = .ok (.iconst 3, 1) := dk_6 (dk_at dksX6_isSkilledBy_3 18 rfl rfl)
theorem dX6_isSkilledBy_90 : decode cX6_isSkilledBy 90 = .ok (.iadd, 1) := dk_96 (dk_at dksX6_isSkilledBy_3 19 rfl rfl)
theorem dX6_isSkilledBy_91 : decode cX6_isSkilledBy 91 = .ok (.iaload, 1) := dk_46 (dk_at dksX6_isSkilledBy_3 20 rfl rfl)
theorem dX6_isSkilledBy_92 : decode cX6_isSkilledBy 92 = .ok (.iconst 1, 1) := dk_4 (dk_at dksX6_isSkilledBy_3 21 rfl rfl)
theorem dX6_isSkilledBy_93 : decode cX6_isSkilledBy 93 = .ok (.if_icmp .ne 7, 3) := dk_160 0 7 (dk_at dksX6_isSkilledBy_4 0 rfl rfl)
theorem dX6_isSkilledBy_96 : decode cX6_isSkilledBy 96 = .ok (.iconst 1, 1) := dk_4 (dk_at dksX6_isSkilledBy_4 3 rfl rfl)
theorem dX6_isSkilledBy_97 : decode cX6_isSkilledBy 97 = .ok (.goto 4, 3) := dk_167 0 4 (dk_at dksX6_isSkilledBy_4 4 rfl rfl)
theorem dX6_isSkilledBy_100 : decode cX6_isSkilledBy 100 = .ok (.iconst 0, 1) := dk_3 (dk_at dksX6_isSkilledBy_4 7 rfl rfl)
theorem dX6_isSkilledBy_101 : decode cX6_isSkilledBy 101 = .ok (.if_icmp .ne 7, 3) := dk_160 0 7 (dk_at dksX6_isSkilledBy_4 8 rfl rfl)
theorem dX6_isSkilledBy_104 : decode cX6_isSkilledBy 104 = .ok (.iconst 1, 1) := dk_4 (dk_at dksX6_isSkilledBy_4 11 rfl rfl)
theorem dX6_isSkilledBy_105 : decode cX6_isSkilledBy 105 = .ok (.goto 4, 3) := dk_167 0 4 (dk_at dksX6_isSkilledBy_4 12 rfl rfl)
theorem dX6_isSkilledBy_108 : decode cX6_isSkilledBy 108 = .ok (.iconst 0, 1) := dk_3 (dk_at dksX6_isSkilledBy_4 15 rfl rfl)
theorem dX6_isSkilledBy_109 : decode cX6_isSkilledBy 109 = .ok (.istore_n 3, 1) := dk_62 (dk_at dksX6_isSkilledBy_4 16 rfl rfl)
theorem dX6_isSkilledBy_110 : decode cX6_isSkilledBy 110 = .ok (.iinc 4 1, 3) := dk_132 4 1 (dk_at dksX6_isSkilledBy_4 17 rfl rfl)
theorem dX6_isSkilledBy_113 : decode cX6_isSkilledBy 113 = .ok (.goto (-108), 3) := dk_167 255 148 (dk_at dksX6_isSkilledBy_4 20 rfl rfl)
theorem dX6_isSkilledBy_116 : decode cX6_isSkilledBy 116 = .ok (.iload_n 3, 1) := dk_29 (dk_at dksX6_isSkilledBy_4 23 rfl rfl)
theorem dX6_isSkilledBy_117 : decode cX6_isSkilledBy 117 = .ok (.ireturn, 1) := dk_172 (dk_at dksX6_isSkilledBy_5 0 rfl rfl)
abbrev cX6_tell : ByteArray := prog_21_method_50_code
def yX6_tell : MethodName := ⟨RX6, "tell", "(I)I"⟩
def dkwX6_tell_9 : List UInt8 := [167, 255, 72, 28, 172]
abbrev dktX6_tell_9 : List UInt8 := dkwX6_tell_9 ++ []
def dkwX6_tell_8 : List UInt8 := [21, 8, 29, 162, 0, 8, 21, 8, 167, 0, 4, 29, 62, 132, 5, 1, 167, 255, 88, 132, 4, 1]
abbrev dktX6_tell_8 : List UInt8 := dkwX6_tell_8 ++ dktX6_tell_9
def dkwX6_tell_7 : List UInt8 := [21, 8, 29, 162, 0, 14, 16, 100, 21, 4, 104, 21, 5, 96, 167, 0, 4, 28, 61, 21, 8, 158, 0, 14]
abbrev dktX6_tell_7 : List UInt8 := dkwX6_tell_7 ++ dktX6_tell_8
def dkwX6_tell_6 : List UInt8 := [167, 255, 168, 21, 6, 21, 7, 164, 0, 8, 21, 6, 167, 0, 5, 21, 7, 54, 8, 21, 8, 158, 0, 20]
abbrev dktX6_tell_6 : List UInt8 := dkwX6_tell_6 ++ dktX6_tell_7
def dkwX6_tell_5 : List UInt8 := [182, 0, 162, 153, 0, 12, 21, 9, 154, 0, 7, 4, 167, 0, 4, 3, 96, 54, 7, 132, 8, 1]
abbrev dktX6_tell_5 : List UInt8 := dkwX6_tell_5 ++ dktX6_tell_6
def dkwX6_tell_4 : List UInt8 := [153, 0, 12, 21, 9, 153, 0, 7, 4, 167, 0, 4, 3, 96, 54, 6, 21, 7, 42, 27, 21, 8]
abbrev dktX6_tell_4 : List UInt8 := dkwX6_tell_4 ++ dktX6_tell_5
def dkwX6_tell_3 : List UInt8 := [184, 0, 101, 21, 5, 163, 0, 7, 4, 167, 0, 4, 3, 54, 9, 21, 6, 42, 27, 21, 8, 182, 0, 162]
abbrev dktX6_tell_3 : List UInt8 := dkwX6_tell_3 ++ dktX6_tell_4
def dkwX6_tell_2 : List UInt8 := [54, 8, 21, 8, 16, 10, 162, 0, 87, 42, 180, 0, 7, 16, 20, 27, 96, 46, 21, 8, 21, 4]
abbrev dktX6_tell_2 : List UInt8 := dkwX6_tell_2 ++ dktX6_tell_3
def dkwX6_tell_1 : List UInt8 := [21, 4, 16, 6, 162, 0, 183, 3, 54, 5, 21, 5, 16, 30, 163, 0, 167, 3, 54, 6, 3, 54, 7, 4]
abbrev dktX6_tell_1 : List UInt8 := dkwX6_tell_1 ++ dktX6_tell_2
def dkwX6_tell_0 : List UInt8 := [42, 27, 182, 0, 120, 154, 0, 10, 42, 16, 254, 182, 0, 73, 172, 2, 61, 18, 146, 62, 3, 54, 4]
abbrev dktX6_tell_0 : List UInt8 := dkwX6_tell_0 ++ dktX6_tell_1
theorem dksX6_tell_0 : cX6_tell.data.toList.drop 0 = dktX6_tell_0 := by decide +kernel
theorem dksX6_tell_1 : cX6_tell.data.toList.drop 23 = dktX6_tell_1 := dk_seg dksX6_tell_0 23 rfl rfl
theorem dksX6_tell_2 : cX6_tell.data.toList.drop 47 = dktX6_tell_2 := dk_seg dksX6_tell_1 24 rfl rfl
theorem dksX6_tell_3 : cX6_tell.data.toList.drop 69 = dktX6_tell_3 := dk_seg dksX6_tell_2 22 rfl rfl
theorem dksX6_tell_4 : cX6_tell.data.toList.drop 93 = dktX6_tell_4 := dk_seg dksX6_tell_3 24 rfl rfl
theorem dksX6_tell_5 : cX6_tell.data.toList.drop 115 = dktX6_tell_5 := dk_seg dksX6_tell_4 22 rfl rfl
theorem dksX6_tell_6 : cX6_tell.data.toList.drop 137 = dktX6_tell_6 := dk_seg dksX6_tell_5 22 rfl rfl
theorem dksX6_tell_7 : cX6_tell.data.toList.drop 161 = dktX6_tell_7 := dk_seg dksX6_tell_6 24 rfl rfl
theorem dksX6_tell_8 : cX6_tell.data.toList.drop 185 = dktX6_tell_8 := dk_seg dksX6_tell_7 24 rfl rfl
theorem dksX6_tell_9 : cX6_tell.data.toList.drop 207 = dktX6_tell_9 := dk_seg dksX6_tell_8 22 rfl rfl
theorem dX6_tell_0 : decode cX6_tell 0 = .ok (.aload_n 0, 1) := dk_42 (dk_at dksX6_tell_0 0 rfl rfl)
theorem dX6_tell_1 : decode cX6_tell 1 = .ok (.iload_n 1, 1) := dk_27 (dk_at dksX6_tell_0 1 rfl rfl)
theorem dX6_tell_2 : decode cX6_tell 2 = .ok (.invokevirtual 120, 3) := dk_182 0 120 (dk_at dksX6_tell_0 2 rfl rfl)
theorem dX6_tell_5 : decode cX6_tell 5 = .ok (.ifCond .ne 10, 3) := dk_154 0 10 (dk_at dksX6_tell_0 5 rfl rfl)
theorem dX6_tell_8 : decode cX6_tell 8 = .ok (.aload_n 0, 1) := dk_42 (dk_at dksX6_tell_0 8 rfl rfl)
theorem dX6_tell_9 : decode cX6_tell 9 = .ok (.bipush (-2), 2) := dk_16 254 (dk_at dksX6_tell_0 9 rfl rfl)
theorem dX6_tell_11 : decode cX6_tell 11 = .ok (.invokevirtual 73, 3) := dk_182 0 73 (dk_at dksX6_tell_0 11 rfl rfl)
theorem dX6_tell_14 : decode cX6_tell 14 = .ok (.ireturn, 1) := dk_172 (dk_at dksX6_tell_0 14 rfl rfl)
theorem dX6_tell_15 : decode cX6_tell 15 = .ok (.iconst (-1), 1) := dk_2 (dk_at dksX6_tell_0 15 rfl rfl)
theorem dX6_tell_16 : decode cX6_tell 16 = .ok (.istore_n 2, 1) := dk_61 (dk_at dksX6_tell_0 16 rfl rfl)
theorem dX6_tell_17 : decode cX6_tell 17 = .ok (.ldc 146, 2) := dk_18 146 (dk_at dksX6_tell_0 17 rfl rfl)
theorem dX6_tell_19 : decode cX6_tell 19 = .ok (.istore_n 3, 1) := dk_62 (dk_at dksX6_tell_0 19 rfl rfl)
theorem dX6_tell_20 : decode cX6_tell 20 = .ok (.iconst 0, 1) := dk_3 (dk_at dksX6_tell_0 20 rfl rfl)
theorem dX6_tell_21 : decode cX6_tell 21 = .ok (.istore 4, 2) := dk_54 4 (dk_at dksX6_tell_0 21 rfl rfl)
theorem dX6_tell_23 : decode cX6_tell 23 = .ok (.iload 4, 2) := dk_21 4 (dk_at dksX6_tell_1 0 rfl rfl)
theorem dX6_tell_25 : decode cX6_tell 25 = .ok (.bipush 6, 2) := dk_16 6 (dk_at dksX6_tell_1 2 rfl rfl)
theorem dX6_tell_27 : decode cX6_tell 27 = .ok (.if_icmp .ge 183, 3) := dk_162 0 183 (dk_at dksX6_tell_1 4 rfl rfl)
theorem dX6_tell_30 : decode cX6_tell 30 = .ok (.iconst 0, 1) := dk_3 (dk_at dksX6_tell_1 7 rfl rfl)
theorem dX6_tell_31 : decode cX6_tell 31 = .ok (.istore 5, 2) := dk_54 5 (dk_at dksX6_tell_1 8 rfl rfl)
theorem dX6_tell_33 : decode cX6_tell 33 = .ok (.iload 5, 2) := dk_21 5 (dk_at dksX6_tell_1 10 rfl rfl)
theorem dX6_tell_35 : decode cX6_tell 35 = .ok (.bipush 30, 2) := dk_16 30 (dk_at dksX6_tell_1 12 rfl rfl)
theorem dX6_tell_37 : decode cX6_tell 37 = .ok (.if_icmp .gt 167, 3) := dk_163 0 167 (dk_at dksX6_tell_1 14 rfl rfl)
theorem dX6_tell_40 : decode cX6_tell 40 = .ok (.iconst 0, 1) := dk_3 (dk_at dksX6_tell_1 17 rfl rfl)
theorem dX6_tell_41 : decode cX6_tell 41 = .ok (.istore 6, 2) := dk_54 6 (dk_at dksX6_tell_1 18 rfl rfl)
theorem dX6_tell_43 : decode cX6_tell 43 = .ok (.iconst 0, 1) := dk_3 (dk_at dksX6_tell_1 20 rfl rfl)
theorem dX6_tell_44 : decode cX6_tell 44 = .ok (.istore 7, 2) := dk_54 7 (dk_at dksX6_tell_1 21 rfl rfl)
theorem dX6_tell_46 : decode cX6_tell 46 = .ok (.iconst 1, 1) := dk_4 (dk_at dksX6_tell_1 23 rfl rfl)
theorem dX6_tell_47 : decode cX6_tell 47 = .ok (.istore 8, 2) := dk_54 8 (dk_at dksX6_tell_2 0 rfl rfl)
theorem dX6_tell_49 : decode cX6_tell 49 = .ok (.iload 8, 2) := dk_21 8 (dk_at dksX6_tell_2 2 rfl rfl)
theorem dX6_tell_51 : decode cX6_tell 51 = .ok (.bipush 10, 2) := dk_16 10 (dk_at dksX6_tell_2 4 rfl rfl)
theorem dX6_tell_53 : decode cX6_tell 53 = .ok (.if_icmp .ge 87, 3) := dk_162 0 87 (dk_at dksX6_tell_2 6 rfl rfl)
theorem dX6_tell_56 : decode cX6_tell 56 = .ok (.aload_n 0, 1) := dk_42 (dk_at dksX6_tell_2 9 rfl rfl)
theorem dX6_tell_57 : decode cX6_tell 57 = .ok (.getfield 7, 3) := dk_180 0 7 (dk_at dksX6_tell_2 10 rfl rfl)
theorem dX6_tell_60 : decode cX6_tell 60 = .ok (.bipush 20, 2) := dk_16 20 (dk_at dksX6_tell_2 13 rfl rfl)
theorem dX6_tell_62 : decode cX6_tell 62 = .ok (.iload_n 1, 1) := dk_27 (dk_at dksX6_tell_2 15 rfl rfl)
theorem dX6_tell_63 : decode cX6_tell 63 = .ok (.iadd, 1) := dk_96 (dk_at dksX6_tell_2 16 rfl rfl)
theorem dX6_tell_64 : decode cX6_tell 64 = .ok (.iaload, 1) := dk_46 (dk_at dksX6_tell_2 17 rfl rfl)
theorem dX6_tell_65 : decode cX6_tell 65 = .ok (.iload 8, 2) := dk_21 8 (dk_at dksX6_tell_2 18 rfl rfl)
theorem dX6_tell_67 : decode cX6_tell 67 = .ok (.iload 4, 2) := dk_21 4 (dk_at dksX6_tell_2 20 rfl rfl)
theorem dX6_tell_69 : decode cX6_tell 69 = .ok (.invokestatic 101, 3) := dk_184 0 101 (dk_at dksX6_tell_3 0 rfl rfl)
theorem dX6_tell_72 : decode cX6_tell 72 = .ok (.iload 5, 2) := dk_21 5 (dk_at dksX6_tell_3 3 rfl rfl)
theorem dX6_tell_74 : decode cX6_tell 74 = .ok (.if_icmp .gt 7, 3) := dk_163 0 7 (dk_at dksX6_tell_3 5 rfl rfl)
theorem dX6_tell_77 : decode cX6_tell 77 = .ok (.iconst 1, 1) := dk_4 (dk_at dksX6_tell_3 8 rfl rfl)
theorem dX6_tell_78 : decode cX6_tell 78 = .ok (.goto 4, 3) := dk_167 0 4 (dk_at dksX6_tell_3 9 rfl rfl)
theorem dX6_tell_81 : decode cX6_tell 81 = .ok (.iconst 0, 1) := dk_3 (dk_at dksX6_tell_3 12 rfl rfl)
theorem dX6_tell_82 : decode cX6_tell 82 = .ok (.istore 9, 2) := dk_54 9 (dk_at dksX6_tell_3 13 rfl rfl)
theorem dX6_tell_84 : decode cX6_tell 84 = .ok (.iload 6, 2) := dk_21 6 (dk_at dksX6_tell_3 15 rfl rfl)
theorem dX6_tell_86 : decode cX6_tell 86 = .ok (.aload_n 0, 1) := dk_42 (dk_at dksX6_tell_3 17 rfl rfl)
theorem dX6_tell_87 : decode cX6_tell 87 = .ok (.iload_n 1, 1) := dk_27 (dk_at dksX6_tell_3 18 rfl rfl)
theorem dX6_tell_88 : decode cX6_tell 88 = .ok (.iload 8, 2) := dk_21 8 (dk_at dksX6_tell_3 19 rfl rfl)
theorem dX6_tell_90 : decode cX6_tell 90 = .ok (.invokevirtual 162, 3) := dk_182 0 162 (dk_at dksX6_tell_3 21 rfl rfl)
theorem dX6_tell_93 : decode cX6_tell 93 = .ok (.ifCond .eq 12, 3) := dk_153 0 12 (dk_at dksX6_tell_4 0 rfl rfl)
theorem dX6_tell_96 : decode cX6_tell 96 = .ok (.iload 9, 2) := dk_21 9 (dk_at dksX6_tell_4 3 rfl rfl)
theorem dX6_tell_98 : decode cX6_tell 98 = .ok (.ifCond .eq 7, 3) := dk_153 0 7 (dk_at dksX6_tell_4 5 rfl rfl)
theorem dX6_tell_101 : decode cX6_tell 101 = .ok (.iconst 1, 1) := dk_4 (dk_at dksX6_tell_4 8 rfl rfl)
theorem dX6_tell_102 : decode cX6_tell 102 = .ok (.goto 4, 3) := dk_167 0 4 (dk_at dksX6_tell_4 9 rfl rfl)
theorem dX6_tell_105 : decode cX6_tell 105 = .ok (.iconst 0, 1) := dk_3 (dk_at dksX6_tell_4 12 rfl rfl)
theorem dX6_tell_106 : decode cX6_tell 106 = .ok (.iadd, 1) := dk_96 (dk_at dksX6_tell_4 13 rfl rfl)
theorem dX6_tell_107 : decode cX6_tell 107 = .ok (.istore 6, 2) := dk_54 6 (dk_at dksX6_tell_4 14 rfl rfl)
theorem dX6_tell_109 : decode cX6_tell 109 = .ok (.iload 7, 2) := dk_21 7 (dk_at dksX6_tell_4 16 rfl rfl)
theorem dX6_tell_111 : decode cX6_tell 111 = .ok (.aload_n 0, 1) := dk_42 (dk_at dksX6_tell_4 18 rfl rfl)
theorem dX6_tell_112 : decode cX6_tell 112 = .ok (.iload_n 1, 1) := dk_27 (dk_at dksX6_tell_4 19 rfl rfl)
theorem dX6_tell_113 : decode cX6_tell 113 = .ok (.iload 8, 2) := dk_21 8 (dk_at dksX6_tell_4 20 rfl rfl)
theorem dX6_tell_115 : decode cX6_tell 115 = .ok (.invokevirtual 162, 3) := dk_182 0 162 (dk_at dksX6_tell_5 0 rfl rfl)
theorem dX6_tell_118 : decode cX6_tell 118 = .ok (.ifCond .eq 12, 3) := dk_153 0 12 (dk_at dksX6_tell_5 3 rfl rfl)
theorem dX6_tell_121 : decode cX6_tell 121 = .ok (.iload 9, 2) := dk_21 9 (dk_at dksX6_tell_5 6 rfl rfl)
theorem dX6_tell_123 : decode cX6_tell 123 = .ok (.ifCond .ne 7, 3) := dk_154 0 7 (dk_at dksX6_tell_5 8 rfl rfl)
theorem dX6_tell_126 : decode cX6_tell 126 = .ok (.iconst 1, 1) := dk_4 (dk_at dksX6_tell_5 11 rfl rfl)
theorem dX6_tell_127 : decode cX6_tell 127 = .ok (.goto 4, 3) := dk_167 0 4 (dk_at dksX6_tell_5 12 rfl rfl)
theorem dX6_tell_130 : decode cX6_tell 130 = .ok (.iconst 0, 1) := dk_3 (dk_at dksX6_tell_5 15 rfl rfl)
theorem dX6_tell_131 : decode cX6_tell 131 = .ok (.iadd, 1) := dk_96 (dk_at dksX6_tell_5 16 rfl rfl)
theorem dX6_tell_132 : decode cX6_tell 132 = .ok (.istore 7, 2) := dk_54 7 (dk_at dksX6_tell_5 17 rfl rfl)
theorem dX6_tell_134 : decode cX6_tell 134 = .ok (.iinc 8 1, 3) := dk_132 8 1 (dk_at dksX6_tell_5 19 rfl rfl)
theorem dX6_tell_137 : decode cX6_tell 137 = .ok (.goto (-88), 3) := dk_167 255 168 (dk_at dksX6_tell_6 0 rfl rfl)
theorem dX6_tell_140 : decode cX6_tell 140 = .ok (.iload 6, 2) := dk_21 6 (dk_at dksX6_tell_6 3 rfl rfl)
theorem dX6_tell_142 : decode cX6_tell 142 = .ok (.iload 7, 2) := dk_21 7 (dk_at dksX6_tell_6 5 rfl rfl)
theorem dX6_tell_144 : decode cX6_tell 144 = .ok (.if_icmp .le 8, 3) := dk_164 0 8 (dk_at dksX6_tell_6 7 rfl rfl)
theorem dX6_tell_147 : decode cX6_tell 147 = .ok (.iload 6, 2) := dk_21 6 (dk_at dksX6_tell_6 10 rfl rfl)
theorem dX6_tell_149 : decode cX6_tell 149 = .ok (.goto 5, 3) := dk_167 0 5 (dk_at dksX6_tell_6 12 rfl rfl)
theorem dX6_tell_152 : decode cX6_tell 152 = .ok (.iload 7, 2) := dk_21 7 (dk_at dksX6_tell_6 15 rfl rfl)
theorem dX6_tell_154 : decode cX6_tell 154 = .ok (.istore 8, 2) := dk_54 8 (dk_at dksX6_tell_6 17 rfl rfl)
theorem dX6_tell_156 : decode cX6_tell 156 = .ok (.iload 8, 2) := dk_21 8 (dk_at dksX6_tell_6 19 rfl rfl)
theorem dX6_tell_158 : decode cX6_tell 158 = .ok (.ifCond .le 20, 3) := dk_158 0 20 (dk_at dksX6_tell_6 21 rfl rfl)
theorem dX6_tell_161 : decode cX6_tell 161 = .ok (.iload 8, 2) := dk_21 8 (dk_at dksX6_tell_7 0 rfl rfl)
theorem dX6_tell_163 : decode cX6_tell 163 = .ok (.iload_n 3, 1) := dk_29 (dk_at dksX6_tell_7 2 rfl rfl)
theorem dX6_tell_164 : decode cX6_tell 164 = .ok (.if_icmp .ge 14, 3) := dk_162 0 14 (dk_at dksX6_tell_7 3 rfl rfl)
theorem dX6_tell_167 : decode cX6_tell 167 = .ok (.bipush 100, 2) := dk_16 100 (dk_at dksX6_tell_7 6 rfl rfl)
theorem dX6_tell_169 : decode cX6_tell 169 = .ok (.iload 4, 2) := dk_21 4 (dk_at dksX6_tell_7 8 rfl rfl)
theorem dX6_tell_171 : decode cX6_tell 171 = .ok (.imul, 1) := dk_104 (dk_at dksX6_tell_7 10 rfl rfl)
theorem dX6_tell_172 : decode cX6_tell 172 = .ok (.iload 5, 2) := dk_21 5 (dk_at dksX6_tell_7 11 rfl rfl)
theorem dX6_tell_174 : decode cX6_tell 174 = .ok (.iadd, 1) := dk_96 (dk_at dksX6_tell_7 13 rfl rfl)
theorem dX6_tell_175 : decode cX6_tell 175 = .ok (.goto 4, 3) := dk_167 0 4 (dk_at dksX6_tell_7 14 rfl rfl)
theorem dX6_tell_178 : decode cX6_tell 178 = .ok (.iload_n 2, 1) := dk_28 (dk_at dksX6_tell_7 17 rfl rfl)
theorem dX6_tell_179 : decode cX6_tell 179 = .ok (.istore_n 2, 1) := dk_61 (dk_at dksX6_tell_7 18 rfl rfl)
theorem dX6_tell_180 : decode cX6_tell 180 = .ok (.iload 8, 2) := dk_21 8 (dk_at dksX6_tell_7 19 rfl rfl)
theorem dX6_tell_182 : decode cX6_tell 182 = .ok (.ifCond .le 14, 3) := dk_158 0 14 (dk_at dksX6_tell_7 21 rfl rfl)
theorem dX6_tell_185 : decode cX6_tell 185 = .ok (.iload 8, 2) := dk_21 8 (dk_at dksX6_tell_8 0 rfl rfl)
theorem dX6_tell_187 : decode cX6_tell 187 = .ok (.iload_n 3, 1) := dk_29 (dk_at dksX6_tell_8 2 rfl rfl)
theorem dX6_tell_188 : decode cX6_tell 188 = .ok (.if_icmp .ge 8, 3) := dk_162 0 8 (dk_at dksX6_tell_8 3 rfl rfl)
theorem dX6_tell_191 : decode cX6_tell 191 = .ok (.iload 8, 2) := dk_21 8 (dk_at dksX6_tell_8 6 rfl rfl)
theorem dX6_tell_193 : decode cX6_tell 193 = .ok (.goto 4, 3) := dk_167 0 4 (dk_at dksX6_tell_8 8 rfl rfl)
theorem dX6_tell_196 : decode cX6_tell 196 = .ok (.iload_n 3, 1) := dk_29 (dk_at dksX6_tell_8 11 rfl rfl)
theorem dX6_tell_197 : decode cX6_tell 197 = .ok (.istore_n 3, 1) := dk_62 (dk_at dksX6_tell_8 12 rfl rfl)
theorem dX6_tell_198 : decode cX6_tell 198 = .ok (.iinc 5 1, 3) := dk_132 5 1 (dk_at dksX6_tell_8 13 rfl rfl)
theorem dX6_tell_201 : decode cX6_tell 201 = .ok (.goto (-168), 3) := dk_167 255 88 (dk_at dksX6_tell_8 16 rfl rfl)
theorem dX6_tell_204 : decode cX6_tell 204 = .ok (.iinc 4 1, 3) := dk_132 4 1 (dk_at dksX6_tell_8 19 rfl rfl)
theorem dX6_tell_207 : decode cX6_tell 207 = .ok (.goto (-184), 3) := dk_167 255 72 (dk_at dksX6_tell_9 0 rfl rfl)
theorem dX6_tell_210 : decode cX6_tell 210 = .ok (.iload_n 2, 1) := dk_28 (dk_at dksX6_tell_9 3 rfl rfl)
theorem dX6_tell_211 : decode cX6_tell 211 = .ok (.ireturn, 1) := dk_172 (dk_at dksX6_tell_9 4 rfl rfl)
abbrev cX6_note : ByteArray := prog_21_method_51_code
def yX6_note : MethodName := ⟨RX6, "note", "(IIII)I"⟩
def dkwX6_note_4 : List UInt8 := [180, 0, 7, 6, 46, 172]
abbrev dktX6_note_4 : List UInt8 := dkwX6_note_4 ++ []
def dkwX6_note_3 : List UInt8 := [46, 104, 96, 27, 28, 29, 21, 4, 182, 0, 156, 42, 180, 0, 7, 6, 92, 46, 4, 96, 79, 42]
abbrev dktX6_note_3 : List UInt8 := dkwX6_note_3 ++ dktX6_note_4
def dkwX6_note_2 : List UInt8 := [180, 0, 7, 6, 46, 16, 6, 160, 0, 8, 42, 182, 0, 77, 172, 42, 16, 56, 7, 42, 180, 0, 7, 6]
abbrev dktX6_note_2 : List UInt8 := dkwX6_note_2 ++ dktX6_note_3
def dkwX6_note_1 : List UInt8 := [153, 0, 16, 21, 4, 133, 9, 20, 0, 154, 184, 0, 59, 154, 0, 10, 42, 16, 254, 182, 0, 73, 172, 42]
abbrev dktX6_note_1 : List UInt8 := dkwX6_note_1 ++ dktX6_note_2
def dkwX6_note_0 : List UInt8 := [42, 27, 182, 0, 83, 153, 0, 35, 28, 184, 0, 132, 153, 0, 28, 29, 133, 9, 20, 0, 139, 184, 0, 59]
abbrev dktX6_note_0 : List UInt8 := dkwX6_note_0 ++ dktX6_note_1
theorem dksX6_note_0 : cX6_note.data.toList.drop 0 = dktX6_note_0 := by decide +kernel
theorem dksX6_note_1 : cX6_note.data.toList.drop 24 = dktX6_note_1 := dk_seg dksX6_note_0 24 rfl rfl
theorem dksX6_note_2 : cX6_note.data.toList.drop 48 = dktX6_note_2 := dk_seg dksX6_note_1 24 rfl rfl
theorem dksX6_note_3 : cX6_note.data.toList.drop 72 = dktX6_note_3 := dk_seg dksX6_note_2 24 rfl rfl
theorem dksX6_note_4 : cX6_note.data.toList.drop 94 = dktX6_note_4 := dk_seg dksX6_note_3 22 rfl rfl
theorem dX6_note_0 : decode cX6_note 0 = .ok (.aload_n 0, 1) := dk_42 (dk_at dksX6_note_0 0 rfl rfl)
theorem dX6_note_1 : decode cX6_note 1 = .ok (.iload_n 1, 1) := dk_27 (dk_at dksX6_note_0 1 rfl rfl)
theorem dX6_note_2 : decode cX6_note 2 = .ok (.invokevirtual 83, 3) := dk_182 0 83 (dk_at dksX6_note_0 2 rfl rfl)
theorem dX6_note_5 : decode cX6_note 5 = .ok (.ifCond .eq 35, 3) := dk_153 0 35 (dk_at dksX6_note_0 5 rfl rfl)
theorem dX6_note_8 : decode cX6_note 8 = .ok (.iload_n 2, 1) := dk_28 (dk_at dksX6_note_0 8 rfl rfl)
theorem dX6_note_9 : decode cX6_note 9 = .ok (.invokestatic 132, 3) := dk_184 0 132 (dk_at dksX6_note_0 9 rfl rfl)
theorem dX6_note_12 : decode cX6_note 12 = .ok (.ifCond .eq 28, 3) := dk_153 0 28 (dk_at dksX6_note_0 12 rfl rfl)
theorem dX6_note_15 : decode cX6_note 15 = .ok (.iload_n 3, 1) := dk_29 (dk_at dksX6_note_0 15 rfl rfl)
theorem dX6_note_16 : decode cX6_note 16 = .ok (.i2l, 1) := dk_133 (dk_at dksX6_note_0 16 rfl rfl)
theorem dX6_note_17 : decode cX6_note 17 = .ok (.lconst 0, 1) := dk_9 (dk_at dksX6_note_0 17 rfl rfl)
theorem dX6_note_18 : decode cX6_note 18 = .ok (.ldc2_w 139, 3) := dk_20 0 139 (dk_at dksX6_note_0 18 rfl rfl)
theorem dX6_note_21 : decode cX6_note 21 = .ok (.invokestatic 59, 3) := dk_184 0 59 (dk_at dksX6_note_0 21 rfl rfl)
theorem dX6_note_24 : decode cX6_note 24 = .ok (.ifCond .eq 16, 3) := dk_153 0 16 (dk_at dksX6_note_1 0 rfl rfl)
theorem dX6_note_27 : decode cX6_note 27 = .ok (.iload 4, 2) := dk_21 4 (dk_at dksX6_note_1 3 rfl rfl)
theorem dX6_note_29 : decode cX6_note 29 = .ok (.i2l, 1) := dk_133 (dk_at dksX6_note_1 5 rfl rfl)
theorem dX6_note_30 : decode cX6_note 30 = .ok (.lconst 0, 1) := dk_9 (dk_at dksX6_note_1 6 rfl rfl)
theorem dX6_note_31 : decode cX6_note 31 = .ok (.ldc2_w 154, 3) := dk_20 0 154 (dk_at dksX6_note_1 7 rfl rfl)
theorem dX6_note_34 : decode cX6_note 34 = .ok (.invokestatic 59, 3) := dk_184 0 59 (dk_at dksX6_note_1 10 rfl rfl)
theorem dX6_note_37 : decode cX6_note 37 = .ok (.ifCond .ne 10, 3) := dk_154 0 10 (dk_at dksX6_note_1 13 rfl rfl)
theorem dX6_note_40 : decode cX6_note 40 = .ok (.aload_n 0, 1) := dk_42 (dk_at dksX6_note_1 16 rfl rfl)
theorem dX6_note_41 : decode cX6_note 41 = .ok (.bipush (-2), 2) := dk_16 254 (dk_at dksX6_note_1 17 rfl rfl)
theorem dX6_note_43 : decode cX6_note 43 = .ok (.invokevirtual 73, 3) := dk_182 0 73 (dk_at dksX6_note_1 19 rfl rfl)
theorem dX6_note_46 : decode cX6_note 46 = .ok (.ireturn, 1) := dk_172 (dk_at dksX6_note_1 22 rfl rfl)
theorem dX6_note_47 : decode cX6_note 47 = .ok (.aload_n 0, 1) := dk_42 (dk_at dksX6_note_1 23 rfl rfl)
theorem dX6_note_48 : decode cX6_note 48 = .ok (.getfield 7, 3) := dk_180 0 7 (dk_at dksX6_note_2 0 rfl rfl)
theorem dX6_note_51 : decode cX6_note 51 = .ok (.iconst 3, 1) := dk_6 (dk_at dksX6_note_2 3 rfl rfl)
theorem dX6_note_52 : decode cX6_note 52 = .ok (.iaload, 1) := dk_46 (dk_at dksX6_note_2 4 rfl rfl)
theorem dX6_note_53 : decode cX6_note 53 = .ok (.bipush 6, 2) := dk_16 6 (dk_at dksX6_note_2 5 rfl rfl)
theorem dX6_note_55 : decode cX6_note 55 = .ok (.if_icmp .ne 8, 3) := dk_160 0 8 (dk_at dksX6_note_2 7 rfl rfl)
theorem dX6_note_58 : decode cX6_note 58 = .ok (.aload_n 0, 1) := dk_42 (dk_at dksX6_note_2 10 rfl rfl)
theorem dX6_note_59 : decode cX6_note 59 = .ok (.invokevirtual 77, 3) := dk_182 0 77 (dk_at dksX6_note_2 11 rfl rfl)
theorem dX6_note_62 : decode cX6_note 62 = .ok (.ireturn, 1) := dk_172 (dk_at dksX6_note_2 14 rfl rfl)
theorem dX6_note_63 : decode cX6_note 63 = .ok (.aload_n 0, 1) := dk_42 (dk_at dksX6_note_2 15 rfl rfl)
theorem dX6_note_64 : decode cX6_note 64 = .ok (.bipush 56, 2) := dk_16 56 (dk_at dksX6_note_2 16 rfl rfl)
theorem dX6_note_66 : decode cX6_note 66 = .ok (.iconst 4, 1) := dk_7 (dk_at dksX6_note_2 18 rfl rfl)
theorem dX6_note_67 : decode cX6_note 67 = .ok (.aload_n 0, 1) := dk_42 (dk_at dksX6_note_2 19 rfl rfl)
theorem dX6_note_68 : decode cX6_note 68 = .ok (.getfield 7, 3) := dk_180 0 7 (dk_at dksX6_note_2 20 rfl rfl)
theorem dX6_note_71 : decode cX6_note 71 = .ok (.iconst 3, 1) := dk_6 (dk_at dksX6_note_2 23 rfl rfl)
theorem dX6_note_72 : decode cX6_note 72 = .ok (.iaload, 1) := dk_46 (dk_at dksX6_note_3 0 rfl rfl)
theorem dX6_note_73 : decode cX6_note 73 = .ok (.imul, 1) := dk_104 (dk_at dksX6_note_3 1 rfl rfl)
theorem dX6_note_74 : decode cX6_note 74 = .ok (.iadd, 1) := dk_96 (dk_at dksX6_note_3 2 rfl rfl)
theorem dX6_note_75 : decode cX6_note 75 = .ok (.iload_n 1, 1) := dk_27 (dk_at dksX6_note_3 3 rfl rfl)
theorem dX6_note_76 : decode cX6_note 76 = .ok (.iload_n 2, 1) := dk_28 (dk_at dksX6_note_3 4 rfl rfl)
theorem dX6_note_77 : decode cX6_note 77 = .ok (.iload_n 3, 1) := dk_29 (dk_at dksX6_note_3 5 rfl rfl)
theorem dX6_note_78 : decode cX6_note 78 = .ok (.iload 4, 2) := dk_21 4 (dk_at dksX6_note_3 6 rfl rfl)
theorem dX6_note_80 : decode cX6_note 80 = .ok (.invokevirtual 156, 3) := dk_182 0 156 (dk_at dksX6_note_3 8 rfl rfl)
theorem dX6_note_83 : decode cX6_note 83 = .ok (.aload_n 0, 1) := dk_42 (dk_at dksX6_note_3 11 rfl rfl)
theorem dX6_note_84 : decode cX6_note 84 = .ok (.getfield 7, 3) := dk_180 0 7 (dk_at dksX6_note_3 12 rfl rfl)
theorem dX6_note_87 : decode cX6_note 87 = .ok (.iconst 3, 1) := dk_6 (dk_at dksX6_note_3 15 rfl rfl)
theorem dX6_note_88 : decode cX6_note 88 = .ok (.dup2, 1) := dk_92 (dk_at dksX6_note_3 16 rfl rfl)
theorem dX6_note_89 : decode cX6_note 89 = .ok (.iaload, 1) := dk_46 (dk_at dksX6_note_3 17 rfl rfl)
theorem dX6_note_90 : decode cX6_note 90 = .ok (.iconst 1, 1) := dk_4 (dk_at dksX6_note_3 18 rfl rfl)
theorem dX6_note_91 : decode cX6_note 91 = .ok (.iadd, 1) := dk_96 (dk_at dksX6_note_3 19 rfl rfl)
theorem dX6_note_92 : decode cX6_note 92 = .ok (.iastore, 1) := dk_79 (dk_at dksX6_note_3 20 rfl rfl)
theorem dX6_note_93 : decode cX6_note 93 = .ok (.aload_n 0, 1) := dk_42 (dk_at dksX6_note_3 21 rfl rfl)
theorem dX6_note_94 : decode cX6_note 94 = .ok (.getfield 7, 3) := dk_180 0 7 (dk_at dksX6_note_4 0 rfl rfl)
theorem dX6_note_97 : decode cX6_note 97 = .ok (.iconst 3, 1) := dk_6 (dk_at dksX6_note_4 3 rfl rfl)
theorem dX6_note_98 : decode cX6_note 98 = .ok (.iaload, 1) := dk_46 (dk_at dksX6_note_4 4 rfl rfl)
theorem dX6_note_99 : decode cX6_note 99 = .ok (.ireturn, 1) := dk_172 (dk_at dksX6_note_4 5 rfl rfl)
abbrev cX6_mark : ByteArray := prog_21_method_52_code
def yX6_mark : MethodName := ⟨RX6, "mark", "(IIII)I"⟩
def dkwX6_mark_4 : List UInt8 := [180, 0, 7, 7, 46, 172]
abbrev dktX6_mark_4 : List UInt8 := dkwX6_mark_4 ++ []
def dkwX6_mark_3 : List UInt8 := [46, 104, 96, 27, 28, 29, 21, 4, 182, 0, 156, 42, 180, 0, 7, 7, 92, 46, 4, 96, 79, 42]
abbrev dktX6_mark_3 : List UInt8 := dkwX6_mark_3 ++ dktX6_mark_4
def dkwX6_mark_2 : List UInt8 := [180, 0, 7, 7, 46, 16, 6, 160, 0, 8, 42, 182, 0, 77, 172, 42, 16, 80, 7, 42, 180, 0, 7, 7]
abbrev dktX6_mark_2 : List UInt8 := dkwX6_mark_2 ++ dktX6_mark_3
def dkwX6_mark_1 : List UInt8 := [153, 0, 16, 21, 4, 133, 9, 20, 0, 166, 184, 0, 59, 154, 0, 10, 42, 16, 254, 182, 0, 73, 172, 42]
abbrev dktX6_mark_1 : List UInt8 := dkwX6_mark_1 ++ dktX6_mark_2
def dkwX6_mark_0 : List UInt8 := [42, 27, 182, 0, 120, 153, 0, 35, 28, 184, 0, 80, 153, 0, 28, 29, 133, 9, 20, 0, 154, 184, 0, 59]
abbrev dktX6_mark_0 : List UInt8 := dkwX6_mark_0 ++ dktX6_mark_1
theorem dksX6_mark_0 : cX6_mark.data.toList.drop 0 = dktX6_mark_0 := by decide +kernel
theorem dksX6_mark_1 : cX6_mark.data.toList.drop 24 = dktX6_mark_1 := dk_seg dksX6_mark_0 24 rfl rfl
theorem dksX6_mark_2 : cX6_mark.data.toList.drop 48 = dktX6_mark_2 := dk_seg dksX6_mark_1 24 rfl rfl
theorem dksX6_mark_3 : cX6_mark.data.toList.drop 72 = dktX6_mark_3 := dk_seg dksX6_mark_2 24 rfl rfl
theorem dksX6_mark_4 : cX6_mark.data.toList.drop 94 = dktX6_mark_4 := dk_seg dksX6_mark_3 22 rfl rfl
theorem dX6_mark_0 : decode cX6_mark 0 = .ok (.aload_n 0, 1) := dk_42 (dk_at dksX6_mark_0 0 rfl rfl)
theorem dX6_mark_1 : decode cX6_mark 1 = .ok (.iload_n 1, 1) := dk_27 (dk_at dksX6_mark_0 1 rfl rfl)
theorem dX6_mark_2 : decode cX6_mark 2 = .ok (.invokevirtual 120, 3) := dk_182 0 120 (dk_at dksX6_mark_0 2 rfl rfl)
theorem dX6_mark_5 : decode cX6_mark 5 = .ok (.ifCond .eq 35, 3) := dk_153 0 35 (dk_at dksX6_mark_0 5 rfl rfl)
theorem dX6_mark_8 : decode cX6_mark 8 = .ok (.iload_n 2, 1) := dk_28 (dk_at dksX6_mark_0 8 rfl rfl)
theorem dX6_mark_9 : decode cX6_mark 9 = .ok (.invokestatic 80, 3) := dk_184 0 80 (dk_at dksX6_mark_0 9 rfl rfl)
theorem dX6_mark_12 : decode cX6_mark 12 = .ok (.ifCond .eq 28, 3) := dk_153 0 28 (dk_at dksX6_mark_0 12 rfl rfl)
theorem dX6_mark_15 : decode cX6_mark 15 = .ok (.iload_n 3, 1) := dk_29 (dk_at dksX6_mark_0 15 rfl rfl)
theorem dX6_mark_16 : decode cX6_mark 16 = .ok (.i2l, 1) := dk_133 (dk_at dksX6_mark_0 16 rfl rfl)
theorem dX6_mark_17 : decode cX6_mark 17 = .ok (.lconst 0, 1) := dk_9 (dk_at dksX6_mark_0 17 rfl rfl)
theorem dX6_mark_18 : decode cX6_mark 18 = .ok (.ldc2_w 154, 3) := dk_20 0 154 (dk_at dksX6_mark_0 18 rfl rfl)
theorem dX6_mark_21 : decode cX6_mark 21 = .ok (.invokestatic 59, 3) := dk_184 0 59 (dk_at dksX6_mark_0 21 rfl rfl)
theorem dX6_mark_24 : decode cX6_mark 24 = .ok (.ifCond .eq 16, 3) := dk_153 0 16 (dk_at dksX6_mark_1 0 rfl rfl)
theorem dX6_mark_27 : decode cX6_mark 27 = .ok (.iload 4, 2) := dk_21 4 (dk_at dksX6_mark_1 3 rfl rfl)
theorem dX6_mark_29 : decode cX6_mark 29 = .ok (.i2l, 1) := dk_133 (dk_at dksX6_mark_1 5 rfl rfl)
theorem dX6_mark_30 : decode cX6_mark 30 = .ok (.lconst 0, 1) := dk_9 (dk_at dksX6_mark_1 6 rfl rfl)
theorem dX6_mark_31 : decode cX6_mark 31 = .ok (.ldc2_w 166, 3) := dk_20 0 166 (dk_at dksX6_mark_1 7 rfl rfl)
theorem dX6_mark_34 : decode cX6_mark 34 = .ok (.invokestatic 59, 3) := dk_184 0 59 (dk_at dksX6_mark_1 10 rfl rfl)
theorem dX6_mark_37 : decode cX6_mark 37 = .ok (.ifCond .ne 10, 3) := dk_154 0 10 (dk_at dksX6_mark_1 13 rfl rfl)
theorem dX6_mark_40 : decode cX6_mark 40 = .ok (.aload_n 0, 1) := dk_42 (dk_at dksX6_mark_1 16 rfl rfl)
theorem dX6_mark_41 : decode cX6_mark 41 = .ok (.bipush (-2), 2) := dk_16 254 (dk_at dksX6_mark_1 17 rfl rfl)
theorem dX6_mark_43 : decode cX6_mark 43 = .ok (.invokevirtual 73, 3) := dk_182 0 73 (dk_at dksX6_mark_1 19 rfl rfl)
theorem dX6_mark_46 : decode cX6_mark 46 = .ok (.ireturn, 1) := dk_172 (dk_at dksX6_mark_1 22 rfl rfl)
theorem dX6_mark_47 : decode cX6_mark 47 = .ok (.aload_n 0, 1) := dk_42 (dk_at dksX6_mark_1 23 rfl rfl)
theorem dX6_mark_48 : decode cX6_mark 48 = .ok (.getfield 7, 3) := dk_180 0 7 (dk_at dksX6_mark_2 0 rfl rfl)
theorem dX6_mark_51 : decode cX6_mark 51 = .ok (.iconst 4, 1) := dk_7 (dk_at dksX6_mark_2 3 rfl rfl)
theorem dX6_mark_52 : decode cX6_mark 52 = .ok (.iaload, 1) := dk_46 (dk_at dksX6_mark_2 4 rfl rfl)
theorem dX6_mark_53 : decode cX6_mark 53 = .ok (.bipush 6, 2) := dk_16 6 (dk_at dksX6_mark_2 5 rfl rfl)
theorem dX6_mark_55 : decode cX6_mark 55 = .ok (.if_icmp .ne 8, 3) := dk_160 0 8 (dk_at dksX6_mark_2 7 rfl rfl)
theorem dX6_mark_58 : decode cX6_mark 58 = .ok (.aload_n 0, 1) := dk_42 (dk_at dksX6_mark_2 10 rfl rfl)
theorem dX6_mark_59 : decode cX6_mark 59 = .ok (.invokevirtual 77, 3) := dk_182 0 77 (dk_at dksX6_mark_2 11 rfl rfl)
theorem dX6_mark_62 : decode cX6_mark 62 = .ok (.ireturn, 1) := dk_172 (dk_at dksX6_mark_2 14 rfl rfl)
theorem dX6_mark_63 : decode cX6_mark 63 = .ok (.aload_n 0, 1) := dk_42 (dk_at dksX6_mark_2 15 rfl rfl)
theorem dX6_mark_64 : decode cX6_mark 64 = .ok (.bipush 80, 2) := dk_16 80 (dk_at dksX6_mark_2 16 rfl rfl)
theorem dX6_mark_66 : decode cX6_mark 66 = .ok (.iconst 4, 1) := dk_7 (dk_at dksX6_mark_2 18 rfl rfl)
theorem dX6_mark_67 : decode cX6_mark 67 = .ok (.aload_n 0, 1) := dk_42 (dk_at dksX6_mark_2 19 rfl rfl)
theorem dX6_mark_68 : decode cX6_mark 68 = .ok (.getfield 7, 3) := dk_180 0 7 (dk_at dksX6_mark_2 20 rfl rfl)
theorem dX6_mark_71 : decode cX6_mark 71 = .ok (.iconst 4, 1) := dk_7 (dk_at dksX6_mark_2 23 rfl rfl)
theorem dX6_mark_72 : decode cX6_mark 72 = .ok (.iaload, 1) := dk_46 (dk_at dksX6_mark_3 0 rfl rfl)
theorem dX6_mark_73 : decode cX6_mark 73 = .ok (.imul, 1) := dk_104 (dk_at dksX6_mark_3 1 rfl rfl)
theorem dX6_mark_74 : decode cX6_mark 74 = .ok (.iadd, 1) := dk_96 (dk_at dksX6_mark_3 2 rfl rfl)
theorem dX6_mark_75 : decode cX6_mark 75 = .ok (.iload_n 1, 1) := dk_27 (dk_at dksX6_mark_3 3 rfl rfl)
theorem dX6_mark_76 : decode cX6_mark 76 = .ok (.iload_n 2, 1) := dk_28 (dk_at dksX6_mark_3 4 rfl rfl)
theorem dX6_mark_77 : decode cX6_mark 77 = .ok (.iload_n 3, 1) := dk_29 (dk_at dksX6_mark_3 5 rfl rfl)
theorem dX6_mark_78 : decode cX6_mark 78 = .ok (.iload 4, 2) := dk_21 4 (dk_at dksX6_mark_3 6 rfl rfl)
theorem dX6_mark_80 : decode cX6_mark 80 = .ok (.invokevirtual 156, 3) := dk_182 0 156 (dk_at dksX6_mark_3 8 rfl rfl)
theorem dX6_mark_83 : decode cX6_mark 83 = .ok (.aload_n 0, 1) := dk_42 (dk_at dksX6_mark_3 11 rfl rfl)
theorem dX6_mark_84 : decode cX6_mark 84 = .ok (.getfield 7, 3) := dk_180 0 7 (dk_at dksX6_mark_3 12 rfl rfl)
theorem dX6_mark_87 : decode cX6_mark 87 = .ok (.iconst 4, 1) := dk_7 (dk_at dksX6_mark_3 15 rfl rfl)
theorem dX6_mark_88 : decode cX6_mark 88 = .ok (.dup2, 1) := dk_92 (dk_at dksX6_mark_3 16 rfl rfl)
theorem dX6_mark_89 : decode cX6_mark 89 = .ok (.iaload, 1) := dk_46 (dk_at dksX6_mark_3 17 rfl rfl)
theorem dX6_mark_90 : decode cX6_mark 90 = .ok (.iconst 1, 1) := dk_4 (dk_at dksX6_mark_3 18 rfl rfl)
theorem dX6_mark_91 : decode cX6_mark 91 = .ok (.iadd, 1) := dk_96 (dk_at dksX6_mark_3 19 rfl rfl)
theorem dX6_mark_92 : decode cX6_mark 92 = .ok (.iastore, 1) := dk_79 (dk_at dksX6_mark_3 20 rfl rfl)
theorem dX6_mark_93 : decode cX6_mark 93 = .ok (.aload_n 0, 1) := dk_42 (dk_at dksX6_mark_3 21 rfl rfl)
theorem dX6_mark_94 : decode cX6_mark 94 = .ok (.getfield 7, 3) := dk_180 0 7 (dk_at dksX6_mark_4 0 rfl rfl)
theorem dX6_mark_97 : decode cX6_mark 97 = .ok (.iconst 4, 1) := dk_7 (dk_at dksX6_mark_4 3 rfl rfl)
theorem dX6_mark_98 : decode cX6_mark 98 = .ok (.iaload, 1) := dk_46 (dk_at dksX6_mark_4 4 rfl rfl)
theorem dX6_mark_99 : decode cX6_mark 99 = .ok (.ireturn, 1) := dk_172 (dk_at dksX6_mark_4 5 rfl rfl)
abbrev cX6_forget : ByteArray := prog_21_method_53_code
def yX6_forget : MethodName := ⟨RX6, "forget", "(I)I"⟩
def dkwX6_forget_1 : List UInt8 := [27, 96, 46, 61, 42, 180, 0, 7, 5, 27, 96, 3, 79, 28, 172]
abbrev dktX6_forget_1 : List UInt8 := dkwX6_forget_1 ++ []
def dkwX6_forget_0 : List UInt8 := [27, 133, 9, 20, 0, 160, 184, 0, 59, 154, 0, 10, 42, 16, 254, 182, 0, 73, 172, 42, 180, 0, 7, 5]
abbrev dktX6_forget_0 : List UInt8 := dkwX6_forget_0 ++ dktX6_forget_1
theorem dksX6_forget_0 : cX6_forget.data.toList.drop 0 = dktX6_forget_0 := by decide +kernel
theorem dksX6_forget_1 : cX6_forget.data.toList.drop 24 = dktX6_forget_1 := dk_seg dksX6_forget_0 24 rfl rfl
theorem dX6_forget_0 : decode cX6_forget 0 = .ok (.iload_n 1, 1) := dk_27 (dk_at dksX6_forget_0 0 rfl rfl)
theorem dX6_forget_1 : decode cX6_forget 1 = .ok (.i2l, 1) := dk_133 (dk_at dksX6_forget_0 1 rfl rfl)
theorem dX6_forget_2 : decode cX6_forget 2 = .ok (.lconst 0, 1) := dk_9 (dk_at dksX6_forget_0 2 rfl rfl)
theorem dX6_forget_3 : decode cX6_forget 3 = .ok (.ldc2_w 160, 3) := dk_20 0 160 (dk_at dksX6_forget_0 3 rfl rfl)
theorem dX6_forget_6 : decode cX6_forget 6 = .ok (.invokestatic 59, 3) := dk_184 0 59 (dk_at dksX6_forget_0 6 rfl rfl)
theorem dX6_forget_9 : decode cX6_forget 9 = .ok (.ifCond .ne 10, 3) := dk_154 0 10 (dk_at dksX6_forget_0 9 rfl rfl)
theorem dX6_forget_12 : decode cX6_forget 12 = .ok (.aload_n 0, 1) := dk_42 (dk_at dksX6_forget_0 12 rfl rfl)
theorem dX6_forget_13 : decode cX6_forget 13 = .ok (.bipush (-2), 2) := dk_16 254 (dk_at dksX6_forget_0 13 rfl rfl)
theorem dX6_forget_15 : decode cX6_forget 15 = .ok (.invokevirtual 73, 3) := dk_182 0 73 (dk_at dksX6_forget_0 15 rfl rfl)
theorem dX6_forget_18 : decode cX6_forget 18 = .ok (.ireturn, 1) := dk_172 (dk_at dksX6_forget_0 18 rfl rfl)
theorem dX6_forget_19 : decode cX6_forget 19 = .ok (.aload_n 0, 1) := dk_42 (dk_at dksX6_forget_0 19 rfl rfl)
theorem dX6_forget_20 : decode cX6_forget 20 = .ok (.getfield 7, 3) := dk_180 0 7 (dk_at dksX6_forget_0 20 rfl rfl)
theorem dX6_forget_23 : decode cX6_forget 23 = .ok (.iconst 2, 1) := dk_5 (dk_at dksX6_forget_0 23 rfl rfl)
theorem dX6_forget_24 : decode cX6_forget 24 = .ok (.iload_n 1, 1) := dk_27 (dk_at dksX6_forget_1 0 rfl rfl)
theorem dX6_forget_25 : decode cX6_forget 25 = .ok (.iadd, 1) := dk_96 (dk_at dksX6_forget_1 1 rfl rfl)
theorem dX6_forget_26 : decode cX6_forget 26 = .ok (.iaload, 1) := dk_46 (dk_at dksX6_forget_1 2 rfl rfl)
theorem dX6_forget_27 : decode cX6_forget 27 = .ok (.istore_n 2, 1) := dk_61 (dk_at dksX6_forget_1 3 rfl rfl)
theorem dX6_forget_28 : decode cX6_forget 28 = .ok (.aload_n 0, 1) := dk_42 (dk_at dksX6_forget_1 4 rfl rfl)
theorem dX6_forget_29 : decode cX6_forget 29 = .ok (.getfield 7, 3) := dk_180 0 7 (dk_at dksX6_forget_1 5 rfl rfl)
theorem dX6_forget_32 : decode cX6_forget 32 = .ok (.iconst 2, 1) := dk_5 (dk_at dksX6_forget_1 8 rfl rfl)
theorem dX6_forget_33 : decode cX6_forget 33 = .ok (.iload_n 1, 1) := dk_27 (dk_at dksX6_forget_1 9 rfl rfl)
theorem dX6_forget_34 : decode cX6_forget 34 = .ok (.iadd, 1) := dk_96 (dk_at dksX6_forget_1 10 rfl rfl)
theorem dX6_forget_35 : decode cX6_forget 35 = .ok (.iconst 0, 1) := dk_3 (dk_at dksX6_forget_1 11 rfl rfl)
theorem dX6_forget_36 : decode cX6_forget 36 = .ok (.iastore, 1) := dk_79 (dk_at dksX6_forget_1 12 rfl rfl)
theorem dX6_forget_37 : decode cX6_forget 37 = .ok (.iload_n 2, 1) := dk_28 (dk_at dksX6_forget_1 13 rfl rfl)
theorem dX6_forget_38 : decode cX6_forget 38 = .ok (.ireturn, 1) := dk_172 (dk_at dksX6_forget_1 14 rfl rfl)
abbrev cX6_is : ByteArray := prog_21_method_58_code
def yX6_is : MethodName := ⟨RX6, "is", "(I)I"⟩
def dkwX6_is_0 : List UInt8 := [42, 27, 182, 0, 83, 153, 0, 11, 42, 27, 182, 0, 175, 167, 0, 9, 42, 16, 254, 182, 0, 73, 172]
abbrev dktX6_is_0 : List UInt8 := dkwX6_is_0 ++ []
theorem dksX6_is_0 : cX6_is.data.toList.drop 0 = dktX6_is_0 := by decide +kernel
theorem dX6_is_0 : decode cX6_is 0 = .ok (.aload_n 0, 1) := dk_42 (dk_at dksX6_is_0 0 rfl rfl)
theorem dX6_is_1 : decode cX6_is 1 = .ok (.iload_n 1, 1) := dk_27 (dk_at dksX6_is_0 1 rfl rfl)
theorem dX6_is_2 : decode cX6_is 2 = .ok (.invokevirtual 83, 3) := dk_182 0 83 (dk_at dksX6_is_0 2 rfl rfl)
theorem dX6_is_5 : decode cX6_is 5 = .ok (.ifCond .eq 11, 3) := dk_153 0 11 (dk_at dksX6_is_0 5 rfl rfl)
theorem dX6_is_8 : decode cX6_is 8 = .ok (.aload_n 0, 1) := dk_42 (dk_at dksX6_is_0 8 rfl rfl)
theorem dX6_is_9 : decode cX6_is 9 = .ok (.iload_n 1, 1) := dk_27 (dk_at dksX6_is_0 9 rfl rfl)
theorem dX6_is_10 : decode cX6_is 10 = .ok (.invokevirtual 175, 3) := dk_182 0 175 (dk_at dksX6_is_0 10 rfl rfl)
theorem dX6_is_13 : decode cX6_is 13 = .ok (.goto 9, 3) := dk_167 0 9 (dk_at dksX6_is_0 13 rfl rfl)
theorem dX6_is_16 : decode cX6_is 16 = .ok (.aload_n 0, 1) := dk_42 (dk_at dksX6_is_0 16 rfl rfl)
theorem dX6_is_17 : decode cX6_is 17 = .ok (.bipush (-2), 2) := dk_16 254 (dk_at dksX6_is_0 17 rfl rfl)
theorem dX6_is_19 : decode cX6_is 19 = .ok (.invokevirtual 73, 3) := dk_182 0 73 (dk_at dksX6_is_0 19 rfl rfl)
theorem dX6_is_22 : decode cX6_is 22 = .ok (.ireturn, 1) := dk_172 (dk_at dksX6_is_0 22 rfl rfl)
abbrev cX6_kindsOfShip : ByteArray := prog_21_method_55_code
def yX6_kindsOfShip : MethodName := ⟨RX6, "kindsOfShip", "(I)I"⟩
def dkwX6_kindsOfShip_0 : List UInt8 := [42, 27, 16, 56, 42, 180, 0, 7, 6, 46, 4, 182, 0, 168, 172]
abbrev dktX6_kindsOfShip_0 : List UInt8 := dkwX6_kindsOfShip_0 ++ []
theorem dksX6_kindsOfShip_0 : cX6_kindsOfShip.data.toList.drop 0 = dktX6_kindsOfShip_0 := by decide +kernel
theorem dX6_kindsOfShip_0 : decode cX6_kindsOfShip 0 = .ok (.aload_n 0, 1) := dk_42 (dk_at dksX6_kindsOfShip_0 0 rfl rfl)
theorem dX6_kindsOfShip_1 : decode cX6_kindsOfShip 1 = .ok (.iload_n 1, 1) := dk_27 (dk_at dksX6_kindsOfShip_0 1 rfl rfl)
theorem dX6_kindsOfShip_2 : decode cX6_kindsOfShip 2 = .ok (.bipush 56, 2) := dk_16 56 (dk_at dksX6_kindsOfShip_0 2 rfl rfl)
theorem dX6_kindsOfShip_4 : decode cX6_kindsOfShip 4 = .ok (.aload_n 0, 1) := dk_42 (dk_at dksX6_kindsOfShip_0 4 rfl rfl)
theorem dX6_kindsOfShip_5 : decode cX6_kindsOfShip 5 = .ok (.getfield 7, 3) := dk_180 0 7 (dk_at dksX6_kindsOfShip_0 5 rfl rfl)
theorem dX6_kindsOfShip_8 : decode cX6_kindsOfShip 8 = .ok (.iconst 3, 1) := dk_6 (dk_at dksX6_kindsOfShip_0 8 rfl rfl)
theorem dX6_kindsOfShip_9 : decode cX6_kindsOfShip 9 = .ok (.iaload, 1) := dk_46 (dk_at dksX6_kindsOfShip_0 9 rfl rfl)
theorem dX6_kindsOfShip_10 : decode cX6_kindsOfShip 10 = .ok (.iconst 1, 1) := dk_4 (dk_at dksX6_kindsOfShip_0 10 rfl rfl)
theorem dX6_kindsOfShip_11 : decode cX6_kindsOfShip 11 = .ok (.invokevirtual 168, 3) := dk_182 0 168 (dk_at dksX6_kindsOfShip_0 11 rfl rfl)
theorem dX6_kindsOfShip_14 : decode cX6_kindsOfShip 14 = .ok (.ireturn, 1) := dk_172 (dk_at dksX6_kindsOfShip_0 14 rfl rfl)
abbrev cX6_kindsBy : ByteArray := prog_21_method_54_code
def yX6_kindsBy : MethodName := ⟨RX6, "kindsBy", "(IIIZ)I"⟩
def dkwX6_kindsBy_6 : List UInt8 := [21, 6, 120, 167, 0, 4, 3, 128, 54, 5, 132, 6, 1, 167, 255, 109, 21, 5, 172]
abbrev dktX6_kindsBy_6 : List UInt8 := dkwX6_kindsBy_6 ++ []
def dkwX6_kindsBy_5 : List UInt8 := [160, 0, 7, 4, 167, 0, 4, 3, 54, 7, 132, 8, 1, 167, 255, 146, 21, 5, 21, 7, 153, 0, 10, 4]
abbrev dktX6_kindsBy_5 : List UInt8 := dkwX6_kindsBy_5 ++ dktX6_kindsBy_6
def dkwX6_kindsBy_4 : List UInt8 := [42, 180, 0, 7, 21, 9, 46, 27, 160, 0, 17, 21, 10, 42, 180, 0, 7, 21, 9, 6, 96, 46]
abbrev dktX6_kindsBy_4 : List UInt8 := dkwX6_kindsBy_4 ++ dktX6_kindsBy_5
def dkwX6_kindsBy_3 : List UInt8 := [21, 9, 4, 96, 46, 42, 180, 0, 7, 21, 9, 5, 96, 46, 184, 0, 101, 54, 10, 21, 7, 153, 0, 32]
abbrev dktX6_kindsBy_3 : List UInt8 := dkwX6_kindsBy_3 ++ dktX6_kindsBy_4
def dkwX6_kindsBy_2 : List UInt8 := [4, 96, 46, 42, 180, 0, 7, 21, 9, 5, 96, 46, 184, 0, 97, 167, 0, 26, 21, 6, 42, 180, 0, 7]
abbrev dktX6_kindsBy_2 : List UInt8 := dkwX6_kindsBy_2 ++ dktX6_kindsBy_3
def dkwX6_kindsBy_1 : List UInt8 := [162, 0, 110, 28, 7, 21, 8, 104, 96, 54, 9, 21, 4, 153, 0, 29, 21, 6, 42, 180, 0, 7, 21, 9]
abbrev dktX6_kindsBy_1 : List UInt8 := dkwX6_kindsBy_1 ++ dktX6_kindsBy_2
def dkwX6_kindsBy_0 : List UInt8 := [3, 54, 5, 3, 54, 6, 21, 6, 16, 6, 162, 0, 146, 4, 54, 7, 3, 54, 8, 21, 8, 29]
abbrev dktX6_kindsBy_0 : List UInt8 := dkwX6_kindsBy_0 ++ dktX6_kindsBy_1
theorem dksX6_kindsBy_0 : cX6_kindsBy.data.toList.drop 0 = dktX6_kindsBy_0 := by decide +kernel
theorem dksX6_kindsBy_1 : cX6_kindsBy.data.toList.drop 22 = dktX6_kindsBy_1 := dk_seg dksX6_kindsBy_0 22 rfl rfl
theorem dksX6_kindsBy_2 : cX6_kindsBy.data.toList.drop 46 = dktX6_kindsBy_2 := dk_seg dksX6_kindsBy_1 24 rfl rfl
theorem dksX6_kindsBy_3 : cX6_kindsBy.data.toList.drop 70 = dktX6_kindsBy_3 := dk_seg dksX6_kindsBy_2 24 rfl rfl
theorem dksX6_kindsBy_4 : cX6_kindsBy.data.toList.drop 94 = dktX6_kindsBy_4 := dk_seg dksX6_kindsBy_3 24 rfl rfl
theorem dksX6_kindsBy_5 : cX6_kindsBy.data.toList.drop 116 = dktX6_kindsBy_5 := dk_seg dksX6_kindsBy_4 22 rfl rfl
theorem dksX6_kindsBy_6 : cX6_kindsBy.data.toList.drop 140 = dktX6_kindsBy_6 := dk_seg dksX6_kindsBy_5 24 rfl rfl
theorem dX6_kindsBy_0 : decode cX6_kindsBy 0 = .ok (.iconst 0, 1) := dk_3 (dk_at dksX6_kindsBy_0 0 rfl rfl)
theorem dX6_kindsBy_1 : decode cX6_kindsBy 1 = .ok (.istore 5, 2) := dk_54 5 (dk_at dksX6_kindsBy_0 1 rfl rfl)
theorem dX6_kindsBy_3 : decode cX6_kindsBy 3 = .ok (.iconst 0, 1) := dk_3 (dk_at dksX6_kindsBy_0 3 rfl rfl)
theorem dX6_kindsBy_4 : decode cX6_kindsBy 4 = .ok (.istore 6, 2) := dk_54 6 (dk_at dksX6_kindsBy_0 4 rfl rfl)
theorem dX6_kindsBy_6 : decode cX6_kindsBy 6 = .ok (.iload 6, 2) := dk_21 6 (dk_at dksX6_kindsBy_0 6 rfl rfl)
theorem dX6_kindsBy_8 : decode cX6_kindsBy 8 = .ok (.bipush 6, 2) := dk_16 6 (dk_at dksX6_kindsBy_0 8 rfl rfl)
theorem dX6_kindsBy_10 : decode cX6_kindsBy 10 = .ok (.if_icmp .ge 146, 3) := dk_162 0 146 (dk_at dksX6_kindsBy_0 10 rfl rfl)
theorem dX6_kindsBy_13 : decode cX6_kindsBy 13 = .ok (.iconst 1, 1) := dk_4 (dk_at dksX6_kindsBy_0 13 rfl rfl)
theorem dX6_kindsBy_14 : decode cX6_kindsBy 14 = .ok (.istore 7, 2) := dk_54 7 (dk_at dksX6_kindsBy_0 14 rfl rfl)
theorem dX6_kindsBy_16 : decode cX6_kindsBy 16 = .ok (.iconst 0, 1) := dk_3 (dk_at dksX6_kindsBy_0 16 rfl rfl)
theorem dX6_kindsBy_17 : decode cX6_kindsBy 17 = .ok (.istore 8, 2) := dk_54 8 (dk_at dksX6_kindsBy_0 17 rfl rfl)
theorem dX6_kindsBy_19 : decode cX6_kindsBy 19 = .ok (.iload 8, 2) := dk_21 8 (dk_at dksX6_kindsBy_0 19 rfl rfl)
theorem dX6_kindsBy_21 : decode cX6_kindsBy 21 = .ok (.iload_n 3, 1) := dk_29 (dk_at dksX6_kindsBy_0 21 rfl rfl)
theorem dX6_kindsBy_22 : decode cX6_kindsBy 22 = .ok (.if_icmp .ge 110, 3) := dk_162 0 110 (dk_at dksX6_kindsBy_1 0 rfl rfl)
theorem dX6_kindsBy_25 : decode cX6_kindsBy 25 = .ok (.iload_n 2, 1) := dk_28 (dk_at dksX6_kindsBy_1 3 rfl rfl)
theorem dX6_kindsBy_26 : decode cX6_kindsBy 26 = .ok (.iconst 4, 1) := dk_7 (dk_at dksX6_kindsBy_1 4 rfl rfl)
theorem dX6_kindsBy_27 : decode cX6_kindsBy 27 = .ok (.iload 8, 2) := dk_21 8 (dk_at dksX6_kindsBy_1 5 rfl rfl)
theorem dX6_kindsBy_29 : decode cX6_kindsBy 29 = .ok (.imul, 1) := dk_104 (dk_at dksX6_kindsBy_1 7 rfl rfl)
theorem dX6_kindsBy_30 : decode cX6_kindsBy 30 = .ok (.iadd, 1) := dk_96 (dk_at dksX6_kindsBy_1 8 rfl rfl)
theorem dX6_kindsBy_31 : decode cX6_kindsBy 31 = .ok (.istore 9, 2) := dk_54 9 (dk_at dksX6_kindsBy_1 9 rfl rfl)
theorem dX6_kindsBy_33 : decode cX6_kindsBy 33 = .ok (.iload 4, 2) := dk_21 4 (dk_at dksX6_kindsBy_1 11 rfl rfl)
theorem dX6_kindsBy_35 : decode cX6_kindsBy 35 = .ok (.ifCond .eq 29, 3) := dk_153 0 29 (dk_at dksX6_kindsBy_1 13 rfl rfl)
theorem dX6_kindsBy_38 : decode cX6_kindsBy 38 = .ok (.iload 6, 2) := dk_21 6 (dk_at dksX6_kindsBy_1 16 rfl rfl)
theorem dX6_kindsBy_40 : decode cX6_kindsBy 40 = .ok (.aload_n 0, 1) := dk_42 (dk_at dksX6_kindsBy_1 18 rfl rfl)
theorem dX6_kindsBy_41 : decode cX6_kindsBy 41 = .ok (.getfield 7, 3) := dk_180 0 7 (dk_at dksX6_kindsBy_1 19 rfl rfl)
theorem dX6_kindsBy_44 : decode cX6_kindsBy 44 = .ok (.iload 9, 2) := dk_21 9 (dk_at dksX6_kindsBy_1 22 rfl rfl)
theorem dX6_kindsBy_46 : decode cX6_kindsBy 46 = .ok (.iconst 1, 1) := dk_4 (dk_at dksX6_kindsBy_2 0 rfl rfl)
theorem dX6_kindsBy_47 : decode cX6_kindsBy 47 = .ok (.iadd, 1) := dk_96 (dk_at dksX6_kindsBy_2 1 rfl rfl)
theorem dX6_kindsBy_48 : decode cX6_kindsBy 48 = .ok (.iaload, 1) := dk_46 (dk_at dksX6_kindsBy_2 2 rfl rfl)
theorem dX6_kindsBy_49 : decode cX6_kindsBy 49 = .ok (.aload_n 0, 1) := dk_42 (dk_at dksX6_kindsBy_2 3 rfl rfl)
theorem dX6_kindsBy_50 : decode cX6_kindsBy 50 = .ok (.getfield 7, 3) := dk_180 0 7 (dk_at dksX6_kindsBy_2 4 rfl rfl)
theorem dX6_kindsBy_53 : decode cX6_kindsBy 53 = .ok (.iload 9, 2) := dk_21 9 (dk_at dksX6_kindsBy_2 7 rfl rfl)
theorem dX6_kindsBy_55 : decode cX6_kindsBy 55 = .ok (.iconst 2, 1) := dk_5 (dk_at dksX6_kindsBy_2 9 rfl rfl)
theorem dX6_kindsBy_56 : decode cX6_kindsBy 56 = .ok (.iadd, 1) := dk_96 (dk_at dksX6_kindsBy_2 10 rfl rfl)
theorem dX6_kindsBy_57 : decode cX6_kindsBy 57 = .ok (.iaload, 1) := dk_46 (dk_at dksX6_kindsBy_2 11 rfl rfl)
theorem dX6_kindsBy_58 : decode cX6_kindsBy 58 = .ok (.invokestatic 97, 3) := dk_184 0 97 (dk_at dksX6_kindsBy_2 12 rfl rfl)
theorem dX6_kindsBy_61 : decode cX6_kindsBy 61 = .ok (.goto 26, 3) := dk_167 0 26 (dk_at dksX6_kindsBy_2 15 rfl rfl)
theorem dX6_kindsBy_64 : decode cX6_kindsBy 64 = .ok (.iload 6, 2) := dk_21 6 (dk_at dksX6_kindsBy_2 18 rfl rfl)
theorem dX6_kindsBy_66 : decode cX6_kindsBy 66 = .ok (.aload_n 0, 1) := dk_42 (dk_at dksX6_kindsBy_2 20 rfl rfl)
theorem dX6_kindsBy_67 : decode cX6_kindsBy 67 = .ok (.getfield 7, 3) := dk_180 0 7 (dk_at dksX6_kindsBy_2 21 rfl rfl)
theorem dX6_kindsBy_70 : decode cX6_kindsBy 70 = .ok (.iload 9, 2) := dk_21 9 (dk_at dksX6_kindsBy_3 0 rfl rfl)
theorem dX6_kindsBy_72 : decode cX6_kindsBy 72 = .ok (.iconst 1, 1) := dk_4 (dk_at dksX6_kindsBy_3 2 rfl rfl)
theorem dX6_kindsBy_73 : decode cX6_kindsBy 73 = .ok (.iadd, 1) := dk_96 (dk_at dksX6_kindsBy_3 3 rfl rfl)
theorem dX6_kindsBy_74 : decode cX6_kindsBy 74 = .ok (.iaload, 1) := dk_46 (dk_at dksX6_kindsBy_3 4 rfl rfl)
theorem dX6_kindsBy_75 : decode cX6_kindsBy 75 = .ok (.aload_n 0, 1) := dk_42 (dk_at dksX6_kindsBy_3 5 rfl rfl)
theorem dX6_kindsBy_76 : decode cX6_kindsBy 76 = .ok (.getfield 7, 3) := dk_180 0 7 (dk_at dksX6_kindsBy_3 6 rfl rfl)
theorem dX6_kindsBy_79 : decode cX6_kindsBy 79 = .ok (.iload 9, 2) := dk_21 9 (dk_at dksX6_kindsBy_3 9 rfl rfl)
theorem dX6_kindsBy_81 : decode cX6_kindsBy 81 = .ok (.iconst 2, 1) := dk_5 (dk_at dksX6_kindsBy_3 11 rfl rfl)
theorem dX6_kindsBy_82 : decode cX6_kindsBy 82 = .ok (.iadd, 1) := dk_96 (dk_at dksX6_kindsBy_3 12 rfl rfl)
theorem dX6_kindsBy_83 : decode cX6_kindsBy 83 = .ok (.iaload, 1) := dk_46 (dk_at dksX6_kindsBy_3 13 rfl rfl)
theorem dX6_kindsBy_84 : decode cX6_kindsBy 84 = .ok (.invokestatic 101, 3) := dk_184 0 101 (dk_at dksX6_kindsBy_3 14 rfl rfl)
theorem dX6_kindsBy_87 : decode cX6_kindsBy 87 = .ok (.istore 10, 2) := dk_54 10 (dk_at dksX6_kindsBy_3 17 rfl rfl)
theorem dX6_kindsBy_89 : decode cX6_kindsBy 89 = .ok (.iload 7, 2) := dk_21 7 (dk_at dksX6_kindsBy_3 19 rfl rfl)
theorem dX6_kindsBy_91 : decode cX6_kindsBy 91 = .ok (.ifCond .eq 32, 3) := dk_153 0 32 (dk_at dksX6_kindsBy_3 21 rfl rfl)
theorem dX6_kindsBy_94 : decode cX6_kindsBy 94 = .ok (.aload_n 0, 1) := dk_42 (dk_at dksX6_kindsBy_4 0 rfl rfl)
theorem dX6_kindsBy_95 : decode cX6_kindsBy 95 = .ok (.getfield 7, 3) := dk_180 0 7 (dk_at dksX6_kindsBy_4 1 rfl rfl)
theorem dX6_kindsBy_98 : decode cX6_kindsBy 98 = .ok (.iload 9, 2) := dk_21 9 (dk_at dksX6_kindsBy_4 4 rfl rfl)
theorem dX6_kindsBy_100 : decode cX6_kindsBy 100 = .ok (.iaload, 1) := dk_46 (dk_at dksX6_kindsBy_4 6 rfl rfl)
theorem dX6_kindsBy_101 : decode cX6_kindsBy 101 = .ok (.iload_n 1, 1) := dk_27 (dk_at dksX6_kindsBy_4 7 rfl rfl)
theorem dX6_kindsBy_102 : decode cX6_kindsBy 102 = .ok (.if_icmp .ne 17, 3) := dk_160 0 17 (dk_at dksX6_kindsBy_4 8 rfl rfl)
theorem dX6_kindsBy_105 : decode cX6_kindsBy 105 = .ok (.iload 10, 2) := dk_21 10 (dk_at dksX6_kindsBy_4 11 rfl rfl)
theorem dX6_kindsBy_107 : decode cX6_kindsBy 107 = .ok (.aload_n 0, 1) := dk_42 (dk_at dksX6_kindsBy_4 13 rfl rfl)
theorem dX6_kindsBy_108 : decode cX6_kindsBy 108 = .ok (.getfield 7, 3) := dk_180 0 7 (dk_at dksX6_kindsBy_4 14 rfl rfl)
theorem dX6_kindsBy_111 : decode cX6_kindsBy 111 = .ok (.iload 9, 2) := dk_21 9 (dk_at dksX6_kindsBy_4 17 rfl rfl)
theorem dX6_kindsBy_113 : decode cX6_kindsBy 113 = .ok (.iconst 3, 1) := dk_6 (dk_at dksX6_kindsBy_4 19 rfl rfl)
theorem dX6_kindsBy_114 : decode cX6_kindsBy 114 = .ok (.iadd, 1) := dk_96 (dk_at dksX6_kindsBy_4 20 rfl rfl)
theorem dX6_kindsBy_115 : decode cX6_kindsBy 115 = .ok (.iaload, 1) := dk_46 (dk_at dksX6_kindsBy_4 21 rfl rfl)
theorem dX6_kindsBy_116 : decode cX6_kindsBy 116 = .ok (.if_icmp .ne 7, 3) := dk_160 0 7 (dk_at dksX6_kindsBy_5 0 rfl rfl)
theorem dX6_kindsBy_119 : decode cX6_kindsBy 119 = .ok (.iconst 1, 1) := dk_4 (dk_at dksX6_kindsBy_5 3 rfl rfl)
theorem dX6_kindsBy_120 : decode cX6_kindsBy 120 = .ok (.goto 4, 3) := dk_167 0 4 (dk_at dksX6_kindsBy_5 4 rfl rfl)
theorem dX6_kindsBy_123 : decode cX6_kindsBy 123 = .ok (.iconst 0, 1) := dk_3 (dk_at dksX6_kindsBy_5 7 rfl rfl)
theorem dX6_kindsBy_124 : decode cX6_kindsBy 124 = .ok (.istore 7, 2) := dk_54 7 (dk_at dksX6_kindsBy_5 8 rfl rfl)
theorem dX6_kindsBy_126 : decode cX6_kindsBy 126 = .ok (.iinc 8 1, 3) := dk_132 8 1 (dk_at dksX6_kindsBy_5 10 rfl rfl)
theorem dX6_kindsBy_129 : decode cX6_kindsBy 129 = .ok (.goto (-110), 3) := dk_167 255 146 (dk_at dksX6_kindsBy_5 13 rfl rfl)
theorem dX6_kindsBy_132 : decode cX6_kindsBy 132 = .ok (.iload 5, 2) := dk_21 5 (dk_at dksX6_kindsBy_5 16 rfl rfl)
theorem dX6_kindsBy_134 : decode cX6_kindsBy 134 = .ok (.iload 7, 2) := dk_21 7 (dk_at dksX6_kindsBy_5 18 rfl rfl)
theorem dX6_kindsBy_136 : decode cX6_kindsBy 136 = .ok (.ifCond .eq 10, 3) := dk_153 0 10 (dk_at dksX6_kindsBy_5 20 rfl rfl)
theorem dX6_kindsBy_139 : decode cX6_kindsBy 139 = .ok (.iconst 1, 1) := dk_4 (dk_at dksX6_kindsBy_5 23 rfl rfl)
theorem dX6_kindsBy_140 : decode cX6_kindsBy 140 = .ok (.iload 6, 2) := dk_21 6 (dk_at dksX6_kindsBy_6 0 rfl rfl)
theorem dX6_kindsBy_142 : decode cX6_kindsBy 142 = .ok (.ishl, 1) := dk_120 (dk_at dksX6_kindsBy_6 2 rfl rfl)
theorem dX6_kindsBy_143 : decode cX6_kindsBy 143 = .ok (.goto 4, 3) := dk_167 0 4 (dk_at dksX6_kindsBy_6 3 rfl rfl)
theorem dX6_kindsBy_146 : decode cX6_kindsBy 146 = .ok (.iconst 0, 1) := dk_3 (dk_at dksX6_kindsBy_6 6 rfl rfl)
theorem dX6_kindsBy_147 : decode cX6_kindsBy 147 = .ok (.ior, 1) := dk_128 (dk_at dksX6_kindsBy_6 7 rfl rfl)
theorem dX6_kindsBy_148 : decode cX6_kindsBy 148 = .ok (.istore 5, 2) := dk_54 5 (dk_at dksX6_kindsBy_6 8 rfl rfl)
theorem dX6_kindsBy_150 : decode cX6_kindsBy 150 = .ok (.iinc 6 1, 3) := dk_132 6 1 (dk_at dksX6_kindsBy_6 10 rfl rfl)
theorem dX6_kindsBy_153 : decode cX6_kindsBy 153 = .ok (.goto (-147), 3) := dk_167 255 109 (dk_at dksX6_kindsBy_6 13 rfl rfl)
theorem dX6_kindsBy_156 : decode cX6_kindsBy 156 = .ok (.iload 5, 2) := dk_21 5 (dk_at dksX6_kindsBy_6 16 rfl rfl)
theorem dX6_kindsBy_158 : decode cX6_kindsBy 158 = .ok (.ireturn, 1) := dk_172 (dk_at dksX6_kindsBy_6 18 rfl rfl)
abbrev cX6_look : ByteArray := prog_21_method_59_code
def yX6_look : MethodName := ⟨RX6, "look", "(I)I"⟩
def dkwX6_look_6 : List UInt8 := [29, 172]
abbrev dktX6_look_6 : List UInt8 := dkwX6_look_6 ++ []
def dkwX6_look_5 : List UInt8 := [162, 0, 8, 21, 7, 167, 0, 5, 21, 4, 54, 4, 132, 6, 1, 167, 255, 171, 132, 5, 1, 167, 255, 151]
abbrev dktX6_look_5 : List UInt8 := dkwX6_look_5 ++ dktX6_look_6
def dkwX6_look_4 : List UInt8 := [21, 4, 162, 0, 14, 16, 10, 21, 5, 104, 21, 6, 96, 167, 0, 4, 29, 62, 21, 7, 21, 4]
abbrev dktX6_look_4 : List UInt8 := dkwX6_look_4 ++ dktX6_look_5
def dkwX6_look_3 : List UInt8 := [21, 5, 21, 6, 184, 0, 97, 79, 132, 7, 1, 167, 255, 230, 42, 28, 182, 0, 178, 54, 7, 21, 7]
abbrev dktX6_look_3 : List UInt8 := dkwX6_look_3 ++ dktX6_look_4
def dkwX6_look_2 : List UInt8 := [16, 9, 162, 0, 84, 3, 54, 7, 21, 7, 16, 6, 162, 0, 25, 42, 180, 0, 39, 21, 7, 21, 7]
abbrev dktX6_look_2 : List UInt8 := dkwX6_look_2 ++ dktX6_look_3
def dkwX6_look_1 : List UInt8 := [18, 146, 54, 4, 4, 54, 5, 21, 5, 16, 30, 163, 0, 104, 28, 158, 0, 100, 3, 54, 6, 21, 6]
abbrev dktX6_look_1 : List UInt8 := dkwX6_look_1 ++ dktX6_look_2
def dkwX6_look_0 : List UInt8 := [42, 27, 182, 0, 83, 154, 0, 10, 42, 16, 254, 182, 0, 73, 172, 42, 27, 182, 0, 175, 61, 2, 62]
abbrev dktX6_look_0 : List UInt8 := dkwX6_look_0 ++ dktX6_look_1
theorem dksX6_look_0 : cX6_look.data.toList.drop 0 = dktX6_look_0 := by decide +kernel
theorem dksX6_look_1 : cX6_look.data.toList.drop 23 = dktX6_look_1 := dk_seg dksX6_look_0 23 rfl rfl
theorem dksX6_look_2 : cX6_look.data.toList.drop 46 = dktX6_look_2 := dk_seg dksX6_look_1 23 rfl rfl
theorem dksX6_look_3 : cX6_look.data.toList.drop 69 = dktX6_look_3 := dk_seg dksX6_look_2 23 rfl rfl
theorem dksX6_look_4 : cX6_look.data.toList.drop 92 = dktX6_look_4 := dk_seg dksX6_look_3 23 rfl rfl
theorem dksX6_look_5 : cX6_look.data.toList.drop 114 = dktX6_look_5 := dk_seg dksX6_look_4 22 rfl rfl
theorem dksX6_look_6 : cX6_look.data.toList.drop 138 = dktX6_look_6 := dk_seg dksX6_look_5 24 rfl rfl
theorem dX6_look_0 : decode cX6_look 0 = .ok (.aload_n 0, 1) := dk_42 (dk_at dksX6_look_0 0 rfl rfl)
theorem dX6_look_1 : decode cX6_look 1 = .ok (.iload_n 1, 1) := dk_27 (dk_at dksX6_look_0 1 rfl rfl)
theorem dX6_look_2 : decode cX6_look 2 = .ok (.invokevirtual 83, 3) := dk_182 0 83 (dk_at dksX6_look_0 2 rfl rfl)
theorem dX6_look_5 : decode cX6_look 5 = .ok (.ifCond .ne 10, 3) := dk_154 0 10 (dk_at dksX6_look_0 5 rfl rfl)
theorem dX6_look_8 : decode cX6_look 8 = .ok (.aload_n 0, 1) := dk_42 (dk_at dksX6_look_0 8 rfl rfl)
theorem dX6_look_9 : decode cX6_look 9 = .ok (.bipush (-2), 2) := dk_16 254 (dk_at dksX6_look_0 9 rfl rfl)
theorem dX6_look_11 : decode cX6_look 11 = .ok (.invokevirtual 73, 3) := dk_182 0 73 (dk_at dksX6_look_0 11 rfl rfl)
theorem dX6_look_14 : decode cX6_look 14 = .ok (.ireturn, 1) := dk_172 (dk_at dksX6_look_0 14 rfl rfl)
theorem dX6_look_15 : decode cX6_look 15 = .ok (.aload_n 0, 1) := dk_42 (dk_at dksX6_look_0 15 rfl rfl)
theorem dX6_look_16 : decode cX6_look 16 = .ok (.iload_n 1, 1) := dk_27 (dk_at dksX6_look_0 16 rfl rfl)
theorem dX6_look_17 : decode cX6_look 17 = .ok (.invokevirtual 175, 3) := dk_182 0 175 (dk_at dksX6_look_0 17 rfl rfl)
theorem dX6_look_20 : decode cX6_look 20 = .ok (.istore_n 2, 1) := dk_61 (dk_at dksX6_look_0 20 rfl rfl)
theorem dX6_look_21 : decode cX6_look 21 = .ok (.iconst (-1), 1) := dk_2 (dk_at dksX6_look_0 21 rfl rfl)
theorem dX6_look_22 : decode cX6_look 22 = .ok (.istore_n 3, 1) := dk_62 (dk_at dksX6_look_0 22 rfl rfl)
theorem dX6_look_23 : decode cX6_look 23 = .ok (.ldc 146, 2) := dk_18 146 (dk_at dksX6_look_1 0 rfl rfl)
theorem dX6_look_25 : decode cX6_look 25 = .ok (.istore 4, 2) := dk_54 4 (dk_at dksX6_look_1 2 rfl rfl)
theorem dX6_look_27 : decode cX6_look 27 = .ok (.iconst 1, 1) := dk_4 (dk_at dksX6_look_1 4 rfl rfl)
theorem dX6_look_28 : decode cX6_look 28 = .ok (.istore 5, 2) := dk_54 5 (dk_at dksX6_look_1 5 rfl rfl)
theorem dX6_look_30 : decode cX6_look 30 = .ok (.iload 5, 2) := dk_21 5 (dk_at dksX6_look_1 7 rfl rfl)
theorem dX6_look_32 : decode cX6_look 32 = .ok (.bipush 30, 2) := dk_16 30 (dk_at dksX6_look_1 9 rfl rfl)
theorem dX6_look_34 : decode cX6_look 34 = .ok (.if_icmp .gt 104, 3) := dk_163 0 104 (dk_at dksX6_look_1 11 rfl rfl)
theorem dX6_look_37 : decode cX6_look 37 = .ok (.iload_n 2, 1) := dk_28 (dk_at dksX6_look_1 14 rfl rfl)
theorem dX6_look_38 : decode cX6_look 38 = .ok (.ifCond .le 100, 3) := dk_158 0 100 (dk_at dksX6_look_1 15 rfl rfl)
theorem dX6_look_41 : decode cX6_look 41 = .ok (.iconst 0, 1) := dk_3 (dk_at dksX6_look_1 18 rfl rfl)
theorem dX6_look_42 : decode cX6_look 42 = .ok (.istore 6, 2) := dk_54 6 (dk_at dksX6_look_1 19 rfl rfl)
theorem dX6_look_44 : decode cX6_look 44 = .ok (.iload 6, 2) := dk_21 6 (dk_at dksX6_look_1 21 rfl rfl)
theorem dX6_look_46 : decode cX6_look 46 = .ok (.bipush 9, 2) := dk_16 9 (dk_at dksX6_look_2 0 rfl rfl)
theorem dX6_look_48 : decode cX6_look 48 = .ok (.if_icmp .ge 84, 3) := dk_162 0 84 (dk_at dksX6_look_2 2 rfl rfl)
theorem dX6_look_51 : decode cX6_look 51 = .ok (.iconst 0, 1) := dk_3 (dk_at dksX6_look_2 5 rfl rfl)
theorem dX6_look_52 : decode cX6_look 52 = .ok (.istore 7, 2) := dk_54 7 (dk_at dksX6_look_2 6 rfl rfl)
theorem dX6_look_54 : decode cX6_look 54 = .ok (.iload 7, 2) := dk_21 7 (dk_at dksX6_look_2 8 rfl rfl)
theorem dX6_look_56 : decode cX6_look 56 = .ok (.bipush 6, 2) := dk_16 6 (dk_at dksX6_look_2 10 rfl rfl)
theorem dX6_look_58 : decode cX6_look 58 = .ok (.if_icmp .ge 25, 3) := dk_162 0 25 (dk_at dksX6_look_2 12 rfl rfl)
theorem dX6_look_61 : decode cX6_look 61 = .ok (.aload_n 0, 1) := dk_42 (dk_at dksX6_look_2 15 rfl rfl)
theorem dX6_look_62 : decode cX6_look 62 = .ok (.getfield 39, 3) := dk_180 0 39 (dk_at dksX6_look_2 16 rfl rfl)
theorem dX6_look_65 : decode cX6_look 65 = .ok (.iload 7, 2) := dk_21 7 (dk_at dksX6_look_2 19 rfl rfl)
theorem dX6_look_67 : decode cX6_look 67 = .ok (.iload 7, 2) := dk_21 7 (dk_at dksX6_look_2 21 rfl rfl)
theorem dX6_look_69 : decode cX6_look 69 = .ok (.iload 5, 2) := dk_21 5 (dk_at dksX6_look_3 0 rfl rfl)
theorem dX6_look_71 : decode cX6_look 71 = .ok (.iload 6, 2) := dk_21 6 (dk_at dksX6_look_3 2 rfl rfl)
theorem dX6_look_73 : decode cX6_look 73 = .ok (.invokestatic 97, 3) := dk_184 0 97 (dk_at dksX6_look_3 4 rfl rfl)
theorem dX6_look_76 : decode cX6_look 76 = .ok (.iastore, 1) := dk_79 (dk_at dksX6_look_3 7 rfl rfl)
theorem dX6_look_77 : decode cX6_look 77 = .ok (.iinc 7 1, 3) := dk_132 7 1 (dk_at dksX6_look_3 8 rfl rfl)
theorem dX6_look_80 : decode cX6_look 80 = .ok (.goto (-26), 3) := dk_167 255 230 (dk_at dksX6_look_3 11 rfl rfl)
theorem dX6_look_83 : decode cX6_look 83 = .ok (.aload_n 0, 1) := dk_42 (dk_at dksX6_look_3 14 rfl rfl)
theorem dX6_look_84 : decode cX6_look 84 = .ok (.iload_n 2, 1) := dk_28 (dk_at dksX6_look_3 15 rfl rfl)
theorem dX6_look_85 : decode cX6_look 85 = .ok (.invokevirtual 178, 3) := dk_182 0 178 (dk_at dksX6_look_3 16 rfl rfl)
theorem dX6_look_88 : decode cX6_look 88 = .ok (.istore 7, 2) := dk_54 7 (dk_at dksX6_look_3 19 rfl rfl)
theorem dX6_look_90 : decode cX6_look 90 = .ok (.iload 7, 2) := dk_21 7 (dk_at dksX6_look_3 21 rfl rfl)
theorem dX6_look_92 : decode cX6_look 92 = .ok (.iload 4, 2) := dk_21 4 (dk_at dksX6_look_4 0 rfl rfl)
theorem dX6_look_94 : decode cX6_look 94 = .ok (.if_icmp .ge 14, 3) := dk_162 0 14 (dk_at dksX6_look_4 2 rfl rfl)
theorem dX6_look_97 : decode cX6_look 97 = .ok (.bipush 10, 2) := dk_16 10 (dk_at dksX6_look_4 5 rfl rfl)
theorem dX6_look_99 : decode cX6_look 99 = .ok (.iload 5, 2) := dk_21 5 (dk_at dksX6_look_4 7 rfl rfl)
theorem dX6_look_101 : decode cX6_look 101 = .ok (.imul, 1) := dk_104 (dk_at dksX6_look_4 9 rfl rfl)
theorem dX6_look_102 : decode cX6_look 102 = .ok (.iload 6, 2) := dk_21 6 (dk_at dksX6_look_4 10 rfl rfl)
theorem dX6_look_104 : decode cX6_look 104 = .ok (.iadd, 1) := dk_96 (dk_at dksX6_look_4 12 rfl rfl)
theorem dX6_look_105 : decode cX6_look 105 = .ok (.goto 4, 3) := dk_167 0 4 (dk_at dksX6_look_4 13 rfl rfl)
theorem dX6_look_108 : decode cX6_look 108 = .ok (.iload_n 3, 1) := dk_29 (dk_at dksX6_look_4 16 rfl rfl)
theorem dX6_look_109 : decode cX6_look 109 = .ok (.istore_n 3, 1) := dk_62 (dk_at dksX6_look_4 17 rfl rfl)
theorem dX6_look_110 : decode cX6_look 110 = .ok (.iload 7, 2) := dk_21 7 (dk_at dksX6_look_4 18 rfl rfl)
theorem dX6_look_112 : decode cX6_look 112 = .ok (.iload 4, 2) := dk_21 4 (dk_at dksX6_look_4 20 rfl rfl)
theorem dX6_look_114 : decode cX6_look 114 = .ok (.if_icmp .ge 8, 3) := dk_162 0 8 (dk_at dksX6_look_5 0 rfl rfl)
theorem dX6_look_117 : decode cX6_look 117 = .ok (.iload 7, 2) := dk_21 7 (dk_at dksX6_look_5 3 rfl rfl)
theorem dX6_look_119 : decode cX6_look 119 = .ok (.goto 5, 3) := dk_167 0 5 (dk_at dksX6_look_5 5 rfl rfl)
theorem dX6_look_122 : decode cX6_look 122 = .ok (.iload 4, 2) := dk_21 4 (dk_at dksX6_look_5 8 rfl rfl)
theorem dX6_look_124 : decode cX6_look 124 = .ok (.istore 4, 2) := dk_54 4 (dk_at dksX6_look_5 10 rfl rfl)
theorem dX6_look_126 : decode cX6_look 126 = .ok (.iinc 6 1, 3) := dk_132 6 1 (dk_at dksX6_look_5 12 rfl rfl)
theorem dX6_look_129 : decode cX6_look 129 = .ok (.goto (-85), 3) := dk_167 255 171 (dk_at dksX6_look_5 15 rfl rfl)
theorem dX6_look_132 : decode cX6_look 132 = .ok (.iinc 5 1, 3) := dk_132 5 1 (dk_at dksX6_look_5 18 rfl rfl)
theorem dX6_look_135 : decode cX6_look 135 = .ok (.goto (-105), 3) := dk_167 255 151 (dk_at dksX6_look_5 21 rfl rfl)
theorem dX6_look_138 : decode cX6_look 138 = .ok (.iload_n 3, 1) := dk_29 (dk_at dksX6_look_6 0 rfl rfl)
theorem dX6_look_139 : decode cX6_look 139 = .ok (.ireturn, 1) := dk_172 (dk_at dksX6_look_6 1 rfl rfl)
abbrev cX6_mostAlike : ByteArray := prog_21_method_57_code
def yX6_mostAlike : MethodName := ⟨RX6, "mostAlike", "(I)I"⟩
def dkwX6_mostAlike_3 : List UInt8 := [21, 4, 28, 164, 0, 8, 21, 4, 167, 0, 4, 28, 61, 132, 3, 1, 167, 255, 172, 28, 172]
abbrev dktX6_mostAlike_3 : List UInt8 := dkwX6_mostAlike_3 ++ []
def dkwX6_mostAlike_2 : List UInt8 := [42, 180, 0, 39, 21, 5, 46, 160, 0, 7, 4, 167, 0, 4, 3, 96, 54, 4, 132, 5, 1, 167, 255, 203]
abbrev dktX6_mostAlike_2 : List UInt8 := dkwX6_mostAlike_2 ++ dktX6_mostAlike_3
def dkwX6_mostAlike_1 : List UInt8 := [29, 184, 0, 172, 153, 0, 44, 21, 4, 27, 21, 5, 184, 0, 172, 153, 0, 23, 42, 180, 0, 39, 29, 46]
abbrev dktX6_mostAlike_1 : List UInt8 := dkwX6_mostAlike_1 ++ dktX6_mostAlike_2
def dkwX6_mostAlike_0 : List UInt8 := [3, 61, 3, 62, 29, 16, 6, 162, 0, 84, 3, 54, 4, 3, 54, 5, 21, 5, 16, 6, 162, 0, 52, 27]
abbrev dktX6_mostAlike_0 : List UInt8 := dkwX6_mostAlike_0 ++ dktX6_mostAlike_1
theorem dksX6_mostAlike_0 : cX6_mostAlike.data.toList.drop 0 = dktX6_mostAlike_0 := by decide +kernel
theorem dksX6_mostAlike_1 : cX6_mostAlike.data.toList.drop 24 = dktX6_mostAlike_1 := dk_seg dksX6_mostAlike_0 24 rfl rfl
theorem dksX6_mostAlike_2 : cX6_mostAlike.data.toList.drop 48 = dktX6_mostAlike_2 := dk_seg dksX6_mostAlike_1 24 rfl rfl
theorem dksX6_mostAlike_3 : cX6_mostAlike.data.toList.drop 72 = dktX6_mostAlike_3 := dk_seg dksX6_mostAlike_2 24 rfl rfl
theorem dX6_mostAlike_0 : decode cX6_mostAlike 0 = .ok (.iconst 0, 1) := dk_3 (dk_at dksX6_mostAlike_0 0 rfl rfl)
theorem dX6_mostAlike_1 : decode cX6_mostAlike 1 = .ok (.istore_n 2, 1) := dk_61 (dk_at dksX6_mostAlike_0 1 rfl rfl)
theorem dX6_mostAlike_2 : decode cX6_mostAlike 2 = .ok (.iconst 0, 1) := dk_3 (dk_at dksX6_mostAlike_0 2 rfl rfl)
theorem dX6_mostAlike_3 : decode cX6_mostAlike 3 = .ok (.istore_n 3, 1) := dk_62 (dk_at dksX6_mostAlike_0 3 rfl rfl)
theorem dX6_mostAlike_4 : decode cX6_mostAlike 4 = .ok (.iload_n 3, 1) := dk_29 (dk_at dksX6_mostAlike_0 4 rfl rfl)
theorem dX6_mostAlike_5 : decode cX6_mostAlike 5 = .ok (.bipush 6, 2) := dk_16 6 (dk_at dksX6_mostAlike_0 5 rfl rfl)
theorem dX6_mostAlike_7 : decode cX6_mostAlike 7 = .ok (.if_icmp .ge 84, 3) := dk_162 0 84 (dk_at dksX6_mostAlike_0 7 rfl rfl)
theorem dX6_mostAlike_10 : decode cX6_mostAlike 10 = .ok (.iconst 0, 1) := dk_3 (dk_at dksX6_mostAlike_0 10 rfl rfl)
theorem dX6_mostAlike_11 : decode cX6_mostAlike 11 = .ok (.istore 4, 2) := dk_54 4 (dk_at dksX6_mostAlike_0 11 rfl rfl)
theorem dX6_mostAlike_13 : decode cX6_mostAlike 13 = .ok (.iconst 0, 1) := dk_3 (dk_at dksX6_mostAlike_0 13 rfl rfl)
theorem dX6_mostAlike_14 : decode cX6_mostAlike 14 = .ok (.istore 5, 2) := dk_54 5 (dk_at dksX6_mostAlike_0 14 rfl rfl)
theorem dX6_mostAlike_16 : decode cX6_mostAlike 16 = .ok (.iload 5, 2) := dk_21 5 (dk_at dksX6_mostAlike_0 16 rfl rfl)
theorem dX6_mostAlike_18 : decode cX6_mostAlike 18 = .ok (.bipush 6, 2) := dk_16 6 (dk_at dksX6_mostAlike_0 18 rfl rfl)
theorem dX6_mostAlike_20 : decode cX6_mostAlike 20 = .ok (.if_icmp .ge 52, 3) := dk_162 0 52 (dk_at dksX6_mostAlike_0 20 rfl rfl)
theorem dX6_mostAlike_23 : decode cX6_mostAlike 23 = .ok (.iload_n 1, 1) := dk_27 (dk_at dksX6_mostAlike_0 23 rfl rfl)
theorem dX6_mostAlike_24 : decode cX6_mostAlike 24 = .ok (.iload_n 3, 1) := dk_29 (dk_at dksX6_mostAlike_1 0 rfl rfl)
theorem dX6_mostAlike_25 : decode cX6_mostAlike 25 = .ok (.invokestatic 172, 3) := dk_184 0 172 (dk_at dksX6_mostAlike_1 1 rfl rfl)
theorem dX6_mostAlike_28 : decode cX6_mostAlike 28 = .ok (.ifCond .eq 44, 3) := dk_153 0 44 (dk_at dksX6_mostAlike_1 4 rfl rfl)
theorem dX6_mostAlike_31 : decode cX6_mostAlike 31 = .ok (.iload 4, 2) := dk_21 4 (dk_at dksX6_mostAlike_1 7 rfl rfl)
theorem dX6_mostAlike_33 : decode cX6_mostAlike 33 = .ok (.iload_n 1, 1) := dk_27 (dk_at dksX6_mostAlike_1 9 rfl rfl)
theorem dX6_mostAlike_34 : decode cX6_mostAlike 34 = .ok (.iload 5, 2) := dk_21 5 (dk_at dksX6_mostAlike_1 10 rfl rfl)
theorem dX6_mostAlike_36 : decode cX6_mostAlike 36 = .ok (.invokestatic 172, 3) := dk_184 0 172 (dk_at dksX6_mostAlike_1 12 rfl rfl)
theorem dX6_mostAlike_39 : decode cX6_mostAlike 39 = .ok (.ifCond .eq 23, 3) := dk_153 0 23 (dk_at dksX6_mostAlike_1 15 rfl rfl)
theorem dX6_mostAlike_42 : decode cX6_mostAlike 42 = .ok (.aload_n 0, 1) := dk_42 (dk_at dksX6_mostAlike_1 18 rfl rfl)
theorem dX6_mostAlike_43 : decode cX6_mostAlike 43 = .ok (.getfield 39, 3) := dk_180 0 39 (dk_at dksX6_mostAlike_1 19 rfl rfl)
theorem dX6_mostAlike_46 : decode cX6_mostAlike 46 = .ok (.iload_n 3, 1) := dk_29 (dk_at dksX6_mostAlike_1 22 rfl rfl)
theorem dX6_mostAlike_47 : decode cX6_mostAlike 47 = .ok (.iaload, 1) := dk_46 (dk_at dksX6_mostAlike_1 23 rfl rfl)
theorem dX6_mostAlike_48 : decode cX6_mostAlike 48 = .ok (.aload_n 0, 1) := dk_42 (dk_at dksX6_mostAlike_2 0 rfl rfl)
theorem dX6_mostAlike_49 : decode cX6_mostAlike 49 = .ok (.getfield 39, 3) := dk_180 0 39 (dk_at dksX6_mostAlike_2 1 rfl rfl)
theorem dX6_mostAlike_52 : decode cX6_mostAlike 52 = .ok (.iload 5, 2) := dk_21 5 (dk_at dksX6_mostAlike_2 4 rfl rfl)
theorem dX6_mostAlike_54 : decode cX6_mostAlike 54 = .ok (.iaload, 1) := dk_46 (dk_at dksX6_mostAlike_2 6 rfl rfl)
theorem dX6_mostAlike_55 : decode cX6_mostAlike 55 = .ok (.if_icmp .ne 7, 3) := dk_160 0 7 (dk_at dksX6_mostAlike_2 7 rfl rfl)
theorem dX6_mostAlike_58 : decode cX6_mostAlike 58 = .ok (.iconst 1, 1) := dk_4 (dk_at dksX6_mostAlike_2 10 rfl rfl)
theorem dX6_mostAlike_59 : decode cX6_mostAlike 59 = .ok (.goto 4, 3) := dk_167 0 4 (dk_at dksX6_mostAlike_2 11 rfl rfl)
theorem dX6_mostAlike_62 : decode cX6_mostAlike 62 = .ok (.iconst 0, 1) := dk_3 (dk_at dksX6_mostAlike_2 14 rfl rfl)
theorem dX6_mostAlike_63 : decode cX6_mostAlike 63 = .ok (.iadd, 1) := dk_96 (dk_at dksX6_mostAlike_2 15 rfl rfl)
theorem dX6_mostAlike_64 : decode cX6_mostAlike 64 = .ok (.istore 4, 2) := dk_54 4 (dk_at dksX6_mostAlike_2 16 rfl rfl)
theorem dX6_mostAlike_66 : decode cX6_mostAlike 66 = .ok (.iinc 5 1, 3) := dk_132 5 1 (dk_at dksX6_mostAlike_2 18 rfl rfl)
theorem dX6_mostAlike_69 : decode cX6_mostAlike 69 = .ok (.goto (-53), 3) := dk_167 255 203 (dk_at dksX6_mostAlike_2 21 rfl rfl)
theorem dX6_mostAlike_72 : decode cX6_mostAlike 72 = .ok (.iload 4, 2) := dk_21 4 (dk_at dksX6_mostAlike_3 0 rfl rfl)
theorem dX6_mostAlike_74 : decode cX6_mostAlike 74 = .ok (.iload_n 2, 1) := dk_28 (dk_at dksX6_mostAlike_3 2 rfl rfl)
theorem dX6_mostAlike_75 : decode cX6_mostAlike 75 = .ok (.if_icmp .le 8, 3) := dk_164 0 8 (dk_at dksX6_mostAlike_3 3 rfl rfl)
theorem dX6_mostAlike_78 : decode cX6_mostAlike 78 = .ok (.iload 4, 2) := dk_21 4 (dk_at dksX6_mostAlike_3 6 rfl rfl)
theorem dX6_mostAlike_80 : decode cX6_mostAlike 80 = .ok (.goto 4, 3) := dk_167 0 4 (dk_at dksX6_mostAlike_3 8 rfl rfl)
theorem dX6_mostAlike_83 : decode cX6_mostAlike 83 = .ok (.iload_n 2, 1) := dk_28 (dk_at dksX6_mostAlike_3 11 rfl rfl)
theorem dX6_mostAlike_84 : decode cX6_mostAlike 84 = .ok (.istore_n 2, 1) := dk_61 (dk_at dksX6_mostAlike_3 12 rfl rfl)
theorem dX6_mostAlike_85 : decode cX6_mostAlike 85 = .ok (.iinc 3 1, 3) := dk_132 3 1 (dk_at dksX6_mostAlike_3 13 rfl rfl)
theorem dX6_mostAlike_88 : decode cX6_mostAlike 88 = .ok (.goto (-84), 3) := dk_167 255 172 (dk_at dksX6_mostAlike_3 16 rfl rfl)
theorem dX6_mostAlike_91 : decode cX6_mostAlike 91 = .ok (.iload_n 2, 1) := dk_28 (dk_at dksX6_mostAlike_3 19 rfl rfl)
theorem dX6_mostAlike_92 : decode cX6_mostAlike 92 = .ok (.ireturn, 1) := dk_172 (dk_at dksX6_mostAlike_3 20 rfl rfl)
abbrev cX6_has : ByteArray := prog_21_method_7_code
def yX6_has : MethodName := ⟨RX6, "has", "(II)Z"⟩
def dkwX6_has_0 : List UInt8 := [26, 27, 122, 4, 126, 4, 160, 0, 7, 4, 167, 0, 4, 3, 172]
abbrev dktX6_has_0 : List UInt8 := dkwX6_has_0 ++ []
theorem dksX6_has_0 : cX6_has.data.toList.drop 0 = dktX6_has_0 := by decide +kernel
theorem dX6_has_0 : decode cX6_has 0 = .ok (.iload_n 0, 1) := dk_26 (dk_at dksX6_has_0 0 rfl rfl)
theorem dX6_has_1 : decode cX6_has 1 = .ok (.iload_n 1, 1) := dk_27 (dk_at dksX6_has_0 1 rfl rfl)
theorem dX6_has_2 : decode cX6_has 2 = .ok (.ishr, 1) := dk_122 (dk_at dksX6_has_0 2 rfl rfl)
theorem dX6_has_3 : decode cX6_has 3 = .ok (.iconst 1, 1) := dk_4 (dk_at dksX6_has_0 3 rfl rfl)
theorem dX6_has_4 : decode cX6_has 4 = .ok (.iand, 1) := dk_126 (dk_at dksX6_has_0 4 rfl rfl)
theorem dX6_has_5 : decode cX6_has 5 = .ok (.iconst 1, 1) := dk_4 (dk_at dksX6_has_0 5 rfl rfl)
theorem dX6_has_6 : decode cX6_has 6 = .ok (.if_icmp .ne 7, 3) := dk_160 0 7 (dk_at dksX6_has_0 6 rfl rfl)
theorem dX6_has_9 : decode cX6_has 9 = .ok (.iconst 1, 1) := dk_4 (dk_at dksX6_has_0 9 rfl rfl)
theorem dX6_has_10 : decode cX6_has 10 = .ok (.goto 4, 3) := dk_167 0 4 (dk_at dksX6_has_0 10 rfl rfl)
theorem dX6_has_13 : decode cX6_has 13 = .ok (.iconst 0, 1) := dk_3 (dk_at dksX6_has_0 13 rfl rfl)
theorem dX6_has_14 : decode cX6_has 14 = .ok (.ireturn, 1) := dk_172 (dk_at dksX6_has_0 14 rfl rfl)
abbrev cX6_kinds : ByteArray := prog_21_method_60_code
def yX6_kinds : MethodName := ⟨RX6, "kinds", "(I)I"⟩
def dkwX6_kinds_0 : List UInt8 := [42, 27, 182, 0, 120, 153, 0, 11, 42, 27, 182, 0, 181, 167, 0, 9, 42, 16, 254, 182, 0, 73, 172]
abbrev dktX6_kinds_0 : List UInt8 := dkwX6_kinds_0 ++ []
theorem dksX6_kinds_0 : cX6_kinds.data.toList.drop 0 = dktX6_kinds_0 := by decide +kernel
theorem dX6_kinds_0 : decode cX6_kinds 0 = .ok (.aload_n 0, 1) := dk_42 (dk_at dksX6_kinds_0 0 rfl rfl)
theorem dX6_kinds_1 : decode cX6_kinds 1 = .ok (.iload_n 1, 1) := dk_27 (dk_at dksX6_kinds_0 1 rfl rfl)
theorem dX6_kinds_2 : decode cX6_kinds 2 = .ok (.invokevirtual 120, 3) := dk_182 0 120 (dk_at dksX6_kinds_0 2 rfl rfl)
theorem dX6_kinds_5 : decode cX6_kinds 5 = .ok (.ifCond .eq 11, 3) := dk_153 0 11 (dk_at dksX6_kinds_0 5 rfl rfl)
theorem dX6_kinds_8 : decode cX6_kinds 8 = .ok (.aload_n 0, 1) := dk_42 (dk_at dksX6_kinds_0 8 rfl rfl)
theorem dX6_kinds_9 : decode cX6_kinds 9 = .ok (.iload_n 1, 1) := dk_27 (dk_at dksX6_kinds_0 9 rfl rfl)
theorem dX6_kinds_10 : decode cX6_kinds 10 = .ok (.invokevirtual 181, 3) := dk_182 0 181 (dk_at dksX6_kinds_0 10 rfl rfl)
theorem dX6_kinds_13 : decode cX6_kinds 13 = .ok (.goto 9, 3) := dk_167 0 9 (dk_at dksX6_kinds_0 13 rfl rfl)
theorem dX6_kinds_16 : decode cX6_kinds 16 = .ok (.aload_n 0, 1) := dk_42 (dk_at dksX6_kinds_0 16 rfl rfl)
theorem dX6_kinds_17 : decode cX6_kinds 17 = .ok (.bipush (-2), 2) := dk_16 254 (dk_at dksX6_kinds_0 17 rfl rfl)
theorem dX6_kinds_19 : decode cX6_kinds 19 = .ok (.invokevirtual 73, 3) := dk_182 0 73 (dk_at dksX6_kinds_0 19 rfl rfl)
theorem dX6_kinds_22 : decode cX6_kinds 22 = .ok (.ireturn, 1) := dk_172 (dk_at dksX6_kinds_0 22 rfl rfl)
abbrev cX6_kindsOfMan : ByteArray := prog_21_method_56_code
def yX6_kindsOfMan : MethodName := ⟨RX6, "kindsOfMan", "(I)I"⟩
def dkwX6_kindsOfMan_0 : List UInt8 := [42, 27, 16, 80, 42, 180, 0, 7, 7, 46, 3, 182, 0, 168, 172]
abbrev dktX6_kindsOfMan_0 : List UInt8 := dkwX6_kindsOfMan_0 ++ []
theorem dksX6_kindsOfMan_0 : cX6_kindsOfMan.data.toList.drop 0 = dktX6_kindsOfMan_0 := by decide +kernel
theorem dX6_kindsOfMan_0 : decode cX6_kindsOfMan 0 = .ok (.aload_n 0, 1) := dk_42 (dk_at dksX6_kindsOfMan_0 0 rfl rfl)
theorem dX6_kindsOfMan_1 : decode cX6_kindsOfMan 1 = .ok (.iload_n 1, 1) := dk_27 (dk_at dksX6_kindsOfMan_0 1 rfl rfl)
theorem dX6_kindsOfMan_2 : decode cX6_kindsOfMan 2 = .ok (.bipush 80, 2) := dk_16 80 (dk_at dksX6_kindsOfMan_0 2 rfl rfl)
theorem dX6_kindsOfMan_4 : decode cX6_kindsOfMan 4 = .ok (.aload_n 0, 1) := dk_42 (dk_at dksX6_kindsOfMan_0 4 rfl rfl)
theorem dX6_kindsOfMan_5 : decode cX6_kindsOfMan 5 = .ok (.getfield 7, 3) := dk_180 0 7 (dk_at dksX6_kindsOfMan_0 5 rfl rfl)
theorem dX6_kindsOfMan_8 : decode cX6_kindsOfMan 8 = .ok (.iconst 4, 1) := dk_7 (dk_at dksX6_kindsOfMan_0 8 rfl rfl)
theorem dX6_kindsOfMan_9 : decode cX6_kindsOfMan 9 = .ok (.iaload, 1) := dk_46 (dk_at dksX6_kindsOfMan_0 9 rfl rfl)
theorem dX6_kindsOfMan_10 : decode cX6_kindsOfMan 10 = .ok (.iconst 0, 1) := dk_3 (dk_at dksX6_kindsOfMan_0 10 rfl rfl)
theorem dX6_kindsOfMan_11 : decode cX6_kindsOfMan 11 = .ok (.invokevirtual 168, 3) := dk_182 0 168 (dk_at dksX6_kindsOfMan_0 11 rfl rfl)
theorem dX6_kindsOfMan_14 : decode cX6_kindsOfMan 14 = .ok (.ireturn, 1) := dk_172 (dk_at dksX6_kindsOfMan_0 14 rfl rfl)
abbrev cX6_ask : ByteArray := prog_21_method_61_code
def yX6_ask : MethodName := ⟨RX6, "ask", "(I)I"⟩
def dkwX6_ask_5 : List UInt8 := [132, 5, 1, 167, 255, 166, 29, 172]
abbrev dktX6_ask_5 : List UInt8 := dkwX6_ask_5 ++ []
def dkwX6_ask_4 : List UInt8 := [21, 5, 167, 0, 4, 29, 62, 21, 6, 21, 4, 162, 0, 8, 21, 6, 167, 0, 5, 21, 4, 54, 4]
abbrev dktX6_ask_4 : List UInt8 := dkwX6_ask_4 ++ dktX6_ask_5
def dkwX6_ask_3 : List UInt8 := [184, 0, 101, 79, 132, 6, 1, 167, 255, 223, 42, 28, 182, 0, 178, 54, 6, 21, 6, 21, 4, 162, 0, 8]
abbrev dktX6_ask_3 : List UInt8 := dkwX6_ask_3 ++ dktX6_ask_4
def dkwX6_ask_2 : List UInt8 := [16, 6, 162, 0, 32, 42, 180, 0, 39, 21, 6, 21, 6, 42, 180, 0, 7, 16, 28, 27, 96, 46, 21, 5]
abbrev dktX6_ask_2 : List UInt8 := dkwX6_ask_2 ++ dktX6_ask_3
def dkwX6_ask_1 : List UInt8 := [18, 146, 54, 4, 3, 54, 5, 21, 5, 16, 10, 162, 0, 89, 28, 158, 0, 85, 3, 54, 6, 21, 6]
abbrev dktX6_ask_1 : List UInt8 := dkwX6_ask_1 ++ dktX6_ask_2
def dkwX6_ask_0 : List UInt8 := [42, 27, 182, 0, 120, 154, 0, 10, 42, 16, 254, 182, 0, 73, 172, 42, 27, 182, 0, 181, 61, 2, 62]
abbrev dktX6_ask_0 : List UInt8 := dkwX6_ask_0 ++ dktX6_ask_1
theorem dksX6_ask_0 : cX6_ask.data.toList.drop 0 = dktX6_ask_0 := by decide +kernel
theorem dksX6_ask_1 : cX6_ask.data.toList.drop 23 = dktX6_ask_1 := dk_seg dksX6_ask_0 23 rfl rfl
theorem dksX6_ask_2 : cX6_ask.data.toList.drop 46 = dktX6_ask_2 := dk_seg dksX6_ask_1 23 rfl rfl
theorem dksX6_ask_3 : cX6_ask.data.toList.drop 70 = dktX6_ask_3 := dk_seg dksX6_ask_2 24 rfl rfl
theorem dksX6_ask_4 : cX6_ask.data.toList.drop 94 = dktX6_ask_4 := dk_seg dksX6_ask_3 24 rfl rfl
theorem dksX6_ask_5 : cX6_ask.data.toList.drop 117 = dktX6_ask_5 := dk_seg dksX6_ask_4 23 rfl rfl
theorem dX6_ask_0 : decode cX6_ask 0 = .ok (.aload_n 0, 1) := dk_42 (dk_at dksX6_ask_0 0 rfl rfl)
theorem dX6_ask_1 : decode cX6_ask 1 = .ok (.iload_n 1, 1) := dk_27 (dk_at dksX6_ask_0 1 rfl rfl)
theorem dX6_ask_2 : decode cX6_ask 2 = .ok (.invokevirtual 120, 3) := dk_182 0 120 (dk_at dksX6_ask_0 2 rfl rfl)
theorem dX6_ask_5 : decode cX6_ask 5 = .ok (.ifCond .ne 10, 3) := dk_154 0 10 (dk_at dksX6_ask_0 5 rfl rfl)
theorem dX6_ask_8 : decode cX6_ask 8 = .ok (.aload_n 0, 1) := dk_42 (dk_at dksX6_ask_0 8 rfl rfl)
theorem dX6_ask_9 : decode cX6_ask 9 = .ok (.bipush (-2), 2) := dk_16 254 (dk_at dksX6_ask_0 9 rfl rfl)
theorem dX6_ask_11 : decode cX6_ask 11 = .ok (.invokevirtual 73, 3) := dk_182 0 73 (dk_at dksX6_ask_0 11 rfl rfl)
theorem dX6_ask_14 : decode cX6_ask 14 = .ok (.ireturn, 1) := dk_172 (dk_at dksX6_ask_0 14 rfl rfl)
theorem dX6_ask_15 : decode cX6_ask 15 = .ok (.aload_n 0, 1) := dk_42 (dk_at dksX6_ask_0 15 rfl rfl)
theorem dX6_ask_16 : decode cX6_ask 16 = .ok (.iload_n 1, 1) := dk_27 (dk_at dksX6_ask_0 16 rfl rfl)
theorem dX6_ask_17 : decode cX6_ask 17 = .ok (.invokevirtual 181, 3) := dk_182 0 181 (dk_at dksX6_ask_0 17 rfl rfl)
theorem dX6_ask_20 : decode cX6_ask 20 = .ok (.istore_n 2, 1) := dk_61 (dk_at dksX6_ask_0 20 rfl rfl)
theorem dX6_ask_21 : decode cX6_ask 21 = .ok (.iconst (-1), 1) := dk_2 (dk_at dksX6_ask_0 21 rfl rfl)
theorem dX6_ask_22 : decode cX6_ask 22 = .ok (.istore_n 3, 1) := dk_62 (dk_at dksX6_ask_0 22 rfl rfl)
theorem dX6_ask_23 : decode cX6_ask 23 = .ok (.ldc 146, 2) := dk_18 146 (dk_at dksX6_ask_1 0 rfl rfl)
theorem dX6_ask_25 : decode cX6_ask 25 = .ok (.istore 4, 2) := dk_54 4 (dk_at dksX6_ask_1 2 rfl rfl)
theorem dX6_ask_27 : decode cX6_ask 27 = .ok (.iconst 0, 1) := dk_3 (dk_at dksX6_ask_1 4 rfl rfl)
theorem dX6_ask_28 : decode cX6_ask 28 = .ok (.istore 5, 2) := dk_54 5 (dk_at dksX6_ask_1 5 rfl rfl)
theorem dX6_ask_30 : decode cX6_ask 30 = .ok (.iload 5, 2) := dk_21 5 (dk_at dksX6_ask_1 7 rfl rfl)
theorem dX6_ask_32 : decode cX6_ask 32 = .ok (.bipush 10, 2) := dk_16 10 (dk_at dksX6_ask_1 9 rfl rfl)
theorem dX6_ask_34 : decode cX6_ask 34 = .ok (.if_icmp .ge 89, 3) := dk_162 0 89 (dk_at dksX6_ask_1 11 rfl rfl)
theorem dX6_ask_37 : decode cX6_ask 37 = .ok (.iload_n 2, 1) := dk_28 (dk_at dksX6_ask_1 14 rfl rfl)
theorem dX6_ask_38 : decode cX6_ask 38 = .ok (.ifCond .le 85, 3) := dk_158 0 85 (dk_at dksX6_ask_1 15 rfl rfl)
theorem dX6_ask_41 : decode cX6_ask 41 = .ok (.iconst 0, 1) := dk_3 (dk_at dksX6_ask_1 18 rfl rfl)
theorem dX6_ask_42 : decode cX6_ask 42 = .ok (.istore 6, 2) := dk_54 6 (dk_at dksX6_ask_1 19 rfl rfl)
theorem dX6_ask_44 : decode cX6_ask 44 = .ok (.iload 6, 2) := dk_21 6 (dk_at dksX6_ask_1 21 rfl rfl)
theorem dX6_ask_46 : decode cX6_ask 46 = .ok (.bipush 6, 2) := dk_16 6 (dk_at dksX6_ask_2 0 rfl rfl)
theorem dX6_ask_48 : decode cX6_ask 48 = .ok (.if_icmp .ge 32, 3) := dk_162 0 32 (dk_at dksX6_ask_2 2 rfl rfl)
theorem dX6_ask_51 : decode cX6_ask 51 = .ok (.aload_n 0, 1) := dk_42 (dk_at dksX6_ask_2 5 rfl rfl)
theorem dX6_ask_52 : decode cX6_ask 52 = .ok (.getfield 39, 3) := dk_180 0 39 (dk_at dksX6_ask_2 6 rfl rfl)
theorem dX6_ask_55 : decode cX6_ask 55 = .ok (.iload 6, 2) := dk_21 6 (dk_at dksX6_ask_2 9 rfl rfl)
theorem dX6_ask_57 : decode cX6_ask 57 = .ok (.iload 6, 2) := dk_21 6 (dk_at dksX6_ask_2 11 rfl rfl)
theorem dX6_ask_59 : decode cX6_ask 59 = .ok (.aload_n 0, 1) := dk_42 (dk_at dksX6_ask_2 13 rfl rfl)
theorem dX6_ask_60 : decode cX6_ask 60 = .ok (.getfield 7, 3) := dk_180 0 7 (dk_at dksX6_ask_2 14 rfl rfl)
theorem dX6_ask_63 : decode cX6_ask 63 = .ok (.bipush 28, 2) := dk_16 28 (dk_at dksX6_ask_2 17 rfl rfl)
theorem dX6_ask_65 : decode cX6_ask 65 = .ok (.iload_n 1, 1) := dk_27 (dk_at dksX6_ask_2 19 rfl rfl)
theorem dX6_ask_66 : decode cX6_ask 66 = .ok (.iadd, 1) := dk_96 (dk_at dksX6_ask_2 20 rfl rfl)
theorem dX6_ask_67 : decode cX6_ask 67 = .ok (.iaload, 1) := dk_46 (dk_at dksX6_ask_2 21 rfl rfl)
theorem dX6_ask_68 : decode cX6_ask 68 = .ok (.iload 5, 2) := dk_21 5 (dk_at dksX6_ask_2 22 rfl rfl)
theorem dX6_ask_70 : decode cX6_ask 70 = .ok (.invokestatic 101, 3) := dk_184 0 101 (dk_at dksX6_ask_3 0 rfl rfl)
theorem dX6_ask_73 : decode cX6_ask 73 = .ok (.iastore, 1) := dk_79 (dk_at dksX6_ask_3 3 rfl rfl)
theorem dX6_ask_74 : decode cX6_ask 74 = .ok (.iinc 6 1, 3) := dk_132 6 1 (dk_at dksX6_ask_3 4 rfl rfl)
theorem dX6_ask_77 : decode cX6_ask 77 = .ok (.goto (-33), 3) := dk_167 255 223 (dk_at dksX6_ask_3 7 rfl rfl)
theorem dX6_ask_80 : decode cX6_ask 80 = .ok (.aload_n 0, 1) := dk_42 (dk_at dksX6_ask_3 10 rfl rfl)
theorem dX6_ask_81 : decode cX6_ask 81 = .ok (.iload_n 2, 1) := dk_28 (dk_at dksX6_ask_3 11 rfl rfl)
theorem dX6_ask_82 : decode cX6_ask 82 = .ok (.invokevirtual 178, 3) := dk_182 0 178 (dk_at dksX6_ask_3 12 rfl rfl)
theorem dX6_ask_85 : decode cX6_ask 85 = .ok (.istore 6, 2) := dk_54 6 (dk_at dksX6_ask_3 15 rfl rfl)
theorem dX6_ask_87 : decode cX6_ask 87 = .ok (.iload 6, 2) := dk_21 6 (dk_at dksX6_ask_3 17 rfl rfl)
theorem dX6_ask_89 : decode cX6_ask 89 = .ok (.iload 4, 2) := dk_21 4 (dk_at dksX6_ask_3 19 rfl rfl)
theorem dX6_ask_91 : decode cX6_ask 91 = .ok (.if_icmp .ge 8, 3) := dk_162 0 8 (dk_at dksX6_ask_3 21 rfl rfl)
theorem dX6_ask_94 : decode cX6_ask 94 = .ok (.iload 5, 2) := dk_21 5 (dk_at dksX6_ask_4 0 rfl rfl)
theorem dX6_ask_96 : decode cX6_ask 96 = .ok (.goto 4, 3) := dk_167 0 4 (dk_at dksX6_ask_4 2 rfl rfl)
theorem dX6_ask_99 : decode cX6_ask 99 = .ok (.iload_n 3, 1) := dk_29 (dk_at dksX6_ask_4 5 rfl rfl)
theorem dX6_ask_100 : decode cX6_ask 100 = .ok (.istore_n 3, 1) := dk_62 (dk_at dksX6_ask_4 6 rfl rfl)
theorem dX6_ask_101 : decode cX6_ask 101 = .ok (.iload 6, 2) := dk_21 6 (dk_at dksX6_ask_4 7 rfl rfl)
theorem dX6_ask_103 : decode cX6_ask 103 = .ok (.iload 4, 2) := dk_21 4 (dk_at dksX6_ask_4 9 rfl rfl)
theorem dX6_ask_105 : decode cX6_ask 105 = .ok (.if_icmp .ge 8, 3) := dk_162 0 8 (dk_at dksX6_ask_4 11 rfl rfl)
theorem dX6_ask_108 : decode cX6_ask 108 = .ok (.iload 6, 2) := dk_21 6 (dk_at dksX6_ask_4 14 rfl rfl)
theorem dX6_ask_110 : decode cX6_ask 110 = .ok (.goto 5, 3) := dk_167 0 5 (dk_at dksX6_ask_4 16 rfl rfl)
theorem dX6_ask_113 : decode cX6_ask 113 = .ok (.iload 4, 2) := dk_21 4 (dk_at dksX6_ask_4 19 rfl rfl)
theorem dX6_ask_115 : decode cX6_ask 115 = .ok (.istore 4, 2) := dk_54 4 (dk_at dksX6_ask_4 21 rfl rfl)
theorem dX6_ask_117 : decode cX6_ask 117 = .ok (.iinc 5 1, 3) := dk_132 5 1 (dk_at dksX6_ask_5 0 rfl rfl)
theorem dX6_ask_120 : decode cX6_ask 120 = .ok (.goto (-90), 3) := dk_167 255 166 (dk_at dksX6_ask_5 3 rfl rfl)
theorem dX6_ask_123 : decode cX6_ask 123 = .ok (.iload_n 3, 1) := dk_29 (dk_at dksX6_ask_5 6 rfl rfl)
theorem dX6_ask_124 : decode cX6_ask 124 = .ok (.ireturn, 1) := dk_172 (dk_at dksX6_ask_5 7 rfl rfl)
abbrev cX6_water : ByteArray := prog_21_method_64_code
def yX6_water : MethodName := ⟨RX6, "water", "(III)I"⟩
def dkwX6_water_7 : List UInt8 := [153, 0, 10, 4, 21, 9, 120, 167, 0, 4, 3, 128, 54, 8, 132, 9, 1, 167, 255, 156, 21, 8, 172]
abbrev dktX6_water_7 : List UInt8 := dkwX6_water_7 ++ []
def dkwX6_water_6 : List UInt8 := [100, 21, 10, 21, 5, 21, 7, 184, 0, 187, 161, 0, 7, 4, 167, 0, 4, 3, 54, 12, 21, 8, 21, 12]
abbrev dktX6_water_6 : List UInt8 := dkwX6_water_6 ++ dktX6_water_7
def dkwX6_water_5 : List UInt8 := [21, 4, 21, 6, 184, 0, 187, 161, 0, 34, 21, 11, 21, 10, 21, 5, 21, 7, 184, 0, 187, 4, 21, 11]
abbrev dktX6_water_5 : List UInt8 := dkwX6_water_5 ++ dktX6_water_6
def dkwX6_water_4 : List UInt8 := [21, 9, 4, 122, 54, 11, 21, 10, 21, 11, 21, 4, 21, 6, 184, 0, 187, 4, 21, 10, 100, 21, 11]
abbrev dktX6_water_4 : List UInt8 := dkwX6_water_4 ++ dktX6_water_5
def dkwX6_water_3 : List UInt8 := [184, 0, 135, 54, 7, 3, 54, 8, 3, 54, 9, 21, 9, 7, 162, 0, 100, 21, 9, 4, 126, 54, 10]
abbrev dktX6_water_3 : List UInt8 := dkwX6_water_3 ++ dktX6_water_4
def dkwX6_water_2 : List UInt8 := [182, 0, 184, 54, 5, 42, 180, 0, 7, 27, 29, 184, 0, 135, 54, 6, 42, 180, 0, 7, 28, 29]
abbrev dktX6_water_2 : List UInt8 := dkwX6_water_2 ++ dktX6_water_3
def dkwX6_water_1 : List UInt8 := [184, 0, 132, 154, 0, 10, 42, 16, 254, 182, 0, 73, 172, 42, 27, 29, 182, 0, 184, 54, 4, 42, 28, 29]
abbrev dktX6_water_1 : List UInt8 := dkwX6_water_1 ++ dktX6_water_2
def dkwX6_water_0 : List UInt8 := [42, 27, 182, 0, 83, 153, 0, 23, 42, 28, 182, 0, 83, 153, 0, 15, 27, 28, 159, 0, 10, 29]
abbrev dktX6_water_0 : List UInt8 := dkwX6_water_0 ++ dktX6_water_1
theorem dksX6_water_0 : cX6_water.data.toList.drop 0 = dktX6_water_0 := by decide +kernel
theorem dksX6_water_1 : cX6_water.data.toList.drop 22 = dktX6_water_1 := dk_seg dksX6_water_0 22 rfl rfl
theorem dksX6_water_2 : cX6_water.data.toList.drop 46 = dktX6_water_2 := dk_seg dksX6_water_1 24 rfl rfl
theorem dksX6_water_3 : cX6_water.data.toList.drop 68 = dktX6_water_3 := dk_seg dksX6_water_2 22 rfl rfl
theorem dksX6_water_4 : cX6_water.data.toList.drop 91 = dktX6_water_4 := dk_seg dksX6_water_3 23 rfl rfl
theorem dksX6_water_5 : cX6_water.data.toList.drop 114 = dktX6_water_5 := dk_seg dksX6_water_4 23 rfl rfl
theorem dksX6_water_6 : cX6_water.data.toList.drop 138 = dktX6_water_6 := dk_seg dksX6_water_5 24 rfl rfl
theorem dksX6_water_7 : cX6_water.data.toList.drop 162 = dktX6_water_7 := dk_seg dksX6_water_6 24 rfl rfl
theorem dX6_water_0 : decode cX6_water 0 = .ok (.aload_n 0, 1) := dk_42 (dk_at dksX6_water_0 0 rfl rfl)
theorem dX6_water_1 : decode cX6_water 1 = .ok (.iload_n 1, 1) := dk_27 (dk_at dksX6_water_0 1 rfl rfl)
theorem dX6_water_2 : decode cX6_water 2 = .ok (.invokevirtual 83, 3) := dk_182 0 83 (dk_at dksX6_water_0 2 rfl rfl)
theorem dX6_water_5 : decode cX6_water 5 = .ok (.ifCond .eq 23, 3) := dk_153 0 23 (dk_at dksX6_water_0 5 rfl rfl)
theorem dX6_water_8 : decode cX6_water 8 = .ok (.aload_n 0, 1) := dk_42 (dk_at dksX6_water_0 8 rfl rfl)
theorem dX6_water_9 : decode cX6_water 9 = .ok (.iload_n 2, 1) := dk_28 (dk_at dksX6_water_0 9 rfl rfl)
theorem dX6_water_10 : decode cX6_water 10 = .ok (.invokevirtual 83, 3) := dk_182 0 83 (dk_at dksX6_water_0 10 rfl rfl)
theorem dX6_water_13 : decode cX6_water 13 = .ok (.ifCond .eq 15, 3) := dk_153 0 15 (dk_at dksX6_water_0 13 rfl rfl)
theorem dX6_water_16 : decode cX6_water 16 = .ok (.iload_n 1, 1) := dk_27 (dk_at dksX6_water_0 16 rfl rfl)
theorem dX6_water_17 : decode cX6_water 17 = .ok (.iload_n 2, 1) := dk_28 (dk_at dksX6_water_0 17 rfl rfl)
theorem dX6_water_18 : decode cX6_water 18 = .ok (.if_icmp .eq 10, 3) := dk_159 0 10 (dk_at dksX6_water_0 18 rfl rfl)
theorem dX6_water_21 : decode cX6_water 21 = .ok (.iload_n 3, 1) := dk_29 (dk_at dksX6_water_0 21 rfl rfl)
theorem dX6_water_22 : decode cX6_water 22 = .ok (.invokestatic 132, 3) := dk_184 0 132 (dk_at dksX6_water_1 0 rfl rfl)
theorem dX6_water_25 : decode cX6_water 25 = .ok (.ifCond .ne 10, 3) := dk_154 0 10 (dk_at dksX6_water_1 3 rfl rfl)
theorem dX6_water_28 : decode cX6_water 28 = .ok (.aload_n 0, 1) := dk_42 (dk_at dksX6_water_1 6 rfl rfl)
theorem dX6_water_29 : decode cX6_water 29 = .ok (.bipush (-2), 2) := dk_16 254 (dk_at dksX6_water_1 7 rfl rfl)
theorem dX6_water_31 : decode cX6_water 31 = .ok (.invokevirtual 73, 3) := dk_182 0 73 (dk_at dksX6_water_1 9 rfl rfl)
theorem dX6_water_34 : decode cX6_water 34 = .ok (.ireturn, 1) := dk_172 (dk_at dksX6_water_1 12 rfl rfl)
theorem dX6_water_35 : decode cX6_water 35 = .ok (.aload_n 0, 1) := dk_42 (dk_at dksX6_water_1 13 rfl rfl)
theorem dX6_water_36 : decode cX6_water 36 = .ok (.iload_n 1, 1) := dk_27 (dk_at dksX6_water_1 14 rfl rfl)
theorem dX6_water_37 : decode cX6_water 37 = .ok (.iload_n 3, 1) := dk_29 (dk_at dksX6_water_1 15 rfl rfl)
theorem dX6_water_38 : decode cX6_water 38 = .ok (.invokevirtual 184, 3) := dk_182 0 184 (dk_at dksX6_water_1 16 rfl rfl)
theorem dX6_water_41 : decode cX6_water 41 = .ok (.istore 4, 2) := dk_54 4 (dk_at dksX6_water_1 19 rfl rfl)
theorem dX6_water_43 : decode cX6_water 43 = .ok (.aload_n 0, 1) := dk_42 (dk_at dksX6_water_1 21 rfl rfl)
theorem dX6_water_44 : decode cX6_water 44 = .ok (.iload_n 2, 1) := dk_28 (dk_at dksX6_water_1 22 rfl rfl)
theorem dX6_water_45 : decode cX6_water 45 = .ok (.iload_n 3, 1) := dk_29 (dk_at dksX6_water_1 23 rfl rfl)
theorem dX6_water_46 : decode cX6_water 46 = .ok (.invokevirtual 184, 3) := dk_182 0 184 (dk_at dksX6_water_2 0 rfl rfl)
theorem dX6_water_49 : decode cX6_water 49 = .ok (.istore 5, 2) := dk_54 5 (dk_at dksX6_water_2 3 rfl rfl)
theorem dX6_water_51 : decode cX6_water 51 = .ok (.aload_n 0, 1) := dk_42 (dk_at dksX6_water_2 5 rfl rfl)
theorem dX6_water_52 : decode cX6_water 52 = .ok (.getfield 7, 3) := dk_180 0 7 (dk_at dksX6_water_2 6 rfl rfl)
theorem dX6_water_55 : decode cX6_water 55 = .ok (.iload_n 1, 1) := dk_27 (dk_at dksX6_water_2 9 rfl rfl)
theorem dX6_water_56 : decode cX6_water 56 = .ok (.iload_n 3, 1) := dk_29 (dk_at dksX6_water_2 10 rfl rfl)
theorem dX6_water_57 : decode cX6_water 57 = .ok (.invokestatic 135, 3) := dk_184 0 135 (dk_at dksX6_water_2 11 rfl rfl)
theorem dX6_water_60 : decode cX6_water 60 = .ok (.istore 6, 2) := dk_54 6 (dk_at dksX6_water_2 14 rfl rfl)
theorem dX6_water_62 : decode cX6_water 62 = .ok (.aload_n 0, 1) := dk_42 (dk_at dksX6_water_2 16 rfl rfl)
theorem dX6_water_63 : decode cX6_water 63 = .ok (.getfield 7, 3) := dk_180 0 7 (dk_at dksX6_water_2 17 rfl rfl)
theorem dX6_water_66 : decode cX6_water 66 = .ok (.iload_n 2, 1) := dk_28 (dk_at dksX6_water_2 20 rfl rfl)
theorem dX6_water_67 : decode cX6_water 67 = .ok (.iload_n 3, 1) := dk_29 (dk_at dksX6_water_2 21 rfl rfl)
theorem dX6_water_68 : decode cX6_water 68 = .ok (.invokestatic 135, 3) := dk_184 0 135 (dk_at dksX6_water_3 0 rfl rfl)
theorem dX6_water_71 : decode cX6_water 71 = .ok (.istore 7, 2) := dk_54 7 (dk_at dksX6_water_3 3 rfl rfl)
theorem dX6_water_73 : decode cX6_water 73 = .ok (.iconst 0, 1) := dk_3 (dk_at dksX6_water_3 5 rfl rfl)
theorem dX6_water_74 : decode cX6_water 74 = .ok (.istore 8, 2) := dk_54 8 (dk_at dksX6_water_3 6 rfl rfl)
theorem dX6_water_76 : decode cX6_water 76 = .ok (.iconst 0, 1) := dk_3 (dk_at dksX6_water_3 8 rfl rfl)
theorem dX6_water_77 : decode cX6_water 77 = .ok (.istore 9, 2) := dk_54 9 (dk_at dksX6_water_3 9 rfl rfl)
theorem dX6_water_79 : decode cX6_water 79 = .ok (.iload 9, 2) := dk_21 9 (dk_at dksX6_water_3 11 rfl rfl)
theorem dX6_water_81 : decode cX6_water 81 = .ok (.iconst 4, 1) := dk_7 (dk_at dksX6_water_3 13 rfl rfl)
theorem dX6_water_82 : decode cX6_water 82 = .ok (.if_icmp .ge 100, 3) := dk_162 0 100 (dk_at dksX6_water_3 14 rfl rfl)
theorem dX6_water_85 : decode cX6_water 85 = .ok (.iload 9, 2) := dk_21 9 (dk_at dksX6_water_3 17 rfl rfl)
theorem dX6_water_87 : decode cX6_water 87 = .ok (.iconst 1, 1) := dk_4 (dk_at dksX6_water_3 19 rfl rfl)
theorem dX6_water_88 : decode cX6_water 88 = .ok (.iand, 1) := dk_126 (dk_at dksX6_water_3 20 rfl rfl)
theorem dX6_water_89 : decode cX6_water 89 = .ok (.istore 10, 2) := dk_54 10 (dk_at dksX6_water_3 21 rfl rfl)
theorem dX6_water_91 : decode cX6_water 91 = .ok (.iload 9, 2) := dk_21 9 (dk_at dksX6_water_4 0 rfl rfl)
theorem dX6_water_93 : decode cX6_water 93 = .ok (.iconst 1, 1) := dk_4 (dk_at dksX6_water_4 2 rfl rfl)
theorem dX6_water_94 : decode cX6_water 94 = .ok (.ishr, 1) := dk_122 (dk_at dksX6_water_4 3 rfl rfl)
theorem dX6_water_95 : decode cX6_water 95 = .ok (.istore 11, 2) := dk_54 11 (dk_at dksX6_water_4 4 rfl rfl)
theorem dX6_water_97 : decode cX6_water 97 = .ok (.iload 10, 2) := dk_21 10 (dk_at dksX6_water_4 6 rfl rfl)
theorem dX6_water_99 : decode cX6_water 99 = .ok (.iload 11, 2) := dk_21 11 (dk_at dksX6_water_4 8 rfl rfl)
theorem dX6_water_101 : decode cX6_water 101 = .ok (.iload 4, 2) := dk_21 4 (dk_at dksX6_water_4 10 rfl rfl)
theorem dX6_water_103 : decode cX6_water 103 = .ok (.iload 6, 2) := dk_21 6 (dk_at dksX6_water_4 12 rfl rfl)
theorem dX6_water_105 : decode cX6_water 105 = .ok (.invokestatic 187, 3) := dk_184 0 187 (dk_at dksX6_water_4 14 rfl rfl)
theorem dX6_water_108 : decode cX6_water 108 = .ok (.iconst 1, 1) := dk_4 (dk_at dksX6_water_4 17 rfl rfl)
theorem dX6_water_109 : decode cX6_water 109 = .ok (.iload 10, 2) := dk_21 10 (dk_at dksX6_water_4 18 rfl rfl)
theorem dX6_water_111 : decode cX6_water 111 = .ok (.isub, 1) := dk_100 (dk_at dksX6_water_4 20 rfl rfl)
theorem dX6_water_112 : decode cX6_water 112 = .ok (.iload 11, 2) := dk_21 11 (dk_at dksX6_water_4 21 rfl rfl)
theorem dX6_water_114 : decode cX6_water 114 = .ok (.iload 4, 2) := dk_21 4 (dk_at dksX6_water_5 0 rfl rfl)
theorem dX6_water_116 : decode cX6_water 116 = .ok (.iload 6, 2) := dk_21 6 (dk_at dksX6_water_5 2 rfl rfl)
theorem dX6_water_118 : decode cX6_water 118 = .ok (.invokestatic 187, 3) := dk_184 0 187 (dk_at dksX6_water_5 4 rfl rfl)
theorem dX6_water_121 : decode cX6_water 121 = .ok (.if_icmp .lt 34, 3) := dk_161 0 34 (dk_at dksX6_water_5 7 rfl rfl)
theorem dX6_water_124 : decode cX6_water 124 = .ok (.iload 11, 2) := dk_21 11 (dk_at dksX6_water_5 10 rfl rfl)
theorem dX6_water_126 : decode cX6_water 126 = .ok (.iload 10, 2) := dk_21 10 (dk_at dksX6_water_5 12 rfl rfl)
theorem dX6_water_128 : decode cX6_water 128 = .ok (.iload 5, 2) := dk_21 5 (dk_at dksX6_water_5 14 rfl rfl)
theorem dX6_water_130 : decode cX6_water 130 = .ok (.iload 7, 2) := dk_21 7 (dk_at dksX6_water_5 16 rfl rfl)
theorem dX6_water_132 : decode cX6_water 132 = .ok (.invokestatic 187, 3) := dk_184 0 187 (dk_at dksX6_water_5 18 rfl rfl)
theorem dX6_water_135 : decode cX6_water 135 = .ok (.iconst 1, 1) := dk_4 (dk_at dksX6_water_5 21 rfl rfl)
theorem dX6_water_136 : decode cX6_water 136 = .ok (.iload 11, 2) := dk_21 11 (dk_at dksX6_water_5 22 rfl rfl)
theorem dX6_water_138 : decode cX6_water 138 = .ok (.isub, 1) := dk_100 (dk_at dksX6_water_6 0 rfl rfl)
theorem dX6_water_139 : decode cX6_water 139 = .ok (.iload 10, 2) := dk_21 10 (dk_at dksX6_water_6 1 rfl rfl)
theorem dX6_water_141 : decode cX6_water 141 = .ok (.iload 5, 2) := dk_21 5 (dk_at dksX6_water_6 3 rfl rfl)
theorem dX6_water_143 : decode cX6_water 143 = .ok (.iload 7, 2) := dk_21 7 (dk_at dksX6_water_6 5 rfl rfl)
theorem dX6_water_145 : decode cX6_water 145 = .ok (.invokestatic 187, 3) := dk_184 0 187 (dk_at dksX6_water_6 7 rfl rfl)
theorem dX6_water_148 : decode cX6_water 148 = .ok (.if_icmp .lt 7, 3) := dk_161 0 7 (dk_at dksX6_water_6 10 rfl rfl)
theorem dX6_water_151 : decode cX6_water 151 = .ok (.iconst 1, 1) := dk_4 (dk_at dksX6_water_6 13 rfl rfl)
theorem dX6_water_152 : decode cX6_water 152 = .ok (.goto 4, 3) := dk_167 0 4 (dk_at dksX6_water_6 14 rfl rfl)
theorem dX6_water_155 : decode cX6_water 155 = .ok (.iconst 0, 1) := dk_3 (dk_at dksX6_water_6 17 rfl rfl)
theorem dX6_water_156 : decode cX6_water 156 = .ok (.istore 12, 2) := dk_54 12 (dk_at dksX6_water_6 18 rfl rfl)
theorem dX6_water_158 : decode cX6_water 158 = .ok (.iload 8, 2) := dk_21 8 (dk_at dksX6_water_6 20 rfl rfl)
theorem dX6_water_160 : decode cX6_water 160 = .ok (.iload 12, 2) := dk_21 12 (dk_at dksX6_water_6 22 rfl rfl)
theorem dX6_water_162 : decode cX6_water 162 = .ok (.ifCond .eq 10, 3) := dk_153 0 10 (dk_at dksX6_water_7 0 rfl rfl)
theorem dX6_water_165 : decode cX6_water 165 = .ok (.iconst 1, 1) := dk_4 (dk_at dksX6_water_7 3 rfl rfl)
theorem dX6_water_166 : decode cX6_water 166 = .ok (.iload 9, 2) := dk_21 9 (dk_at dksX6_water_7 4 rfl rfl)
theorem dX6_water_168 : decode cX6_water 168 = .ok (.ishl, 1) := dk_120 (dk_at dksX6_water_7 6 rfl rfl)
theorem dX6_water_169 : decode cX6_water 169 = .ok (.goto 4, 3) := dk_167 0 4 (dk_at dksX6_water_7 7 rfl rfl)
theorem dX6_water_172 : decode cX6_water 172 = .ok (.iconst 0, 1) := dk_3 (dk_at dksX6_water_7 10 rfl rfl)
theorem dX6_water_173 : decode cX6_water 173 = .ok (.ior, 1) := dk_128 (dk_at dksX6_water_7 11 rfl rfl)
theorem dX6_water_174 : decode cX6_water 174 = .ok (.istore 8, 2) := dk_54 8 (dk_at dksX6_water_7 12 rfl rfl)
theorem dX6_water_176 : decode cX6_water 176 = .ok (.iinc 9 1, 3) := dk_132 9 1 (dk_at dksX6_water_7 14 rfl rfl)
theorem dX6_water_179 : decode cX6_water 179 = .ok (.goto (-100), 3) := dk_167 255 156 (dk_at dksX6_water_7 17 rfl rfl)
theorem dX6_water_182 : decode cX6_water 182 = .ok (.iload 8, 2) := dk_21 8 (dk_at dksX6_water_7 20 rfl rfl)
theorem dX6_water_184 : decode cX6_water 184 = .ok (.ireturn, 1) := dk_172 (dk_at dksX6_water_7 22 rfl rfl)
abbrev cX6_canBehind : ByteArray := prog_21_method_62_code
def yX6_canBehind : MethodName := ⟨RX6, "canBehind", "(II)Z"⟩
def dkwX6_canBehind_0 : List UInt8 := [42, 182, 0, 141, 42, 180, 0, 27, 27, 184, 0, 117, 62, 42, 180, 0, 27, 27, 28, 184, 0, 135, 172]
abbrev dktX6_canBehind_0 : List UInt8 := dkwX6_canBehind_0 ++ []
theorem dksX6_canBehind_0 : cX6_canBehind.data.toList.drop 0 = dktX6_canBehind_0 := by decide +kernel
theorem dX6_canBehind_0 : decode cX6_canBehind 0 = .ok (.aload_n 0, 1) := dk_42 (dk_at dksX6_canBehind_0 0 rfl rfl)
theorem dX6_canBehind_1 : decode cX6_canBehind 1 = .ok (.invokevirtual 141, 3) := dk_182 0 141 (dk_at dksX6_canBehind_0 1 rfl rfl)
theorem dX6_canBehind_4 : decode cX6_canBehind 4 = .ok (.aload_n 0, 1) := dk_42 (dk_at dksX6_canBehind_0 4 rfl rfl)
theorem dX6_canBehind_5 : decode cX6_canBehind 5 = .ok (.getfield 27, 3) := dk_180 0 27 (dk_at dksX6_canBehind_0 5 rfl rfl)
theorem dX6_canBehind_8 : decode cX6_canBehind 8 = .ok (.iload_n 1, 1) := dk_27 (dk_at dksX6_canBehind_0 8 rfl rfl)
theorem dX6_canBehind_9 : decode cX6_canBehind 9 = .ok (.invokestatic 117, 3) := dk_184 0 117 (dk_at dksX6_canBehind_0 9 rfl rfl)
theorem dX6_canBehind_12 : decode cX6_canBehind 12 = .ok (.istore_n 3, 1) := dk_62 (dk_at dksX6_canBehind_0 12 rfl rfl)
theorem dX6_canBehind_13 : decode cX6_canBehind 13 = .ok (.aload_n 0, 1) := dk_42 (dk_at dksX6_canBehind_0 13 rfl rfl)
theorem dX6_canBehind_14 : decode cX6_canBehind 14 = .ok (.getfield 27, 3) := dk_180 0 27 (dk_at dksX6_canBehind_0 14 rfl rfl)
theorem dX6_canBehind_17 : decode cX6_canBehind 17 = .ok (.iload_n 1, 1) := dk_27 (dk_at dksX6_canBehind_0 17 rfl rfl)
theorem dX6_canBehind_18 : decode cX6_canBehind 18 = .ok (.iload_n 2, 1) := dk_28 (dk_at dksX6_canBehind_0 18 rfl rfl)
theorem dX6_canBehind_19 : decode cX6_canBehind 19 = .ok (.invokestatic 135, 3) := dk_184 0 135 (dk_at dksX6_canBehind_0 19 rfl rfl)
theorem dX6_canBehind_22 : decode cX6_canBehind 22 = .ok (.ireturn, 1) := dk_172 (dk_at dksX6_canBehind_0 22 rfl rfl)
abbrev cX6_getsBy : ByteArray := prog_21_method_63_code
def yX6_getsBy : MethodName := ⟨RX6, "getsBy", "(IIZZ)I"⟩
def dkwX6_getsBy_2 : List UInt8 := [21, 4, 172]
abbrev dktX6_getsBy_2 : List UInt8 := dkwX6_getsBy_2 ++ []
def dkwX6_getsBy_1 : List UInt8 := [167, 0, 5, 16, 254, 54, 4, 26, 4, 160, 0, 15, 27, 4, 160, 0, 10, 21, 4, 6, 100, 167, 0, 5]
abbrev dktX6_getsBy_1 : List UInt8 := dkwX6_getsBy_1 ++ dktX6_getsBy_2
def dkwX6_getsBy_0 : List UInt8 := [26, 4, 160, 0, 17, 28, 153, 0, 8, 16, 6, 167, 0, 18, 16, 252, 167, 0, 13, 29, 153, 0, 7, 5]
abbrev dktX6_getsBy_0 : List UInt8 := dkwX6_getsBy_0 ++ dktX6_getsBy_1
theorem dksX6_getsBy_0 : cX6_getsBy.data.toList.drop 0 = dktX6_getsBy_0 := by decide +kernel
theorem dksX6_getsBy_1 : cX6_getsBy.data.toList.drop 24 = dktX6_getsBy_1 := dk_seg dksX6_getsBy_0 24 rfl rfl
theorem dksX6_getsBy_2 : cX6_getsBy.data.toList.drop 48 = dktX6_getsBy_2 := dk_seg dksX6_getsBy_1 24 rfl rfl
theorem dX6_getsBy_0 : decode cX6_getsBy 0 = .ok (.iload_n 0, 1) := dk_26 (dk_at dksX6_getsBy_0 0 rfl rfl)
theorem dX6_getsBy_1 : decode cX6_getsBy 1 = .ok (.iconst 1, 1) := dk_4 (dk_at dksX6_getsBy_0 1 rfl rfl)
theorem dX6_getsBy_2 : decode cX6_getsBy 2 = .ok (.if_icmp .ne 17, 3) := dk_160 0 17 (dk_at dksX6_getsBy_0 2 rfl rfl)
theorem dX6_getsBy_5 : decode cX6_getsBy 5 = .ok (.iload_n 2, 1) := dk_28 (dk_at dksX6_getsBy_0 5 rfl rfl)
theorem dX6_getsBy_6 : decode cX6_getsBy 6 = .ok (.ifCond .eq 8, 3) := dk_153 0 8 (dk_at dksX6_getsBy_0 6 rfl rfl)
theorem dX6_getsBy_9 : decode cX6_getsBy 9 = .ok (.bipush 6, 2) := dk_16 6 (dk_at dksX6_getsBy_0 9 rfl rfl)
theorem dX6_getsBy_11 : decode cX6_getsBy 11 = .ok (.goto 18, 3) := dk_167 0 18 (dk_at dksX6_getsBy_0 11 rfl rfl)
theorem dX6_getsBy_14 : decode cX6_getsBy 14 = .ok (.bipush (-4), 2) := dk_16 252 (dk_at dksX6_getsBy_0 14 rfl rfl)
theorem dX6_getsBy_16 : decode cX6_getsBy 16 = .ok (.goto 13, 3) := dk_167 0 13 (dk_at dksX6_getsBy_0 16 rfl rfl)
theorem dX6_getsBy_19 : decode cX6_getsBy 19 = .ok (.iload_n 3, 1) := dk_29 (dk_at dksX6_getsBy_0 19 rfl rfl)
theorem dX6_getsBy_20 : decode cX6_getsBy 20 = .ok (.ifCond .eq 7, 3) := dk_153 0 7 (dk_at dksX6_getsBy_0 20 rfl rfl)
theorem dX6_getsBy_23 : decode cX6_getsBy 23 = .ok (.iconst 2, 1) := dk_5 (dk_at dksX6_getsBy_0 23 rfl rfl)
theorem dX6_getsBy_24 : decode cX6_getsBy 24 = .ok (.goto 5, 3) := dk_167 0 5 (dk_at dksX6_getsBy_1 0 rfl rfl)
theorem dX6_getsBy_27 : decode cX6_getsBy 27 = .ok (.bipush (-2), 2) := dk_16 254 (dk_at dksX6_getsBy_1 3 rfl rfl)
theorem dX6_getsBy_29 : decode cX6_getsBy 29 = .ok (.istore 4, 2) := dk_54 4 (dk_at dksX6_getsBy_1 5 rfl rfl)
theorem dX6_getsBy_31 : decode cX6_getsBy 31 = .ok (.iload_n 0, 1) := dk_26 (dk_at dksX6_getsBy_1 7 rfl rfl)
theorem dX6_getsBy_32 : decode cX6_getsBy 32 = .ok (.iconst 1, 1) := dk_4 (dk_at dksX6_getsBy_1 8 rfl rfl)
theorem dX6_getsBy_33 : decode cX6_getsBy 33 = .ok (.if_icmp .ne 15, 3) := dk_160 0 15 (dk_at dksX6_getsBy_1 9 rfl rfl)
theorem dX6_getsBy_36 : decode cX6_getsBy 36 = .ok (.iload_n 1, 1) := dk_27 (dk_at dksX6_getsBy_1 12 rfl rfl)
theorem dX6_getsBy_37 : decode cX6_getsBy 37 = .ok (.iconst 1, 1) := dk_4 (dk_at dksX6_getsBy_1 13 rfl rfl)
theorem dX6_getsBy_38 : decode cX6_getsBy 38 = .ok (.if_icmp .ne 10, 3) := dk_160 0 10 (dk_at dksX6_getsBy_1 14 rfl rfl)
theorem dX6_getsBy_41 : decode cX6_getsBy 41 = .ok (.iload 4, 2) := dk_21 4 (dk_at dksX6_getsBy_1 17 rfl rfl)
theorem dX6_getsBy_43 : decode cX6_getsBy 43 = .ok (.iconst 3, 1) := dk_6 (dk_at dksX6_getsBy_1 19 rfl rfl)
theorem dX6_getsBy_44 : decode cX6_getsBy 44 = .ok (.isub, 1) := dk_100 (dk_at dksX6_getsBy_1 20 rfl rfl)
theorem dX6_getsBy_45 : decode cX6_getsBy 45 = .ok (.goto 5, 3) := dk_167 0 5 (dk_at dksX6_getsBy_1 21 rfl rfl)
theorem dX6_getsBy_48 : decode cX6_getsBy 48 = .ok (.iload 4, 2) := dk_21 4 (dk_at dksX6_getsBy_2 0 rfl rfl)
theorem dX6_getsBy_50 : decode cX6_getsBy 50 = .ok (.ireturn, 1) := dk_172 (dk_at dksX6_getsBy_2 2 rfl rfl)
abbrev cX6_lots : ByteArray := prog_21_method_66_code
def yX6_lots : MethodName := ⟨RX6, "lots", "(II)I"⟩
def dkwX6_lots_3 : List UInt8 := [167, 0, 6, 21, 4, 133, 21, 4, 133, 182, 0, 194, 4, 172]
abbrev dktX6_lots_3 : List UInt8 := dkwX6_lots_3 ++ []
def dkwX6_lots_2 : List UInt8 := [182, 0, 111, 172, 42, 180, 0, 7, 29, 184, 0, 90, 54, 4, 42, 28, 21, 4, 162, 0, 8, 28, 133]
abbrev dktX6_lots_2 : List UInt8 := dkwX6_lots_2 ++ dktX6_lots_3
def dkwX6_lots_1 : List UInt8 := [182, 0, 73, 172, 42, 180, 0, 7, 16, 6, 27, 96, 46, 4, 100, 62, 29, 2, 160, 0, 8, 42]
abbrev dktX6_lots_1 : List UInt8 := dkwX6_lots_1 ++ dktX6_lots_2
def dkwX6_lots_0 : List UInt8 := [42, 27, 182, 0, 120, 153, 0, 15, 28, 133, 9, 20, 0, 139, 184, 0, 59, 154, 0, 10, 42, 16, 254]
abbrev dktX6_lots_0 : List UInt8 := dkwX6_lots_0 ++ dktX6_lots_1
theorem dksX6_lots_0 : cX6_lots.data.toList.drop 0 = dktX6_lots_0 := by decide +kernel
theorem dksX6_lots_1 : cX6_lots.data.toList.drop 23 = dktX6_lots_1 := dk_seg dksX6_lots_0 23 rfl rfl
theorem dksX6_lots_2 : cX6_lots.data.toList.drop 45 = dktX6_lots_2 := dk_seg dksX6_lots_1 22 rfl rfl
theorem dksX6_lots_3 : cX6_lots.data.toList.drop 68 = dktX6_lots_3 := dk_seg dksX6_lots_2 23 rfl rfl
theorem dX6_lots_0 : decode cX6_lots 0 = .ok (.aload_n 0, 1) := dk_42 (dk_at dksX6_lots_0 0 rfl rfl)
theorem dX6_lots_1 : decode cX6_lots 1 = .ok (.iload_n 1, 1) := dk_27 (dk_at dksX6_lots_0 1 rfl rfl)
theorem dX6_lots_2 : decode cX6_lots 2 = .ok (.invokevirtual 120, 3) := dk_182 0 120 (dk_at dksX6_lots_0 2 rfl rfl)
theorem dX6_lots_5 : decode cX6_lots 5 = .ok (.ifCond .eq 15, 3) := dk_153 0 15 (dk_at dksX6_lots_0 5 rfl rfl)
theorem dX6_lots_8 : decode cX6_lots 8 = .ok (.iload_n 2, 1) := dk_28 (dk_at dksX6_lots_0 8 rfl rfl)
theorem dX6_lots_9 : decode cX6_lots 9 = .ok (.i2l, 1) := dk_133 (dk_at dksX6_lots_0 9 rfl rfl)
theorem dX6_lots_10 : decode cX6_lots 10 = .ok (.lconst 0, 1) := dk_9 (dk_at dksX6_lots_0 10 rfl rfl)
theorem dX6_lots_11 : decode cX6_lots 11 = .ok (.ldc2_w 139, 3) := dk_20 0 139 (dk_at dksX6_lots_0 11 rfl rfl)
theorem dX6_lots_14 : decode cX6_lots 14 = .ok (.invokestatic 59, 3) := dk_184 0 59 (dk_at dksX6_lots_0 14 rfl rfl)
theorem dX6_lots_17 : decode cX6_lots 17 = .ok (.ifCond .ne 10, 3) := dk_154 0 10 (dk_at dksX6_lots_0 17 rfl rfl)
theorem dX6_lots_20 : decode cX6_lots 20 = .ok (.aload_n 0, 1) := dk_42 (dk_at dksX6_lots_0 20 rfl rfl)
theorem dX6_lots_21 : decode cX6_lots 21 = .ok (.bipush (-2), 2) := dk_16 254 (dk_at dksX6_lots_0 21 rfl rfl)
theorem dX6_lots_23 : decode cX6_lots 23 = .ok (.invokevirtual 73, 3) := dk_182 0 73 (dk_at dksX6_lots_1 0 rfl rfl)
theorem dX6_lots_26 : decode cX6_lots 26 = .ok (.ireturn, 1) := dk_172 (dk_at dksX6_lots_1 3 rfl rfl)
theorem dX6_lots_27 : decode cX6_lots 27 = .ok (.aload_n 0, 1) := dk_42 (dk_at dksX6_lots_1 4 rfl rfl)
theorem dX6_lots_28 : decode cX6_lots 28 = .ok (.getfield 7, 3) := dk_180 0 7 (dk_at dksX6_lots_1 5 rfl rfl)
theorem dX6_lots_31 : decode cX6_lots 31 = .ok (.bipush 6, 2) := dk_16 6 (dk_at dksX6_lots_1 8 rfl rfl)
theorem dX6_lots_33 : decode cX6_lots 33 = .ok (.iload_n 1, 1) := dk_27 (dk_at dksX6_lots_1 10 rfl rfl)
theorem dX6_lots_34 : decode cX6_lots 34 = .ok (.iadd, 1) := dk_96 (dk_at dksX6_lots_1 11 rfl rfl)
theorem dX6_lots_35 : decode cX6_lots 35 = .ok (.iaload, 1) := dk_46 (dk_at dksX6_lots_1 12 rfl rfl)
theorem dX6_lots_36 : decode cX6_lots 36 = .ok (.iconst 1, 1) := dk_4 (dk_at dksX6_lots_1 13 rfl rfl)
theorem dX6_lots_37 : decode cX6_lots 37 = .ok (.isub, 1) := dk_100 (dk_at dksX6_lots_1 14 rfl rfl)
theorem dX6_lots_38 : decode cX6_lots 38 = .ok (.istore_n 3, 1) := dk_62 (dk_at dksX6_lots_1 15 rfl rfl)
theorem dX6_lots_39 : decode cX6_lots 39 = .ok (.iload_n 3, 1) := dk_29 (dk_at dksX6_lots_1 16 rfl rfl)
theorem dX6_lots_40 : decode cX6_lots 40 = .ok (.iconst (-1), 1) := dk_2 (dk_at dksX6_lots_1 17 rfl rfl)
theorem dX6_lots_41 : decode cX6_lots 41 = .ok (.if_icmp .ne 8, 3) := dk_160 0 8 (dk_at dksX6_lots_1 18 rfl rfl)
theorem dX6_lots_44 : decode cX6_lots 44 = .ok (.aload_n 0, 1) := dk_42 (dk_at dksX6_lots_1 21 rfl rfl)
theorem dX6_lots_45 : decode cX6_lots 45 = .ok (.invokevirtual 111, 3) := dk_182 0 111 (dk_at dksX6_lots_2 0 rfl rfl)
theorem dX6_lots_48 : decode cX6_lots 48 = .ok (.ireturn, 1) := dk_172 (dk_at dksX6_lots_2 3 rfl rfl)
theorem dX6_lots_49 : decode cX6_lots 49 = .ok (.aload_n 0, 1) := dk_42 (dk_at dksX6_lots_2 4 rfl rfl)
theorem dX6_lots_50 : decode cX6_lots 50 = .ok (.getfield 7, 3) := dk_180 0 7 (dk_at dksX6_lots_2 5 rfl rfl)
theorem dX6_lots_53 : decode cX6_lots 53 = .ok (.iload_n 3, 1) := dk_29 (dk_at dksX6_lots_2 8 rfl rfl)
theorem dX6_lots_54 : decode cX6_lots 54 = .ok (.invokestatic 90, 3) := dk_184 0 90 (dk_at dksX6_lots_2 9 rfl rfl)
theorem dX6_lots_57 : decode cX6_lots 57 = .ok (.istore 4, 2) := dk_54 4 (dk_at dksX6_lots_2 12 rfl rfl)
theorem dX6_lots_59 : decode cX6_lots 59 = .ok (.aload_n 0, 1) := dk_42 (dk_at dksX6_lots_2 14 rfl rfl)
theorem dX6_lots_60 : decode cX6_lots 60 = .ok (.iload_n 2, 1) := dk_28 (dk_at dksX6_lots_2 15 rfl rfl)
theorem dX6_lots_61 : decode cX6_lots 61 = .ok (.iload 4, 2) := dk_21 4 (dk_at dksX6_lots_2 16 rfl rfl)
theorem dX6_lots_63 : decode cX6_lots 63 = .ok (.if_icmp .ge 8, 3) := dk_162 0 8 (dk_at dksX6_lots_2 18 rfl rfl)
theorem dX6_lots_66 : decode cX6_lots 66 = .ok (.iload_n 2, 1) := dk_28 (dk_at dksX6_lots_2 21 rfl rfl)
theorem dX6_lots_67 : decode cX6_lots 67 = .ok (.i2l, 1) := dk_133 (dk_at dksX6_lots_2 22 rfl rfl)
theorem dX6_lots_68 : decode cX6_lots 68 = .ok (.goto 6, 3) := dk_167 0 6 (dk_at dksX6_lots_3 0 rfl rfl)
theorem dX6_lots_71 : decode cX6_lots 71 = .ok (.iload 4, 2) := dk_21 4 (dk_at dksX6_lots_3 3 rfl rfl)
theorem dX6_lots_73 : decode cX6_lots 73 = .ok (.i2l, 1) := dk_133 (dk_at dksX6_lots_3 5 rfl rfl)
theorem dX6_lots_74 : decode cX6_lots 74 = .ok (.iload 4, 2) := dk_21 4 (dk_at dksX6_lots_3 6 rfl rfl)
theorem dX6_lots_76 : decode cX6_lots 76 = .ok (.i2l, 1) := dk_133 (dk_at dksX6_lots_3 8 rfl rfl)
theorem dX6_lots_77 : decode cX6_lots 77 = .ok (.invokevirtual 194, 3) := dk_182 0 194 (dk_at dksX6_lots_3 9 rfl rfl)
theorem dX6_lots_80 : decode cX6_lots 80 = .ok (.iconst 1, 1) := dk_4 (dk_at dksX6_lots_3 12 rfl rfl)
theorem dX6_lots_81 : decode cX6_lots 81 = .ok (.ireturn, 1) := dk_172 (dk_at dksX6_lots_3 13 rfl rfl)
abbrev cX6_fraction : ByteArray := prog_21_method_65_code
def yX6_fraction : MethodName := ⟨RX6, "fraction", "(JJ)V"⟩
def dkwX6_fraction_1 : List UInt8 := [22, 9, 55, 7, 167, 255, 234, 42, 31, 22, 5, 109, 181, 0, 191, 42, 33, 22, 5, 109, 181, 0, 23, 177]
abbrev dktX6_fraction_1 : List UInt8 := dkwX6_fraction_1 ++ []
def dkwX6_fraction_0 : List UInt8 := [31, 55, 5, 33, 55, 7, 22, 7, 9, 148, 153, 0, 21, 22, 5, 22, 7, 113, 55, 9, 22, 7, 55, 5]
abbrev dktX6_fraction_0 : List UInt8 := dkwX6_fraction_0 ++ dktX6_fraction_1
theorem dksX6_fraction_0 : cX6_fraction.data.toList.drop 0 = dktX6_fraction_0 := by decide +kernel
theorem dksX6_fraction_1 : cX6_fraction.data.toList.drop 24 = dktX6_fraction_1 := dk_seg dksX6_fraction_0 24 rfl rfl
theorem dX6_fraction_0 : decode cX6_fraction 0 = .ok (.lload_n 1, 1) := dk_31 (dk_at dksX6_fraction_0 0 rfl rfl)
theorem dX6_fraction_1 : decode cX6_fraction 1 = .ok (.lstore 5, 2) := dk_55 5 (dk_at dksX6_fraction_0 1 rfl rfl)
theorem dX6_fraction_3 : decode cX6_fraction 3 = .ok (.lload_n 3, 1) := dk_33 (dk_at dksX6_fraction_0 3 rfl rfl)
theorem dX6_fraction_4 : decode cX6_fraction 4 = .ok (.lstore 7, 2) := dk_55 7 (dk_at dksX6_fraction_0 4 rfl rfl)
theorem dX6_fraction_6 : decode cX6_fraction 6 = .ok (.lload 7, 2) := dk_22 7 (dk_at dksX6_fraction_0 6 rfl rfl)
theorem dX6_fraction_8 : decode cX6_fraction 8 = .ok (.lconst 0, 1) := dk_9 (dk_at dksX6_fraction_0 8 rfl rfl)
theorem dX6_fraction_9 : decode cX6_fraction 9 = .ok (.lcmp, 1) := dk_148 (dk_at dksX6_fraction_0 9 rfl rfl)
theorem dX6_fraction_10 : decode cX6_fraction 10 = .ok (.ifCond .eq 21, 3) := dk_153 0 21 (dk_at dksX6_fraction_0 10 rfl rfl)
theorem dX6_fraction_13 : decode cX6_fraction 13 = .ok (.lload 5, 2) := dk_22 5 (dk_at dksX6_fraction_0 13 rfl rfl)
theorem dX6_fraction_15 : decode cX6_fraction 15 = .ok (.lload 7, 2) := dk_22 7 (dk_at dksX6_fraction_0 15 rfl rfl)
theorem dX6_fraction_17 : decode cX6_fraction 17 = .ok (.lrem, 1) := dk_113 (dk_at dksX6_fraction_0 17 rfl rfl)
theorem dX6_fraction_18 : decode cX6_fraction 18 = .ok (.lstore 9, 2) := dk_55 9 (dk_at dksX6_fraction_0 18 rfl rfl)
theorem dX6_fraction_20 : decode cX6_fraction 20 = .ok (.lload 7, 2) := dk_22 7 (dk_at dksX6_fraction_0 20 rfl rfl)
theorem dX6_fraction_22 : decode cX6_fraction 22 = .ok (.lstore 5, 2) := dk_55 5 (dk_at dksX6_fraction_0 22 rfl rfl)
theorem dX6_fraction_24 : decode cX6_fraction 24 = .ok (.lload 9, 2) := dk_22 9 (dk_at dksX6_fraction_1 0 rfl rfl)
theorem dX6_fraction_26 : decode cX6_fraction 26 = .ok (.lstore 7, 2) := dk_55 7 (dk_at dksX6_fraction_1 2 rfl rfl)
theorem dX6_fraction_28 : decode cX6_fraction 28 = .ok (.goto (-22), 3) := dk_167 255 234 (dk_at dksX6_fraction_1 4 rfl rfl)
theorem dX6_fraction_31 : decode cX6_fraction 31 = .ok (.aload_n 0, 1) := dk_42 (dk_at dksX6_fraction_1 7 rfl rfl)
theorem dX6_fraction_32 : decode cX6_fraction 32 = .ok (.lload_n 1, 1) := dk_31 (dk_at dksX6_fraction_1 8 rfl rfl)
theorem dX6_fraction_33 : decode cX6_fraction 33 = .ok (.lload 5, 2) := dk_22 5 (dk_at dksX6_fraction_1 9 rfl rfl)
theorem dX6_fraction_35 : decode cX6_fraction 35 = .ok (.ldiv, 1) := dk_109 (dk_at dksX6_fraction_1 11 rfl rfl)
theorem dX6_fraction_36 : decode cX6_fraction 36 = .ok (.putfield 191, 3) := dk_181 0 191 (dk_at dksX6_fraction_1 12 rfl rfl)
theorem dX6_fraction_39 : decode cX6_fraction 39 = .ok (.aload_n 0, 1) := dk_42 (dk_at dksX6_fraction_1 15 rfl rfl)
theorem dX6_fraction_40 : decode cX6_fraction 40 = .ok (.lload_n 3, 1) := dk_33 (dk_at dksX6_fraction_1 16 rfl rfl)
theorem dX6_fraction_41 : decode cX6_fraction 41 = .ok (.lload 5, 2) := dk_22 5 (dk_at dksX6_fraction_1 17 rfl rfl)
theorem dX6_fraction_43 : decode cX6_fraction 43 = .ok (.ldiv, 1) := dk_109 (dk_at dksX6_fraction_1 19 rfl rfl)
theorem dX6_fraction_44 : decode cX6_fraction 44 = .ok (.putfield 23, 3) := dk_181 0 23 (dk_at dksX6_fraction_1 20 rfl rfl)
theorem dX6_fraction_47 : decode cX6_fraction 47 = .ok (.return_, 1) := dk_177 (dk_at dksX6_fraction_1 23 rfl rfl)
abbrev cX6_centuries : ByteArray := prog_21_method_67_code
def yX6_centuries : MethodName := ⟨RX6, "centuries", "(II)I"⟩
def dkwX6_centuries_7 : List UInt8 := [42, 180, 0, 27, 3, 184, 0, 94, 172]
abbrev dktX6_centuries_7 : List UInt8 := dkwX6_centuries_7 ++ []
def dkwX6_centuries_6 : List UInt8 := [46, 154, 0, 17, 42, 180, 0, 27, 16, 6, 21, 7, 96, 21, 6, 4, 96, 79, 132, 5, 1, 167, 255, 134]
abbrev dktX6_centuries_6 : List UInt8 := dkwX6_centuries_6 ++ dktX6_centuries_7
def dkwX6_centuries_5 : List UInt8 := [182, 0, 83, 153, 0, 39, 42, 21, 7, 182, 0, 120, 153, 0, 30, 42, 180, 0, 27, 16, 6, 21, 7, 96]
abbrev dktX6_centuries_5 : List UInt8 := dkwX6_centuries_5 ++ dktX6_centuries_6
def dkwX6_centuries_4 : List UInt8 := [21, 7, 16, 8, 161, 0, 17, 42, 180, 0, 27, 21, 6, 184, 0, 117, 54, 8, 167, 0, 48, 42, 21, 6]
abbrev dktX6_centuries_4 : List UInt8 := dkwX6_centuries_4 ++ dktX6_centuries_5
def dkwX6_centuries_3 : List UInt8 := [54, 6, 33, 20, 0, 210, 109, 20, 0, 212, 113, 136, 54, 7, 42, 21, 6, 182, 0, 83, 153, 0, 24]
abbrev dktX6_centuries_3 : List UInt8 := dkwX6_centuries_3 ++ dktX6_centuries_4
def dkwX6_centuries_2 : List UInt8 := [20, 0, 202, 105, 20, 0, 204, 97, 20, 0, 206, 113, 66, 33, 20, 0, 208, 109, 20, 0, 127, 113, 136]
abbrev dktX6_centuries_2 : List UInt8 := dkwX6_centuries_2 ++ dktX6_centuries_3
def dkwX6_centuries_1 : List UInt8 := [42, 16, 254, 182, 0, 73, 172, 27, 133, 66, 42, 182, 0, 141, 3, 54, 5, 21, 5, 28, 162, 0, 122, 33]
abbrev dktX6_centuries_1 : List UInt8 := dkwX6_centuries_1 ++ dktX6_centuries_2
def dkwX6_centuries_0 : List UInt8 := [27, 133, 9, 20, 0, 198, 184, 0, 59, 153, 0, 15, 28, 133, 9, 20, 0, 200, 184, 0, 59, 154, 0, 10]
abbrev dktX6_centuries_0 : List UInt8 := dkwX6_centuries_0 ++ dktX6_centuries_1
theorem dksX6_centuries_0 : cX6_centuries.data.toList.drop 0 = dktX6_centuries_0 := by decide +kernel
theorem dksX6_centuries_1 : cX6_centuries.data.toList.drop 24 = dktX6_centuries_1 := dk_seg dksX6_centuries_0 24 rfl rfl
theorem dksX6_centuries_2 : cX6_centuries.data.toList.drop 48 = dktX6_centuries_2 := dk_seg dksX6_centuries_1 24 rfl rfl
theorem dksX6_centuries_3 : cX6_centuries.data.toList.drop 71 = dktX6_centuries_3 := dk_seg dksX6_centuries_2 23 rfl rfl
theorem dksX6_centuries_4 : cX6_centuries.data.toList.drop 94 = dktX6_centuries_4 := dk_seg dksX6_centuries_3 23 rfl rfl
theorem dksX6_centuries_5 : cX6_centuries.data.toList.drop 118 = dktX6_centuries_5 := dk_seg dksX6_centuries_4 24 rfl rfl
theorem dksX6_centuries_6 : cX6_centuries.data.toList.drop 142 = dktX6_centuries_6 := dk_seg dksX6_centuries_5 24 rfl rfl
theorem dksX6_centuries_7 : cX6_centuries.data.toList.drop 166 = dktX6_centuries_7 := dk_seg dksX6_centuries_6 24 rfl rfl
theorem dX6_centuries_0 : decode cX6_centuries 0 = .ok (.iload_n 1, 1) := dk_27 (dk_at dksX6_centuries_0 0 rfl rfl)
theorem dX6_centuries_1 : decode cX6_centuries 1 = .ok (.i2l, 1) := dk_133 (dk_at dksX6_centuries_0 1 rfl rfl)
theorem dX6_centuries_2 : decode cX6_centuries 2 = .ok (.lconst 0, 1) := dk_9 (dk_at dksX6_centuries_0 2 rfl rfl)
theorem dX6_centuries_3 : decode cX6_centuries 3 = .ok (.ldc2_w 198, 3) := dk_20 0 198 (dk_at dksX6_centuries_0 3 rfl rfl)
theorem dX6_centuries_6 : decode cX6_centuries 6 = .ok (.invokestatic 59, 3) := dk_184 0 59 (dk_at dksX6_centuries_0 6 rfl rfl)
theorem dX6_centuries_9 : decode cX6_centuries 9 = .ok (.ifCond .eq 15, 3) := dk_153 0 15 (dk_at dksX6_centuries_0 9 rfl rfl)
theorem dX6_centuries_12 : decode cX6_centuries 12 = .ok (.iload_n 2, 1) := dk_28 (dk_at dksX6_centuries_0 12 rfl rfl)
theorem dX6_centuries_13 : decode cX6_centuries 13 = .ok (.i2l, 1) := dk_133 (dk_at dksX6_centuries_0 13 rfl rfl)
theorem dX6_centuries_14 : decode cX6_centuries 14 = .ok (.lconst 0, 1) := dk_9 (dk_at dksX6_centuries_0 14 rfl rfl)
theorem dX6_centuries_15 : decode cX6_centuries 15 = .ok (.ldc2_w 200, 3) := dk_20 0 200 (dk_at dksX6_centuries_0 15 rfl rfl)
theorem dX6_centuries_18 : decode cX6_centuries 18 = .ok (.invokestatic 59, 3) := dk_184 0 59 (dk_at dksX6_centuries_0 18 rfl rfl)
theorem dX6_centuries_21 : decode cX6_centuries 21 = .ok (.ifCond .ne 10, 3) := dk_154 0 10 (dk_at dksX6_centuries_0 21 rfl rfl)
theorem dX6_centuries_24 : decode cX6_centuries 24 = .ok (.aload_n 0, 1) := dk_42 (dk_at dksX6_centuries_1 0 rfl rfl)
theorem dX6_centuries_25 : decode cX6_centuries 25 = .ok (.bipush (-2), 2) := dk_16 254 (dk_at dksX6_centuries_1 1 rfl rfl)
theorem dX6_centuries_27 : decode cX6_centuries 27 = .ok (.invokevirtual 73, 3) := dk_182 0 73 (dk_at dksX6_centuries_1 3 rfl rfl)
theorem dX6_centuries_30 : decode cX6_centuries 30 = .ok (.ireturn, 1) := dk_172 (dk_at dksX6_centuries_1 6 rfl rfl)
theorem dX6_centuries_31 : decode cX6_centuries 31 = .ok (.iload_n 1, 1) := dk_27 (dk_at dksX6_centuries_1 7 rfl rfl)
theorem dX6_centuries_32 : decode cX6_centuries 32 = .ok (.i2l, 1) := dk_133 (dk_at dksX6_centuries_1 8 rfl rfl)
theorem dX6_centuries_33 : decode cX6_centuries 33 = .ok (.lstore_n 3, 1) := dk_66 (dk_at dksX6_centuries_1 9 rfl rfl)
theorem dX6_centuries_34 : decode cX6_centuries 34 = .ok (.aload_n 0, 1) := dk_42 (dk_at dksX6_centuries_1 10 rfl rfl)
theorem dX6_centuries_35 : decode cX6_centuries 35 = .ok (.invokevirtual 141, 3) := dk_182 0 141 (dk_at dksX6_centuries_1 11 rfl rfl)
theorem dX6_centuries_38 : decode cX6_centuries 38 = .ok (.iconst 0, 1) := dk_3 (dk_at dksX6_centuries_1 14 rfl rfl)
theorem dX6_centuries_39 : decode cX6_centuries 39 = .ok (.istore 5, 2) := dk_54 5 (dk_at dksX6_centuries_1 15 rfl rfl)
theorem dX6_centuries_41 : decode cX6_centuries 41 = .ok (.iload 5, 2) := dk_21 5 (dk_at dksX6_centuries_1 17 rfl rfl)
theorem dX6_centuries_43 : decode cX6_centuries 43 = .ok (.iload_n 2, 1) := dk_28 (dk_at dksX6_centuries_1 19 rfl rfl)
theorem dX6_centuries_44 : decode cX6_centuries 44 = .ok (.if_icmp .ge 122, 3) := dk_162 0 122 (dk_at dksX6_centuries_1 20 rfl rfl)
theorem dX6_centuries_47 : decode cX6_centuries 47 = .ok (.lload_n 3, 1) := dk_33 (dk_at dksX6_centuries_1 23 rfl rfl)
theorem dX6_centuries_48 : decode cX6_centuries 48 = .ok (.ldc2_w 202, 3) := dk_20 0 202 (dk_at dksX6_centuries_2 0 rfl rfl)
theorem dX6_centuries_51 : decode cX6_centuries 51 = .ok (.lmul, 1) := dk_105 (dk_at dksX6_centuries_2 3 rfl rfl)
theorem dX6_centuries_52 : decode cX6_centuries 52 = .ok (.ldc2_w 204, 3) := dk_20 0 204 (dk_at dksX6_centuries_2 4 rfl rfl)
theorem dX6_centuries_55 : decode cX6_centuries 55 = .ok (.ladd, 1) := dk_97 (dk_at dksX6_centuries_2 7 rfl rfl)
theorem dX6_centuries_56 : decode cX6_centuries 56 = .ok (.ldc2_w 206, 3) := dk_20 0 206 (dk_at dksX6_centuries_2 8 rfl rfl)
theorem dX6_centuries_59 : decode cX6_centuries 59 = .ok (.lrem, 1) := dk_113 (dk_at dksX6_centuries_2 11 rfl rfl)
theorem dX6_centuries_60 : decode cX6_centuries 60 = .ok (.lstore_n 3, 1) := dk_66 (dk_at dksX6_centuries_2 12 rfl rfl)
theorem dX6_centuries_61 : decode cX6_centuries 61 = .ok (.lload_n 3, 1) := dk_33 (dk_at dksX6_centuries_2 13 rfl rfl)
theorem dX6_centuries_62 : decode cX6_centuries 62 = .ok (.ldc2_w 208, 3) := dk_20 0 208 (dk_at dksX6_centuries_2 14 rfl rfl)
theorem dX6_centuries_65 : decode cX6_centuries 65 = .ok (.ldiv, 1) := dk_109 (dk_at dksX6_centuries_2 17 rfl rfl)
theorem dX6_centuries_66 : decode cX6_centuries 66 = .ok (.ldc2_w 127, 3) := dk_20 0 127 (dk_at dksX6_centuries_2 18 rfl rfl)
theorem dX6_centuries_69 : decode cX6_centuries 69 = .ok (.lrem, 1) := dk_113 (dk_at dksX6_centuries_2 21 rfl rfl)
theorem dX6_centuries_70 : decode cX6_centuries 70 = .ok (.l2i, 1) := dk_136 (dk_at dksX6_centuries_2 22 rfl rfl)
theorem dX6_centuries_71 : decode cX6_centuries 71 = .ok (.istore 6, 2) := dk_54 6 (dk_at dksX6_centuries_3 0 rfl rfl)
theorem dX6_centuries_73 : decode cX6_centuries 73 = .ok (.lload_n 3, 1) := dk_33 (dk_at dksX6_centuries_3 2 rfl rfl)
theorem dX6_centuries_74 : decode cX6_centuries 74 = .ok (.ldc2_w 210, 3) := dk_20 0 210 (dk_at dksX6_centuries_3 3 rfl rfl)
theorem dX6_centuries_77 : decode cX6_centuries 77 = .ok (.ldiv, 1) := dk_109 (dk_at dksX6_centuries_3 6 rfl rfl)
theorem dX6_centuries_78 : decode cX6_centuries 78 = .ok (.ldc2_w 212, 3) := dk_20 0 212 (dk_at dksX6_centuries_3 7 rfl rfl)
theorem dX6_centuries_81 : decode cX6_centuries 81 = .ok (.lrem, 1) := dk_113 (dk_at dksX6_centuries_3 10 rfl rfl)
theorem dX6_centuries_82 : decode cX6_centuries 82 = .ok (.l2i, 1) := dk_136 (dk_at dksX6_centuries_3 11 rfl rfl)
theorem dX6_centuries_83 : decode cX6_centuries 83 = .ok (.istore 7, 2) := dk_54 7 (dk_at dksX6_centuries_3 12 rfl rfl)
theorem dX6_centuries_85 : decode cX6_centuries 85 = .ok (.aload_n 0, 1) := dk_42 (dk_at dksX6_centuries_3 14 rfl rfl)
theorem dX6_centuries_86 : decode cX6_centuries 86 = .ok (.iload 6, 2) := dk_21 6 (dk_at dksX6_centuries_3 15 rfl rfl)
theorem dX6_centuries_88 : decode cX6_centuries 88 = .ok (.invokevirtual 83, 3) := dk_182 0 83 (dk_at dksX6_centuries_3 17 rfl rfl)
theorem dX6_centuries_91 : decode cX6_centuries 91 = .ok (.ifCond .eq 24, 3) := dk_153 0 24 (dk_at dksX6_centuries_3 20 rfl rfl)
theorem dX6_centuries_94 : decode cX6_centuries 94 = .ok (.iload 7, 2) := dk_21 7 (dk_at dksX6_centuries_4 0 rfl rfl)
theorem dX6_centuries_96 : decode cX6_centuries 96 = .ok (.bipush 8, 2) := dk_16 8 (dk_at dksX6_centuries_4 2 rfl rfl)
theorem dX6_centuries_98 : decode cX6_centuries 98 = .ok (.if_icmp .lt 17, 3) := dk_161 0 17 (dk_at dksX6_centuries_4 4 rfl rfl)
theorem dX6_centuries_101 : decode cX6_centuries 101 = .ok (.aload_n 0, 1) := dk_42 (dk_at dksX6_centuries_4 7 rfl rfl)
theorem dX6_centuries_102 : decode cX6_centuries 102 = .ok (.getfield 27, 3) := dk_180 0 27 (dk_at dksX6_centuries_4 8 rfl rfl)
theorem dX6_centuries_105 : decode cX6_centuries 105 = .ok (.iload 6, 2) := dk_21 6 (dk_at dksX6_centuries_4 11 rfl rfl)
theorem dX6_centuries_107 : decode cX6_centuries 107 = .ok (.invokestatic 117, 3) := dk_184 0 117 (dk_at dksX6_centuries_4 13 rfl rfl)
theorem dX6_centuries_110 : decode cX6_centuries 110 = .ok (.istore 8, 2) := dk_54 8 (dk_at dksX6_centuries_4 16 rfl rfl)
theorem dX6_centuries_112 : decode cX6_centuries 112 = .ok (.goto 48, 3) := dk_167 0 48 (dk_at dksX6_centuries_4 18 rfl rfl)
theorem dX6_centuries_115 : decode cX6_centuries 115 = .ok (.aload_n 0, 1) := dk_42 (dk_at dksX6_centuries_4 21 rfl rfl)
theorem dX6_centuries_116 : decode cX6_centuries 116 = .ok (.iload 6, 2) := dk_21 6 (dk_at dksX6_centuries_4 22 rfl rfl)
theorem dX6_centuries_118 : decode cX6_centuries 118 = .ok (.invokevirtual 83, 3) := dk_182 0 83 (dk_at dksX6_centuries_5 0 rfl rfl)
theorem dX6_centuries_121 : decode cX6_centuries 121 = .ok (.ifCond .eq 39, 3) := dk_153 0 39 (dk_at dksX6_centuries_5 3 rfl rfl)
theorem dX6_centuries_124 : decode cX6_centuries 124 = .ok (.aload_n 0, 1) := dk_42 (dk_at dksX6_centuries_5 6 rfl rfl)
theorem dX6_centuries_125 : decode cX6_centuries 125 = .ok (.iload 7, 2) := dk_21 7 (dk_at dksX6_centuries_5 7 rfl rfl)
theorem dX6_centuries_127 : decode cX6_centuries 127 = .ok (.invokevirtual 120, 3) := dk_182 0 120 (dk_at dksX6_centuries_5 9 rfl rfl)
theorem dX6_centuries_130 : decode cX6_centuries 130 = .ok (.ifCond .eq 30, 3) := dk_153 0 30 (dk_at dksX6_centuries_5 12 rfl rfl)
theorem dX6_centuries_133 : decode cX6_centuries 133 = .ok (.aload_n 0, 1) := dk_42 (dk_at dksX6_centuries_5 15 rfl rfl)
theorem dX6_centuries_134 : decode cX6_centuries 134 = .ok (.getfield 27, 3) := dk_180 0 27 (dk_at dksX6_centuries_5 16 rfl rfl)
theorem dX6_centuries_137 : decode cX6_centuries 137 = .ok (.bipush 6, 2) := dk_16 6 (dk_at dksX6_centuries_5 19 rfl rfl)
theorem dX6_centuries_139 : decode cX6_centuries 139 = .ok (.iload 7, 2) := dk_21 7 (dk_at dksX6_centuries_5 21 rfl rfl)
theorem dX6_centuries_141 : decode cX6_centuries 141 = .ok (.iadd, 1) := dk_96 (dk_at dksX6_centuries_5 23 rfl rfl)
theorem dX6_centuries_142 : decode cX6_centuries 142 = .ok (.iaload, 1) := dk_46 (dk_at dksX6_centuries_6 0 rfl rfl)
theorem dX6_centuries_143 : decode cX6_centuries 143 = .ok (.ifCond .ne 17, 3) := dk_154 0 17 (dk_at dksX6_centuries_6 1 rfl rfl)
theorem dX6_centuries_146 : decode cX6_centuries 146 = .ok (.aload_n 0, 1) := dk_42 (dk_at dksX6_centuries_6 4 rfl rfl)
theorem dX6_centuries_147 : decode cX6_centuries 147 = .ok (.getfield 27, 3) := dk_180 0 27 (dk_at dksX6_centuries_6 5 rfl rfl)
theorem dX6_centuries_150 : decode cX6_centuries 150 = .ok (.bipush 6, 2) := dk_16 6 (dk_at dksX6_centuries_6 8 rfl rfl)
theorem dX6_centuries_152 : decode cX6_centuries 152 = .ok (.iload 7, 2) := dk_21 7 (dk_at dksX6_centuries_6 10 rfl rfl)
theorem dX6_centuries_154 : decode cX6_centuries 154 = .ok (.iadd, 1) := dk_96 (dk_at dksX6_centuries_6 12 rfl rfl)
theorem dX6_centuries_155 : decode cX6_centuries 155 = .ok (.iload 6, 2) := dk_21 6 (dk_at dksX6_centuries_6 13 rfl rfl)
theorem dX6_centuries_157 : decode cX6_centuries 157 = .ok (.iconst 1, 1) := dk_4 (dk_at dksX6_centuries_6 15 rfl rfl)
theorem dX6_centuries_158 : decode cX6_centuries 158 = .ok (.iadd, 1) := dk_96 (dk_at dksX6_centuries_6 16 rfl rfl)
theorem dX6_centuries_159 : decode cX6_centuries 159 = .ok (.iastore, 1) := dk_79 (dk_at dksX6_centuries_6 17 rfl rfl)
theorem dX6_centuries_160 : decode cX6_centuries 160 = .ok (.iinc 5 1, 3) := dk_132 5 1 (dk_at dksX6_centuries_6 18 rfl rfl)
theorem dX6_centuries_163 : decode cX6_centuries 163 = .ok (.goto (-122), 3) := dk_167 255 134 (dk_at dksX6_centuries_6 21 rfl rfl)
theorem dX6_centuries_166 : decode cX6_centuries 166 = .ok (.aload_n 0, 1) := dk_42 (dk_at dksX6_centuries_7 0 rfl rfl)
theorem dX6_centuries_167 : decode cX6_centuries 167 = .ok (.getfield 27, 3) := dk_180 0 27 (dk_at dksX6_centuries_7 1 rfl rfl)
theorem dX6_centuries_170 : decode cX6_centuries 170 = .ok (.iconst 0, 1) := dk_3 (dk_at dksX6_centuries_7 4 rfl rfl)
theorem dX6_centuries_171 : decode cX6_centuries 171 = .ok (.invokestatic 94, 3) := dk_184 0 94 (dk_at dksX6_centuries_7 5 rfl rfl)
theorem dX6_centuries_174 : decode cX6_centuries 174 = .ok (.ireturn, 1) := dk_172 (dk_at dksX6_centuries_7 8 rfl rfl)
abbrev cX6_type : ByteArray := prog_21_method_68_code
def yX6_type : MethodName := ⟨RX6, "type", "(I)I"⟩
def dkwX6_type_2 : List UInt8 := [180, 0, 216, 4, 96, 181, 0, 216, 42, 180, 0, 216, 172]
abbrev dktX6_type_2 : List UInt8 := dkwX6_type_2 ++ []
def dkwX6_type_1 : List UInt8 := [17, 0, 150, 160, 0, 8, 42, 182, 0, 77, 172, 42, 180, 0, 42, 42, 180, 0, 216, 27, 79, 42, 89]
abbrev dktX6_type_1 : List UInt8 := dkwX6_type_1 ++ dktX6_type_2
def dkwX6_type_0 : List UInt8 := [27, 133, 9, 20, 0, 214, 184, 0, 59, 154, 0, 10, 42, 16, 254, 182, 0, 73, 172, 42, 180, 0, 216]
abbrev dktX6_type_0 : List UInt8 := dkwX6_type_0 ++ dktX6_type_1
theorem dksX6_type_0 : cX6_type.data.toList.drop 0 = dktX6_type_0 := by decide +kernel
theorem dksX6_type_1 : cX6_type.data.toList.drop 23 = dktX6_type_1 := dk_seg dksX6_type_0 23 rfl rfl
theorem dksX6_type_2 : cX6_type.data.toList.drop 46 = dktX6_type_2 := dk_seg dksX6_type_1 23 rfl rfl
theorem dX6_type_0 : decode cX6_type 0 = .ok (.iload_n 1, 1) := dk_27 (dk_at dksX6_type_0 0 rfl rfl)
theorem dX6_type_1 : decode cX6_type 1 = .ok (.i2l, 1) := dk_133 (dk_at dksX6_type_0 1 rfl rfl)
theorem dX6_type_2 : decode cX6_type 2 = .ok (.lconst 0, 1) := dk_9 (dk_at dksX6_type_0 2 rfl rfl)
theorem dX6_type_3 : decode cX6_type 3 = .ok (.ldc2_w 214, 3) := dk_20 0 214 (dk_at dksX6_type_0 3 rfl rfl)
theorem dX6_type_6 : decode cX6_type 6 = .ok (.invokestatic 59, 3) := dk_184 0 59 (dk_at dksX6_type_0 6 rfl rfl)
theorem dX6_type_9 : decode cX6_type 9 = .ok (.ifCond .ne 10, 3) := dk_154 0 10 (dk_at dksX6_type_0 9 rfl rfl)
theorem dX6_type_12 : decode cX6_type 12 = .ok (.aload_n 0, 1) := dk_42 (dk_at dksX6_type_0 12 rfl rfl)
theorem dX6_type_13 : decode cX6_type 13 = .ok (.bipush (-2), 2) := dk_16 254 (dk_at dksX6_type_0 13 rfl rfl)
theorem dX6_type_15 : decode cX6_type 15 = .ok (.invokevirtual 73, 3) := dk_182 0 73 (dk_at dksX6_type_0 15 rfl rfl)
theorem dX6_type_18 : decode cX6_type 18 = .ok (.ireturn, 1) := dk_172 (dk_at dksX6_type_0 18 rfl rfl)
theorem dX6_type_19 : decode cX6_type 19 = .ok (.aload_n 0, 1) := dk_42 (dk_at dksX6_type_0 19 rfl rfl)
theorem dX6_type_20 : decode cX6_type 20 = .ok (.getfield 216, 3) := dk_180 0 216 (dk_at dksX6_type_0 20 rfl rfl)
theorem dX6_type_23 : decode cX6_type 23 = .ok (.sipush 150, 3) := dk_17 0 150 (dk_at dksX6_type_1 0 rfl rfl)
theorem dX6_type_26 : decode cX6_type 26 = .ok (.if_icmp .ne 8, 3) := dk_160 0 8 (dk_at dksX6_type_1 3 rfl rfl)
theorem dX6_type_29 : decode cX6_type 29 = .ok (.aload_n 0, 1) := dk_42 (dk_at dksX6_type_1 6 rfl rfl)
theorem dX6_type_30 : decode cX6_type 30 = .ok (.invokevirtual 77, 3) := dk_182 0 77 (dk_at dksX6_type_1 7 rfl rfl)
theorem dX6_type_33 : decode cX6_type 33 = .ok (.ireturn, 1) := dk_172 (dk_at dksX6_type_1 10 rfl rfl)
theorem dX6_type_34 : decode cX6_type 34 = .ok (.aload_n 0, 1) := dk_42 (dk_at dksX6_type_1 11 rfl rfl)
theorem dX6_type_35 : decode cX6_type 35 = .ok (.getfield 42, 3) := dk_180 0 42 (dk_at dksX6_type_1 12 rfl rfl)
theorem dX6_type_38 : decode cX6_type 38 = .ok (.aload_n 0, 1) := dk_42 (dk_at dksX6_type_1 15 rfl rfl)
theorem dX6_type_39 : decode cX6_type 39 = .ok (.getfield 216, 3) := dk_180 0 216 (dk_at dksX6_type_1 16 rfl rfl)
theorem dX6_type_42 : decode cX6_type 42 = .ok (.iload_n 1, 1) := dk_27 (dk_at dksX6_type_1 19 rfl rfl)
theorem dX6_type_43 : decode cX6_type 43 = .ok (.iastore, 1) := dk_79 (dk_at dksX6_type_1 20 rfl rfl)
theorem dX6_type_44 : decode cX6_type 44 = .ok (.aload_n 0, 1) := dk_42 (dk_at dksX6_type_1 21 rfl rfl)
theorem dX6_type_45 : decode cX6_type 45 = .ok (.dup, 1) := dk_89 (dk_at dksX6_type_1 22 rfl rfl)
theorem dX6_type_46 : decode cX6_type 46 = .ok (.getfield 216, 3) := dk_180 0 216 (dk_at dksX6_type_2 0 rfl rfl)
theorem dX6_type_49 : decode cX6_type 49 = .ok (.iconst 1, 1) := dk_4 (dk_at dksX6_type_2 3 rfl rfl)
theorem dX6_type_50 : decode cX6_type 50 = .ok (.iadd, 1) := dk_96 (dk_at dksX6_type_2 4 rfl rfl)
theorem dX6_type_51 : decode cX6_type 51 = .ok (.putfield 216, 3) := dk_181 0 216 (dk_at dksX6_type_2 5 rfl rfl)
theorem dX6_type_54 : decode cX6_type 54 = .ok (.aload_n 0, 1) := dk_42 (dk_at dksX6_type_2 8 rfl rfl)
theorem dX6_type_55 : decode cX6_type 55 = .ok (.getfield 216, 3) := dk_180 0 216 (dk_at dksX6_type_2 9 rfl rfl)
theorem dX6_type_58 : decode cX6_type 58 = .ok (.ireturn, 1) := dk_172 (dk_at dksX6_type_2 12 rfl rfl)
abbrev cX6_clear : ByteArray := prog_21_method_69_code
def yX6_clear : MethodName := ⟨RX6, "clear", "()I"⟩
def dkwX6_clear_0 : List UInt8 := [42, 180, 0, 216, 60, 42, 3, 181, 0, 216, 27, 172]
abbrev dktX6_clear_0 : List UInt8 := dkwX6_clear_0 ++ []
theorem dksX6_clear_0 : cX6_clear.data.toList.drop 0 = dktX6_clear_0 := by decide +kernel
theorem dX6_clear_0 : decode cX6_clear 0 = .ok (.aload_n 0, 1) := dk_42 (dk_at dksX6_clear_0 0 rfl rfl)
theorem dX6_clear_1 : decode cX6_clear 1 = .ok (.getfield 216, 3) := dk_180 0 216 (dk_at dksX6_clear_0 1 rfl rfl)
theorem dX6_clear_4 : decode cX6_clear 4 = .ok (.istore_n 1, 1) := dk_60 (dk_at dksX6_clear_0 4 rfl rfl)
theorem dX6_clear_5 : decode cX6_clear 5 = .ok (.aload_n 0, 1) := dk_42 (dk_at dksX6_clear_0 5 rfl rfl)
theorem dX6_clear_6 : decode cX6_clear 6 = .ok (.iconst 0, 1) := dk_3 (dk_at dksX6_clear_0 6 rfl rfl)
theorem dX6_clear_7 : decode cX6_clear 7 = .ok (.putfield 216, 3) := dk_181 0 216 (dk_at dksX6_clear_0 7 rfl rfl)
theorem dX6_clear_10 : decode cX6_clear 10 = .ok (.iload_n 1, 1) := dk_27 (dk_at dksX6_clear_0 10 rfl rfl)
theorem dX6_clear_11 : decode cX6_clear 11 = .ok (.ireturn, 1) := dk_172 (dk_at dksX6_clear_0 11 rfl rfl)
abbrev cX6_read : ByteArray := prog_21_method_81_code
def yX6_read : MethodName := ⟨RX6, "read", "()I"⟩
def dkwX6_read_5 : List UInt8 := [180, 0, 7, 28, 42, 180, 0, 45, 28, 46, 79, 132, 2, 1, 167, 255, 235, 27, 172]
abbrev dktX6_read_5 : List UInt8 := dkwX6_read_5 ++ []
def dkwX6_read_4 : List UInt8 := [180, 0, 228, 100, 172, 42, 182, 0, 250, 132, 1, 1, 167, 255, 219, 3, 61, 28, 16, 104, 162, 0, 21, 42]
abbrev dktX6_read_4 : List UInt8 := dkwX6_read_4 ++ dktX6_read_5
def dkwX6_read_3 : List UInt8 := [180, 0, 234, 153, 0, 36, 42, 182, 1, 18, 153, 0, 11, 42, 180, 0, 234, 6, 159, 0, 11, 16, 246, 42]
abbrev dktX6_read_3 : List UInt8 := dkwX6_read_3 ++ dktX6_read_4
def dkwX6_read_2 : List UInt8 := [16, 246, 42, 180, 0, 228, 100, 172, 42, 182, 0, 250, 42, 180, 0, 45, 184, 0, 51, 4, 60, 42]
abbrev dktX6_read_2 : List UInt8 := dkwX6_read_2 ++ dktX6_read_3
def dkwX6_read_1 : List UInt8 := [154, 0, 11, 16, 246, 42, 180, 0, 228, 100, 172, 42, 182, 0, 250, 42, 180, 0, 234, 6, 159, 0, 11]
abbrev dktX6_read_1 : List UInt8 := dkwX6_read_1 ++ dktX6_read_2
def dkwX6_read_0 : List UInt8 := [42, 3, 182, 0, 246, 42, 16, 6, 16, 105, 16, 115, 16, 108, 16, 97, 16, 110, 16, 100, 182, 1, 1]
abbrev dktX6_read_0 : List UInt8 := dkwX6_read_0 ++ dktX6_read_1
theorem dksX6_read_0 : cX6_read.data.toList.drop 0 = dktX6_read_0 := by decide +kernel
theorem dksX6_read_1 : cX6_read.data.toList.drop 23 = dktX6_read_1 := dk_seg dksX6_read_0 23 rfl rfl
theorem dksX6_read_2 : cX6_read.data.toList.drop 46 = dktX6_read_2 := dk_seg dksX6_read_1 23 rfl rfl
theorem dksX6_read_3 : cX6_read.data.toList.drop 68 = dktX6_read_3 := dk_seg dksX6_read_2 22 rfl rfl
theorem dksX6_read_4 : cX6_read.data.toList.drop 92 = dktX6_read_4 := dk_seg dksX6_read_3 24 rfl rfl
theorem dksX6_read_5 : cX6_read.data.toList.drop 116 = dktX6_read_5 := dk_seg dksX6_read_4 24 rfl rfl
theorem dX6_read_0 : decode cX6_read 0 = .ok (.aload_n 0, 1) := dk_42 (dk_at dksX6_read_0 0 rfl rfl)
theorem dX6_read_1 : decode cX6_read 1 = .ok (.iconst 0, 1) := dk_3 (dk_at dksX6_read_0 1 rfl rfl)
theorem dX6_read_2 : decode cX6_read 2 = .ok (.invokevirtual 246, 3) := dk_182 0 246 (dk_at dksX6_read_0 2 rfl rfl)
theorem dX6_read_5 : decode cX6_read 5 = .ok (.aload_n 0, 1) := dk_42 (dk_at dksX6_read_0 5 rfl rfl)
theorem dX6_read_6 : decode cX6_read 6 = .ok (.bipush 6, 2) := dk_16 6 (dk_at dksX6_read_0 6 rfl rfl)
theorem dX6_read_8 : decode cX6_read 8 = .ok (.bipush 105, 2) := dk_16 105 (dk_at dksX6_read_0 8 rfl rfl)
theorem dX6_read_10 : decode cX6_read 10 = .ok (.bipush 115, 2) := dk_16 115 (dk_at dksX6_read_0 10 rfl rfl)
theorem dX6_read_12 : decode cX6_read 12 = .ok (.bipush 108, 2) := dk_16 108 (dk_at dksX6_read_0 12 rfl rfl)
theorem dX6_read_14 : decode cX6_read 14 = .ok (.bipush 97, 2) := dk_16 97 (dk_at dksX6_read_0 14 rfl rfl)
theorem dX6_read_16 : decode cX6_read 16 = .ok (.bipush 110, 2) := dk_16 110 (dk_at dksX6_read_0 16 rfl rfl)
theorem dX6_read_18 : decode cX6_read 18 = .ok (.bipush 100, 2) := dk_16 100 (dk_at dksX6_read_0 18 rfl rfl)
theorem dX6_read_20 : decode cX6_read 20 = .ok (.invokevirtual 257, 3) := dk_182 1 1 (dk_at dksX6_read_0 20 rfl rfl)
theorem dX6_read_23 : decode cX6_read 23 = .ok (.ifCond .ne 11, 3) := dk_154 0 11 (dk_at dksX6_read_1 0 rfl rfl)
theorem dX6_read_26 : decode cX6_read 26 = .ok (.bipush (-10), 2) := dk_16 246 (dk_at dksX6_read_1 3 rfl rfl)
theorem dX6_read_28 : decode cX6_read 28 = .ok (.aload_n 0, 1) := dk_42 (dk_at dksX6_read_1 5 rfl rfl)
theorem dX6_read_29 : decode cX6_read 29 = .ok (.getfield 228, 3) := dk_180 0 228 (dk_at dksX6_read_1 6 rfl rfl)
theorem dX6_read_32 : decode cX6_read 32 = .ok (.isub, 1) := dk_100 (dk_at dksX6_read_1 9 rfl rfl)
theorem dX6_read_33 : decode cX6_read 33 = .ok (.ireturn, 1) := dk_172 (dk_at dksX6_read_1 10 rfl rfl)
theorem dX6_read_34 : decode cX6_read 34 = .ok (.aload_n 0, 1) := dk_42 (dk_at dksX6_read_1 11 rfl rfl)
theorem dX6_read_35 : decode cX6_read 35 = .ok (.invokevirtual 250, 3) := dk_182 0 250 (dk_at dksX6_read_1 12 rfl rfl)
theorem dX6_read_38 : decode cX6_read 38 = .ok (.aload_n 0, 1) := dk_42 (dk_at dksX6_read_1 15 rfl rfl)
theorem dX6_read_39 : decode cX6_read 39 = .ok (.getfield 234, 3) := dk_180 0 234 (dk_at dksX6_read_1 16 rfl rfl)
theorem dX6_read_42 : decode cX6_read 42 = .ok (.iconst 3, 1) := dk_6 (dk_at dksX6_read_1 19 rfl rfl)
theorem dX6_read_43 : decode cX6_read 43 = .ok (.if_icmp .eq 11, 3) := dk_159 0 11 (dk_at dksX6_read_1 20 rfl rfl)
theorem dX6_read_46 : decode cX6_read 46 = .ok (.bipush (-10), 2) := dk_16 246 (dk_at dksX6_read_2 0 rfl rfl)
theorem dX6_read_48 : decode cX6_read 48 = .ok (.aload_n 0, 1) := dk_42 (dk_at dksX6_read_2 2 rfl rfl)
theorem dX6_read_49 : decode cX6_read 49 = .ok (.getfield 228, 3) := dk_180 0 228 (dk_at dksX6_read_2 3 rfl rfl)
theorem dX6_read_52 : decode cX6_read 52 = .ok (.isub, 1) := dk_100 (dk_at dksX6_read_2 6 rfl rfl)
theorem dX6_read_53 : decode cX6_read 53 = .ok (.ireturn, 1) := dk_172 (dk_at dksX6_read_2 7 rfl rfl)
theorem dX6_read_54 : decode cX6_read 54 = .ok (.aload_n 0, 1) := dk_42 (dk_at dksX6_read_2 8 rfl rfl)
theorem dX6_read_55 : decode cX6_read 55 = .ok (.invokevirtual 250, 3) := dk_182 0 250 (dk_at dksX6_read_2 9 rfl rfl)
theorem dX6_read_58 : decode cX6_read 58 = .ok (.aload_n 0, 1) := dk_42 (dk_at dksX6_read_2 12 rfl rfl)
theorem dX6_read_59 : decode cX6_read 59 = .ok (.getfield 45, 3) := dk_180 0 45 (dk_at dksX6_read_2 13 rfl rfl)
theorem dX6_read_62 : decode cX6_read 62 = .ok (.invokestatic 51, 3) := dk_184 0 51 (dk_at dksX6_read_2 16 rfl rfl)
theorem dX6_read_65 : decode cX6_read 65 = .ok (.iconst 1, 1) := dk_4 (dk_at dksX6_read_2 19 rfl rfl)
theorem dX6_read_66 : decode cX6_read 66 = .ok (.istore_n 1, 1) := dk_60 (dk_at dksX6_read_2 20 rfl rfl)
theorem dX6_read_67 : decode cX6_read 67 = .ok (.aload_n 0, 1) := dk_42 (dk_at dksX6_read_2 21 rfl rfl)
theorem dX6_read_68 : decode cX6_read 68 = .ok (.getfield 234, 3) := dk_180 0 234 (dk_at dksX6_read_3 0 rfl rfl)
theorem dX6_read_71 : decode cX6_read 71 = .ok (.ifCond .eq 36, 3) := dk_153 0 36 (dk_at dksX6_read_3 3 rfl rfl)
theorem dX6_read_74 : decode cX6_read 74 = .ok (.aload_n 0, 1) := dk_42 (dk_at dksX6_read_3 6 rfl rfl)
theorem dX6_read_75 : decode cX6_read 75 = .ok (.invokevirtual 274, 3) := dk_182 1 18 (dk_at dksX6_read_3 7 rfl rfl)
theorem dX6_read_78 : decode cX6_read 78 = .ok (.ifCond .eq 11, 3) := dk_153 0 11 (dk_at dksX6_read_3 10 rfl rfl)
theorem dX6_read_81 : decode cX6_read 81 = .ok (.aload_n 0, 1) := dk_42 (dk_at dksX6_read_3 13 rfl rfl)
theorem dX6_read_82 : decode cX6_read 82 = .ok (.getfield 234, 3) := dk_180 0 234 (dk_at dksX6_read_3 14 rfl rfl)
theorem dX6_read_85 : decode cX6_read 85 = .ok (.iconst 3, 1) := dk_6 (dk_at dksX6_read_3 17 rfl rfl)
theorem dX6_read_86 : decode cX6_read 86 = .ok (.if_icmp .eq 11, 3) := dk_159 0 11 (dk_at dksX6_read_3 18 rfl rfl)
theorem dX6_read_89 : decode cX6_read 89 = .ok (.bipush (-10), 2) := dk_16 246 (dk_at dksX6_read_3 21 rfl rfl)
theorem dX6_read_91 : decode cX6_read 91 = .ok (.aload_n 0, 1) := dk_42 (dk_at dksX6_read_3 23 rfl rfl)
theorem dX6_read_92 : decode cX6_read 92 = .ok (.getfield 228, 3) := dk_180 0 228 (dk_at dksX6_read_4 0 rfl rfl)
theorem dX6_read_95 : decode cX6_read 95 = .ok (.isub, 1) := dk_100 (dk_at dksX6_read_4 3 rfl rfl)
theorem dX6_read_96 : decode cX6_read 96 = .ok (.ireturn, 1) := dk_172 (dk_at dksX6_read_4 4 rfl rfl)
theorem dX6_read_97 : decode cX6_read 97 = .ok (.aload_n 0, 1) := dk_42 (dk_at dksX6_read_4 5 rfl rfl)
theorem dX6_read_98 : decode cX6_read 98 = .ok (.invokevirtual 250, 3) := dk_182 0 250 (dk_at dksX6_read_4 6 rfl rfl)
theorem dX6_read_101 : decode cX6_read 101 = .ok (.iinc 1 1, 3) := dk_132 1 1 (dk_at dksX6_read_4 9 rfl rfl)
theorem dX6_read_104 : decode cX6_read 104 = .ok (.goto (-37), 3) := dk_167 255 219 (dk_at dksX6_read_4 12 rfl rfl)
theorem dX6_read_107 : decode cX6_read 107 = .ok (.iconst 0, 1) := dk_3 (dk_at dksX6_read_4 15 rfl rfl)
theorem dX6_read_108 : decode cX6_read 108 = .ok (.istore_n 2, 1) := dk_61 (dk_at dksX6_read_4 16 rfl rfl)
theorem dX6_read_109 : decode cX6_read 109 = .ok (.iload_n 2, 1) := dk_28 (dk_at dksX6_read_4 17 rfl rfl)
theorem dX6_read_110 : decode cX6_read 110 = .ok (.bipush 104, 2) := dk_16 104 (dk_at dksX6_read_4 18 rfl rfl)
theorem dX6_read_112 : decode cX6_read 112 = .ok (.if_icmp .ge 21, 3) := dk_162 0 21 (dk_at dksX6_read_4 20 rfl rfl)
theorem dX6_read_115 : decode cX6_read 115 = .ok (.aload_n 0, 1) := dk_42 (dk_at dksX6_read_4 23 rfl rfl)
theorem dX6_read_116 : decode cX6_read 116 = .ok (.getfield 7, 3) := dk_180 0 7 (dk_at dksX6_read_5 0 rfl rfl)
theorem dX6_read_119 : decode cX6_read 119 = .ok (.iload_n 2, 1) := dk_28 (dk_at dksX6_read_5 3 rfl rfl)
theorem dX6_read_120 : decode cX6_read 120 = .ok (.aload_n 0, 1) := dk_42 (dk_at dksX6_read_5 4 rfl rfl)
theorem dX6_read_121 : decode cX6_read 121 = .ok (.getfield 45, 3) := dk_180 0 45 (dk_at dksX6_read_5 5 rfl rfl)
theorem dX6_read_124 : decode cX6_read 124 = .ok (.iload_n 2, 1) := dk_28 (dk_at dksX6_read_5 8 rfl rfl)
theorem dX6_read_125 : decode cX6_read 125 = .ok (.iaload, 1) := dk_46 (dk_at dksX6_read_5 9 rfl rfl)
theorem dX6_read_126 : decode cX6_read 126 = .ok (.iastore, 1) := dk_79 (dk_at dksX6_read_5 10 rfl rfl)
theorem dX6_read_127 : decode cX6_read 127 = .ok (.iinc 2 1, 3) := dk_132 2 1 (dk_at dksX6_read_5 11 rfl rfl)
theorem dX6_read_130 : decode cX6_read 130 = .ok (.goto (-21), 3) := dk_167 255 235 (dk_at dksX6_read_5 14 rfl rfl)
theorem dX6_read_133 : decode cX6_read 133 = .ok (.iload_n 1, 1) := dk_27 (dk_at dksX6_read_5 17 rfl rfl)
theorem dX6_read_134 : decode cX6_read 134 = .ok (.ireturn, 1) := dk_172 (dk_at dksX6_read_5 18 rfl rfl)
abbrev cX6_lookAt : ByteArray := prog_21_method_72_code
def yX6_lookAt : MethodName := ⟨RX6, "lookAt", "(I)V"⟩
def dkwX6_lookAt_12 : List UInt8 := [160, 0, 15, 42, 180, 0, 231, 5, 164, 0, 7, 7, 167, 0, 7, 42, 180, 0, 234, 181, 0, 234, 177]
abbrev dktX6_lookAt_12 : List UInt8 := dkwX6_lookAt_12 ++ []
def dkwX6_lookAt_11 : List UInt8 := [21, 4, 96, 46, 96, 16, 48, 100, 181, 0, 237, 132, 4, 1, 167, 255, 203, 42, 42, 180, 0, 234, 5]
abbrev dktX6_lookAt_11 : List UInt8 := dkwX6_lookAt_11 ++ dktX6_lookAt_12
def dkwX6_lookAt_10 : List UInt8 := [180, 0, 234, 5, 160, 0, 36, 42, 16, 10, 42, 180, 0, 237, 104, 42, 180, 0, 42, 42, 180, 0, 228]
abbrev dktX6_lookAt_10 : List UInt8 := dkwX6_lookAt_10 ++ dktX6_lookAt_11
def dkwX6_lookAt_9 : List UInt8 := [167, 255, 180, 3, 54, 4, 21, 4, 42, 180, 0, 231, 162, 0, 50, 21, 4, 5, 162, 0, 44, 42]
abbrev dktX6_lookAt_9 : List UInt8 := dkwX6_lookAt_9 ++ dktX6_lookAt_10
def dkwX6_lookAt_8 : List UInt8 := [21, 4, 184, 0, 243, 62, 42, 89, 180, 0, 231, 29, 153, 0, 7, 4, 167, 0, 4, 3, 96, 181, 0, 231]
abbrev dktX6_lookAt_8 : List UInt8 := dkwX6_lookAt_8 ++ dktX6_lookAt_9
def dkwX6_lookAt_7 : List UInt8 := [180, 0, 231, 96, 46, 54, 4, 42, 180, 0, 234, 4, 160, 0, 11, 21, 4, 184, 0, 240, 167, 0, 8]
abbrev dktX6_lookAt_7 : List UInt8 := dkwX6_lookAt_7 ++ dktX6_lookAt_8
def dkwX6_lookAt_6 : List UInt8 := [180, 0, 228, 42, 180, 0, 231, 96, 42, 180, 0, 216, 162, 0, 62, 42, 180, 0, 42, 42, 180, 0, 228, 42]
abbrev dktX6_lookAt_6 : List UInt8 := dkwX6_lookAt_6 ++ dktX6_lookAt_7
def dkwX6_lookAt_5 : List UInt8 := [42, 4, 181, 0, 231, 42, 180, 0, 234, 6, 162, 0, 7, 4, 167, 0, 4, 3, 62, 29, 153, 0, 78, 42]
abbrev dktX6_lookAt_5 : List UInt8 := dkwX6_lookAt_5 ++ dktX6_lookAt_6
def dkwX6_lookAt_4 : List UInt8 := [184, 0, 243, 153, 0, 7, 5, 167, 0, 14, 28, 16, 59, 160, 0, 7, 6, 167, 0, 4, 7, 181, 0, 234]
abbrev dktX6_lookAt_4 : List UInt8 := dkwX6_lookAt_4 ++ dktX6_lookAt_5
def dkwX6_lookAt_3 : List UInt8 := [180, 0, 42, 42, 180, 0, 228, 46, 61, 42, 28, 184, 0, 240, 153, 0, 7, 4, 167, 0, 25, 28]
abbrev dktX6_lookAt_3 : List UInt8 := dkwX6_lookAt_3 ++ dktX6_lookAt_4
def dkwX6_lookAt_2 : List UInt8 := [42, 3, 181, 0, 234, 42, 3, 181, 0, 237, 42, 180, 0, 228, 42, 180, 0, 216, 160, 0, 4, 177, 42]
abbrev dktX6_lookAt_2 : List UInt8 := dkwX6_lookAt_2 ++ dktX6_lookAt_3
def dkwX6_lookAt_1 : List UInt8 := [46, 16, 32, 160, 0, 16, 42, 89, 180, 0, 228, 4, 96, 181, 0, 228, 167, 255, 221, 42, 3, 181, 0, 231]
abbrev dktX6_lookAt_1 : List UInt8 := dkwX6_lookAt_1 ++ dktX6_lookAt_2
def dkwX6_lookAt_0 : List UInt8 := [42, 27, 181, 0, 228, 42, 180, 0, 228, 42, 180, 0, 216, 162, 0, 30, 42, 180, 0, 42, 42, 180, 0, 228]
abbrev dktX6_lookAt_0 : List UInt8 := dkwX6_lookAt_0 ++ dktX6_lookAt_1
theorem dksX6_lookAt_0 : cX6_lookAt.data.toList.drop 0 = dktX6_lookAt_0 := by decide +kernel
theorem dksX6_lookAt_1 : cX6_lookAt.data.toList.drop 24 = dktX6_lookAt_1 := dk_seg dksX6_lookAt_0 24 rfl rfl
theorem dksX6_lookAt_2 : cX6_lookAt.data.toList.drop 48 = dktX6_lookAt_2 := dk_seg dksX6_lookAt_1 24 rfl rfl
theorem dksX6_lookAt_3 : cX6_lookAt.data.toList.drop 71 = dktX6_lookAt_3 := dk_seg dksX6_lookAt_2 23 rfl rfl
theorem dksX6_lookAt_4 : cX6_lookAt.data.toList.drop 93 = dktX6_lookAt_4 := dk_seg dksX6_lookAt_3 22 rfl rfl
theorem dksX6_lookAt_5 : cX6_lookAt.data.toList.drop 117 = dktX6_lookAt_5 := dk_seg dksX6_lookAt_4 24 rfl rfl
theorem dksX6_lookAt_6 : cX6_lookAt.data.toList.drop 141 = dktX6_lookAt_6 := dk_seg dksX6_lookAt_5 24 rfl rfl
theorem dksX6_lookAt_7 : cX6_lookAt.data.toList.drop 165 = dktX6_lookAt_7 := dk_seg dksX6_lookAt_6 24 rfl rfl
theorem dksX6_lookAt_8 : cX6_lookAt.data.toList.drop 188 = dktX6_lookAt_8 := dk_seg dksX6_lookAt_7 23 rfl rfl
theorem dksX6_lookAt_9 : cX6_lookAt.data.toList.drop 212 = dktX6_lookAt_9 := dk_seg dksX6_lookAt_8 24 rfl rfl
theorem dksX6_lookAt_10 : cX6_lookAt.data.toList.drop 234 = dktX6_lookAt_10 := dk_seg dksX6_lookAt_9 22 rfl rfl
theorem dksX6_lookAt_11 : cX6_lookAt.data.toList.drop 257 = dktX6_lookAt_11 := dk_seg dksX6_lookAt_10 23 rfl rfl
theorem dksX6_lookAt_12 : cX6_lookAt.data.toList.drop 280 = dktX6_lookAt_12 := dk_seg dksX6_lookAt_11 23 rfl rfl
theorem dX6_lookAt_0 : decode cX6_lookAt 0 = .ok (.aload_n 0, 1) := dk_42 (dk_at dksX6_lookAt_0 0 rfl rfl)
theorem dX6_lookAt_1 : decode cX6_lookAt 1 = .ok (.iload_n 1, 1) := dk_27 (dk_at dksX6_lookAt_0 1 rfl rfl)
theorem dX6_lookAt_2 : decode cX6_lookAt 2 = .ok (.putfield 228, 3) := dk_181 0 228 (dk_at dksX6_lookAt_0 2 rfl rfl)
theorem dX6_lookAt_5 : decode cX6_lookAt 5 = .ok (.aload_n 0, 1) := dk_42 (dk_at dksX6_lookAt_0 5 rfl rfl)
theorem dX6_lookAt_6 : decode cX6_lookAt 6 = .ok (.getfield 228, 3) := dk_180 0 228 (dk_at dksX6_lookAt_0 6 rfl rfl)
theorem dX6_lookAt_9 : decode cX6_lookAt 9 = .ok (.aload_n 0, 1) := dk_42 (dk_at dksX6_lookAt_0 9 rfl rfl)
theorem dX6_lookAt_10 : decode cX6_lookAt 10 = .ok (.getfield 216, 3) := dk_180 0 216 (dk_at dksX6_lookAt_0 10 rfl rfl)
theorem dX6_lookAt_13 : decode cX6_lookAt 13 = .ok (.if_icmp .ge 30, 3) := dk_162 0 30 (dk_at dksX6_lookAt_0 13 rfl rfl)
theorem dX6_lookAt_16 : decode cX6_lookAt 16 = .ok (.aload_n 0, 1) := dk_42 (dk_at dksX6_lookAt_0 16 rfl rfl)
theorem dX6_lookAt_17 : decode cX6_lookAt 17 = .ok (.getfield 42, 3) := dk_180 0 42 (dk_at dksX6_lookAt_0 17 rfl rfl)
theorem dX6_lookAt_20 : decode cX6_lookAt 20 = .ok (.aload_n 0, 1) := dk_42 (dk_at dksX6_lookAt_0 20 rfl rfl)
theorem dX6_lookAt_21 : decode cX6_lookAt 21 = .ok (.getfield 228, 3) := dk_180 0 228 (dk_at dksX6_lookAt_0 21 rfl rfl)
theorem dX6_lookAt_24 : decode cX6_lookAt 24 = .ok (.iaload, 1) := dk_46 (dk_at dksX6_lookAt_1 0 rfl rfl)
theorem dX6_lookAt_25 : decode cX6_lookAt 25 = .ok (.bipush 32, 2) := dk_16 32 (dk_at dksX6_lookAt_1 1 rfl rfl)
theorem dX6_lookAt_27 : decode cX6_lookAt 27 = .ok (.if_icmp .ne 16, 3) := dk_160 0 16 (dk_at dksX6_lookAt_1 3 rfl rfl)
theorem dX6_lookAt_30 : decode cX6_lookAt 30 = .ok (.aload_n 0, 1) := dk_42 (dk_at dksX6_lookAt_1 6 rfl rfl)
theorem dX6_lookAt_31 : decode cX6_lookAt 31 = .ok (.dup, 1) := dk_89 (dk_at dksX6_lookAt_1 7 rfl rfl)
theorem dX6_lookAt_32 : decode cX6_lookAt 32 = .ok (.getfield 228, 3) := dk_180 0 228 (dk_at dksX6_lookAt_1 8 rfl rfl)
theorem dX6_lookAt_35 : decode cX6_lookAt 35 = .ok (.iconst 1, 1) := dk_4 (dk_at dksX6_lookAt_1 11 rfl rfl)
theorem dX6_lookAt_36 : decode cX6_lookAt 36 = .ok (.iadd, 1) := dk_96 (dk_at dksX6_lookAt_1 12 rfl rfl)
theorem dX6_lookAt_37 : decode cX6_lookAt 37 = .ok (.putfield 228, 3) := dk_181 0 228 (dk_at dksX6_lookAt_1 13 rfl rfl)
theorem dX6_lookAt_40 : decode cX6_lookAt 40 = .ok (.goto (-35), 3) := dk_167 255 221 (dk_at dksX6_lookAt_1 16 rfl rfl)
theorem dX6_lookAt_43 : decode cX6_lookAt 43 = .ok (.aload_n 0, 1) := dk_42 (dk_at dksX6_lookAt_1 19 rfl rfl)
theorem dX6_lookAt_44 : decode cX6_lookAt 44 = .ok (.iconst 0, 1) := dk_3 (dk_at dksX6_lookAt_1 20 rfl rfl)
theorem dX6_lookAt_45 : decode cX6_lookAt 45 = .ok (.putfield 231, 3) := dk_181 0 231 (dk_at dksX6_lookAt_1 21 rfl rfl)
theorem dX6_lookAt_48 : decode cX6_lookAt 48 = .ok (.aload_n 0, 1) := dk_42 (dk_at dksX6_lookAt_2 0 rfl rfl)
theorem dX6_lookAt_49 : decode cX6_lookAt 49 = .ok (.iconst 0, 1) := dk_3 (dk_at dksX6_lookAt_2 1 rfl rfl)
theorem dX6_lookAt_50 : decode cX6_lookAt 50 = .ok (.putfield 234, 3) := dk_181 0 234 (dk_at dksX6_lookAt_2 2 rfl rfl)
theorem dX6_lookAt_53 : decode cX6_lookAt 53 = .ok (.aload_n 0, 1) := dk_42 (dk_at dksX6_lookAt_2 5 rfl rfl)
theorem dX6_lookAt_54 : decode cX6_lookAt 54 = .ok (.iconst 0, 1) := dk_3 (dk_at dksX6_lookAt_2 6 rfl rfl)
theorem dX6_lookAt_55 : decode cX6_lookAt 55 = .ok (.putfield 237, 3) := dk_181 0 237 (dk_at dksX6_lookAt_2 7 rfl rfl)
theorem dX6_lookAt_58 : decode cX6_lookAt 58 = .ok (.aload_n 0, 1) := dk_42 (dk_at dksX6_lookAt_2 10 rfl rfl)
theorem dX6_lookAt_59 : decode cX6_lookAt 59 = .ok (.getfield 228, 3) := dk_180 0 228 (dk_at dksX6_lookAt_2 11 rfl rfl)
theorem dX6_lookAt_62 : decode cX6_lookAt 62 = .ok (.aload_n 0, 1) := dk_42 (dk_at dksX6_lookAt_2 14 rfl rfl)
theorem dX6_lookAt_63 : decode cX6_lookAt 63 = .ok (.getfield 216, 3) := dk_180 0 216 (dk_at dksX6_lookAt_2 15 rfl rfl)
theorem dX6_lookAt_66 : decode cX6_lookAt 66 = .ok (.if_icmp .ne 4, 3) := dk_160 0 4 (dk_at dksX6_lookAt_2 18 rfl rfl)
theorem dX6_lookAt_69 : decode cX6_lookAt 69 = .ok (.return_, 1) := dk_177 (dk_at dksX6_lookAt_2 21 rfl rfl)
theorem dX6_lookAt_70 : decode cX6_lookAt 70 = .ok (.aload_n 0, 1) := dk_42 (dk_at dksX6_lookAt_2 22 rfl rfl)
theorem dX6_lookAt_71 : decode cX6_lookAt 71 = .ok (.getfield 42, 3) := dk_180 0 42 (dk_at dksX6_lookAt_3 0 rfl rfl)
theorem dX6_lookAt_74 : decode cX6_lookAt 74 = .ok (.aload_n 0, 1) := dk_42 (dk_at dksX6_lookAt_3 3 rfl rfl)
theorem dX6_lookAt_75 : decode cX6_lookAt 75 = .ok (.getfield 228, 3) := dk_180 0 228 (dk_at dksX6_lookAt_3 4 rfl rfl)
theorem dX6_lookAt_78 : decode cX6_lookAt 78 = .ok (.iaload, 1) := dk_46 (dk_at dksX6_lookAt_3 7 rfl rfl)
theorem dX6_lookAt_79 : decode cX6_lookAt 79 = .ok (.istore_n 2, 1) := dk_61 (dk_at dksX6_lookAt_3 8 rfl rfl)
theorem dX6_lookAt_80 : decode cX6_lookAt 80 = .ok (.aload_n 0, 1) := dk_42 (dk_at dksX6_lookAt_3 9 rfl rfl)
theorem dX6_lookAt_81 : decode cX6_lookAt 81 = .ok (.iload_n 2, 1) := dk_28 (dk_at dksX6_lookAt_3 10 rfl rfl)
theorem dX6_lookAt_82 : decode cX6_lookAt 82 = .ok (.invokestatic 240, 3) := dk_184 0 240 (dk_at dksX6_lookAt_3 11 rfl rfl)
theorem dX6_lookAt_85 : decode cX6_lookAt 85 = .ok (.ifCond .eq 7, 3) := dk_153 0 7 (dk_at dksX6_lookAt_3 14 rfl rfl)
theorem dX6_lookAt_88 : decode cX6_lookAt 88 = .ok (.iconst 1, 1) := dk_4 (dk_at dksX6_lookAt_3 17 rfl rfl)
theorem dX6_lookAt_89 : decode cX6_lookAt 89 = .ok (.goto 25, 3) := dk_167 0 25 (dk_at dksX6_lookAt_3 18 rfl rfl)
theorem dX6_lookAt_92 : decode cX6_lookAt 92 = .ok (.iload_n 2, 1) := dk_28 (dk_at dksX6_lookAt_3 21 rfl rfl)
theorem dX6_lookAt_93 : decode cX6_lookAt 93 = .ok (.invokestatic 243, 3) := dk_184 0 243 (dk_at dksX6_lookAt_4 0 rfl rfl)
theorem dX6_lookAt_96 : decode cX6_lookAt 96 = .ok (.ifCond .eq 7, 3) := dk_153 0 7 (dk_at dksX6_lookAt_4 3 rfl rfl)
theorem dX6_lookAt_99 : decode cX6_lookAt 99 = .ok (.iconst 2, 1) := dk_5 (dk_at dksX6_lookAt_4 6 rfl rfl)
theorem dX6_lookAt_100 : decode cX6_lookAt 100 = .ok (.goto 14, 3) := dk_167 0 14 (dk_at dksX6_lookAt_4 7 rfl rfl)
theorem dX6_lookAt_103 : decode cX6_lookAt 103 = .ok (.iload_n 2, 1) := dk_28 (dk_at dksX6_lookAt_4 10 rfl rfl)
theorem dX6_lookAt_104 : decode cX6_lookAt 104 = .ok (.bipush 59, 2) := dk_16 59 (dk_at dksX6_lookAt_4 11 rfl rfl)
theorem dX6_lookAt_106 : decode cX6_lookAt 106 = .ok (.if_icmp .ne 7, 3) := dk_160 0 7 (dk_at dksX6_lookAt_4 13 rfl rfl)
theorem dX6_lookAt_109 : decode cX6_lookAt 109 = .ok (.iconst 3, 1) := dk_6 (dk_at dksX6_lookAt_4 16 rfl rfl)
theorem dX6_lookAt_110 : decode cX6_lookAt 110 = .ok (.goto 4, 3) := dk_167 0 4 (dk_at dksX6_lookAt_4 17 rfl rfl)
theorem dX6_lookAt_113 : decode cX6_lookAt 113 = .ok (.iconst 4, 1) := dk_7 (dk_at dksX6_lookAt_4 20 rfl rfl)
theorem dX6_lookAt_114 : decode cX6_lookAt 114 = .ok (.putfield 234, 3) := dk_181 0 234 (dk_at dksX6_lookAt_4 21 rfl rfl)
theorem dX6_lookAt_117 : decode cX6_lookAt 117 = .ok (.aload_n 0, 1) := dk_42 (dk_at dksX6_lookAt_5 0 rfl rfl)
theorem dX6_lookAt_118 : decode cX6_lookAt 118 = .ok (.iconst 1, 1) := dk_4 (dk_at dksX6_lookAt_5 1 rfl rfl)
theorem dX6_lookAt_119 : decode cX6_lookAt 119 = .ok (.putfield 231, 3) := dk_181 0 231 (dk_at dksX6_lookAt_5 2 rfl rfl)
theorem dX6_lookAt_122 : decode cX6_lookAt 122 = .ok (.aload_n 0, 1) := dk_42 (dk_at dksX6_lookAt_5 5 rfl rfl)
theorem dX6_lookAt_123 : decode cX6_lookAt 123 = .ok (.getfield 234, 3) := dk_180 0 234 (dk_at dksX6_lookAt_5 6 rfl rfl)
theorem dX6_lookAt_126 : decode cX6_lookAt 126 = .ok (.iconst 3, 1) := dk_6 (dk_at dksX6_lookAt_5 9 rfl rfl)
theorem dX6_lookAt_127 : decode cX6_lookAt 127 = .ok (.if_icmp .ge 7, 3) := dk_162 0 7 (dk_at dksX6_lookAt_5 10 rfl rfl)
theorem dX6_lookAt_130 : decode cX6_lookAt 130 = .ok (.iconst 1, 1) := dk_4 (dk_at dksX6_lookAt_5 13 rfl rfl)
theorem dX6_lookAt_131 : decode cX6_lookAt 131 = .ok (.goto 4, 3) := dk_167 0 4 (dk_at dksX6_lookAt_5 14 rfl rfl)
theorem dX6_lookAt_134 : decode cX6_lookAt 134 = .ok (.iconst 0, 1) := dk_3 (dk_at dksX6_lookAt_5 17 rfl rfl)
theorem dX6_lookAt_135 : decode cX6_lookAt 135 = .ok (.istore_n 3, 1) := dk_62 (dk_at dksX6_lookAt_5 18 rfl rfl)
theorem dX6_lookAt_136 : decode cX6_lookAt 136 = .ok (.iload_n 3, 1) := dk_29 (dk_at dksX6_lookAt_5 19 rfl rfl)
theorem dX6_lookAt_137 : decode cX6_lookAt 137 = .ok (.ifCond .eq 78, 3) := dk_153 0 78 (dk_at dksX6_lookAt_5 20 rfl rfl)
theorem dX6_lookAt_140 : decode cX6_lookAt 140 = .ok (.aload_n 0, 1) := dk_42 (dk_at dksX6_lookAt_5 23 rfl rfl)
theorem dX6_lookAt_141 : decode cX6_lookAt 141 = .ok (.getfield 228, 3) := dk_180 0 228 (dk_at dksX6_lookAt_6 0 rfl rfl)
theorem dX6_lookAt_144 : decode cX6_lookAt 144 = .ok (.aload_n 0, 1) := dk_42 (dk_at dksX6_lookAt_6 3 rfl rfl)
theorem dX6_lookAt_145 : decode cX6_lookAt 145 = .ok (.getfield 231, 3) := dk_180 0 231 (dk_at dksX6_lookAt_6 4 rfl rfl)
theorem dX6_lookAt_148 : decode cX6_lookAt 148 = .ok (.iadd, 1) := dk_96 (dk_at dksX6_lookAt_6 7 rfl rfl)
theorem dX6_lookAt_149 : decode cX6_lookAt 149 = .ok (.aload_n 0, 1) := dk_42 (dk_at dksX6_lookAt_6 8 rfl rfl)
theorem dX6_lookAt_150 : decode cX6_lookAt 150 = .ok (.getfield 216, 3) := dk_180 0 216 (dk_at dksX6_lookAt_6 9 rfl rfl)
theorem dX6_lookAt_153 : decode cX6_lookAt 153 = .ok (.if_icmp .ge 62, 3) := dk_162 0 62 (dk_at dksX6_lookAt_6 12 rfl rfl)
theorem dX6_lookAt_156 : decode cX6_lookAt 156 = .ok (.aload_n 0, 1) := dk_42 (dk_at dksX6_lookAt_6 15 rfl rfl)
theorem dX6_lookAt_157 : decode cX6_lookAt 157 = .ok (.getfield 42, 3) := dk_180 0 42 (dk_at dksX6_lookAt_6 16 rfl rfl)
theorem dX6_lookAt_160 : decode cX6_lookAt 160 = .ok (.aload_n 0, 1) := dk_42 (dk_at dksX6_lookAt_6 19 rfl rfl)
theorem dX6_lookAt_161 : decode cX6_lookAt 161 = .ok (.getfield 228, 3) := dk_180 0 228 (dk_at dksX6_lookAt_6 20 rfl rfl)
theorem dX6_lookAt_164 : decode cX6_lookAt 164 = .ok (.aload_n 0, 1) := dk_42 (dk_at dksX6_lookAt_6 23 rfl rfl)
theorem dX6_lookAt_165 : decode cX6_lookAt 165 = .ok (.getfield 231, 3) := dk_180 0 231 (dk_at dksX6_lookAt_7 0 rfl rfl)
theorem dX6_lookAt_168 : decode cX6_lookAt 168 = .ok (.iadd, 1) := dk_96 (dk_at dksX6_lookAt_7 3 rfl rfl)
theorem dX6_lookAt_169 : decode cX6_lookAt 169 = .ok (.iaload, 1) := dk_46 (dk_at dksX6_lookAt_7 4 rfl rfl)
theorem dX6_lookAt_170 : decode cX6_lookAt 170 = .ok (.istore 4, 2) := dk_54 4 (dk_at dksX6_lookAt_7 5 rfl rfl)
theorem dX6_lookAt_172 : decode cX6_lookAt 172 = .ok (.aload_n 0, 1) := dk_42 (dk_at dksX6_lookAt_7 7 rfl rfl)
theorem dX6_lookAt_173 : decode cX6_lookAt 173 = .ok (.getfield 234, 3) := dk_180 0 234 (dk_at dksX6_lookAt_7 8 rfl rfl)
theorem dX6_lookAt_176 : decode cX6_lookAt 176 = .ok (.iconst 1, 1) := dk_4 (dk_at dksX6_lookAt_7 11 rfl rfl)
theorem dX6_lookAt_177 : decode cX6_lookAt 177 = .ok (.if_icmp .ne 11, 3) := dk_160 0 11 (dk_at dksX6_lookAt_7 12 rfl rfl)
theorem dX6_lookAt_180 : decode cX6_lookAt 180 = .ok (.iload 4, 2) := dk_21 4 (dk_at dksX6_lookAt_7 15 rfl rfl)
theorem dX6_lookAt_182 : decode cX6_lookAt 182 = .ok (.invokestatic 240, 3) := dk_184 0 240 (dk_at dksX6_lookAt_7 17 rfl rfl)
theorem dX6_lookAt_185 : decode cX6_lookAt 185 = .ok (.goto 8, 3) := dk_167 0 8 (dk_at dksX6_lookAt_7 20 rfl rfl)
theorem dX6_lookAt_188 : decode cX6_lookAt 188 = .ok (.iload 4, 2) := dk_21 4 (dk_at dksX6_lookAt_8 0 rfl rfl)
theorem dX6_lookAt_190 : decode cX6_lookAt 190 = .ok (.invokestatic 243, 3) := dk_184 0 243 (dk_at dksX6_lookAt_8 2 rfl rfl)
theorem dX6_lookAt_193 : decode cX6_lookAt 193 = .ok (.istore_n 3, 1) := dk_62 (dk_at dksX6_lookAt_8 5 rfl rfl)
theorem dX6_lookAt_194 : decode cX6_lookAt 194 = .ok (.aload_n 0, 1) := dk_42 (dk_at dksX6_lookAt_8 6 rfl rfl)
theorem dX6_lookAt_195 : decode cX6_lookAt 195 = .ok (.dup, 1) := dk_89 (dk_at dksX6_lookAt_8 7 rfl rfl)
theorem dX6_lookAt_196 : decode cX6_lookAt 196 = .ok (.getfield 231, 3) := dk_180 0 231 (dk_at dksX6_lookAt_8 8 rfl rfl)
theorem dX6_lookAt_199 : decode cX6_lookAt 199 = .ok (.iload_n 3, 1) := dk_29 (dk_at dksX6_lookAt_8 11 rfl rfl)
theorem dX6_lookAt_200 : decode cX6_lookAt 200 = .ok (.ifCond .eq 7, 3) := dk_153 0 7 (dk_at dksX6_lookAt_8 12 rfl rfl)
theorem dX6_lookAt_203 : decode cX6_lookAt 203 = .ok (.iconst 1, 1) := dk_4 (dk_at dksX6_lookAt_8 15 rfl rfl)
theorem dX6_lookAt_204 : decode cX6_lookAt 204 = .ok (.goto 4, 3) := dk_167 0 4 (dk_at dksX6_lookAt_8 16 rfl rfl)
theorem dX6_lookAt_207 : decode cX6_lookAt 207 = .ok (.iconst 0, 1) := dk_3 (dk_at dksX6_lookAt_8 19 rfl rfl)
theorem dX6_lookAt_208 : decode cX6_lookAt 208 = .ok (.iadd, 1) := dk_96 (dk_at dksX6_lookAt_8 20 rfl rfl)
theorem dX6_lookAt_209 : decode cX6_lookAt 209 = .ok (.putfield 231, 3) := dk_181 0 231 (dk_at dksX6_lookAt_8 21 rfl rfl)
theorem dX6_lookAt_212 : decode cX6_lookAt 212 = .ok (.goto (-76), 3) := dk_167 255 180 (dk_at dksX6_lookAt_9 0 rfl rfl)
theorem dX6_lookAt_215 : decode cX6_lookAt 215 = .ok (.iconst 0, 1) := dk_3 (dk_at dksX6_lookAt_9 3 rfl rfl)
theorem dX6_lookAt_216 : decode cX6_lookAt 216 = .ok (.istore 4, 2) := dk_54 4 (dk_at dksX6_lookAt_9 4 rfl rfl)
theorem dX6_lookAt_218 : decode cX6_lookAt 218 = .ok (.iload 4, 2) := dk_21 4 (dk_at dksX6_lookAt_9 6 rfl rfl)
theorem dX6_lookAt_220 : decode cX6_lookAt 220 = .ok (.aload_n 0, 1) := dk_42 (dk_at dksX6_lookAt_9 8 rfl rfl)
theorem dX6_lookAt_221 : decode cX6_lookAt 221 = .ok (.getfield 231, 3) := dk_180 0 231 (dk_at dksX6_lookAt_9 9 rfl rfl)
theorem dX6_lookAt_224 : decode cX6_lookAt 224 = .ok (.if_icmp .ge 50, 3) := dk_162 0 50 (dk_at dksX6_lookAt_9 12 rfl rfl)
theorem dX6_lookAt_227 : decode cX6_lookAt 227 = .ok (.iload 4, 2) := dk_21 4 (dk_at dksX6_lookAt_9 15 rfl rfl)
theorem dX6_lookAt_229 : decode cX6_lookAt 229 = .ok (.iconst 2, 1) := dk_5 (dk_at dksX6_lookAt_9 17 rfl rfl)
theorem dX6_lookAt_230 : decode cX6_lookAt 230 = .ok (.if_icmp .ge 44, 3) := dk_162 0 44 (dk_at dksX6_lookAt_9 18 rfl rfl)
theorem dX6_lookAt_233 : decode cX6_lookAt 233 = .ok (.aload_n 0, 1) := dk_42 (dk_at dksX6_lookAt_9 21 rfl rfl)
theorem dX6_lookAt_234 : decode cX6_lookAt 234 = .ok (.getfield 234, 3) := dk_180 0 234 (dk_at dksX6_lookAt_10 0 rfl rfl)
theorem dX6_lookAt_237 : decode cX6_lookAt 237 = .ok (.iconst 2, 1) := dk_5 (dk_at dksX6_lookAt_10 3 rfl rfl)
theorem dX6_lookAt_238 : decode cX6_lookAt 238 = .ok (.if_icmp .ne 36, 3) := dk_160 0 36 (dk_at dksX6_lookAt_10 4 rfl rfl)
theorem dX6_lookAt_241 : decode cX6_lookAt 241 = .ok (.aload_n 0, 1) := dk_42 (dk_at dksX6_lookAt_10 7 rfl rfl)
theorem dX6_lookAt_242 : decode cX6_lookAt 242 = .ok (.bipush 10, 2) := dk_16 10 (dk_at dksX6_lookAt_10 8 rfl rfl)
theorem dX6_lookAt_244 : decode cX6_lookAt 244 = .ok (.aload_n 0, 1) := dk_42 (dk_at dksX6_lookAt_10 10 rfl rfl)
theorem dX6_lookAt_245 : decode cX6_lookAt 245 = .ok (.getfield 237, 3) := dk_180 0 237 (dk_at dksX6_lookAt_10 11 rfl rfl)
theorem dX6_lookAt_248 : decode cX6_lookAt 248 = .ok (.imul, 1) := dk_104 (dk_at dksX6_lookAt_10 14 rfl rfl)
theorem dX6_lookAt_249 : decode cX6_lookAt 249 = .ok (.aload_n 0, 1) := dk_42 (dk_at dksX6_lookAt_10 15 rfl rfl)
theorem dX6_lookAt_250 : decode cX6_lookAt 250 = .ok (.getfield 42, 3) := dk_180 0 42 (dk_at dksX6_lookAt_10 16 rfl rfl)
theorem dX6_lookAt_253 : decode cX6_lookAt 253 = .ok (.aload_n 0, 1) := dk_42 (dk_at dksX6_lookAt_10 19 rfl rfl)
theorem dX6_lookAt_254 : decode cX6_lookAt 254 = .ok (.getfield 228, 3) := dk_180 0 228 (dk_at dksX6_lookAt_10 20 rfl rfl)
theorem dX6_lookAt_257 : decode cX6_lookAt 257 = .ok (.iload 4, 2) := dk_21 4 (dk_at dksX6_lookAt_11 0 rfl rfl)
theorem dX6_lookAt_259 : decode cX6_lookAt 259 = .ok (.iadd, 1) := dk_96 (dk_at dksX6_lookAt_11 2 rfl rfl)
theorem dX6_lookAt_260 : decode cX6_lookAt 260 = .ok (.iaload, 1) := dk_46 (dk_at dksX6_lookAt_11 3 rfl rfl)
theorem dX6_lookAt_261 : decode cX6_lookAt 261 = .ok (.iadd, 1) := dk_96 (dk_at dksX6_lookAt_11 4 rfl rfl)
theorem dX6_lookAt_262 : decode cX6_lookAt 262 = .ok (.bipush 48, 2) := dk_16 48 (dk_at dksX6_lookAt_11 5 rfl rfl)
theorem dX6_lookAt_264 : decode cX6_lookAt 264 = .ok (.isub, 1) := dk_100 (dk_at dksX6_lookAt_11 7 rfl rfl)
theorem dX6_lookAt_265 : decode cX6_lookAt 265 = .ok (.putfield 237, 3) := dk_181 0 237 (dk_at dksX6_lookAt_11 8 rfl rfl)
theorem dX6_lookAt_268 : decode cX6_lookAt 268 = .ok (.iinc 4 1, 3) := dk_132 4 1 (dk_at dksX6_lookAt_11 11 rfl rfl)
theorem dX6_lookAt_271 : decode cX6_lookAt 271 = .ok (.goto (-53), 3) := dk_167 255 203 (dk_at dksX6_lookAt_11 14 rfl rfl)
theorem dX6_lookAt_274 : decode cX6_lookAt 274 = .ok (.aload_n 0, 1) := dk_42 (dk_at dksX6_lookAt_11 17 rfl rfl)
theorem dX6_lookAt_275 : decode cX6_lookAt 275 = .ok (.aload_n 0, 1) := dk_42 (dk_at dksX6_lookAt_11 18 rfl rfl)
theorem dX6_lookAt_276 : decode cX6_lookAt 276 = .ok (.getfield 234, 3) := dk_180 0 234 (dk_at dksX6_lookAt_11 19 rfl rfl)
theorem dX6_lookAt_279 : decode cX6_lookAt 279 = .ok (.iconst 2, 1) := dk_5 (dk_at dksX6_lookAt_11 22 rfl rfl)
theorem dX6_lookAt_280 : decode cX6_lookAt 280 = .ok (.if_icmp .ne 15, 3) := dk_160 0 15 (dk_at dksX6_lookAt_12 0 rfl rfl)
theorem dX6_lookAt_283 : decode cX6_lookAt 283 = .ok (.aload_n 0, 1) := dk_42 (dk_at dksX6_lookAt_12 3 rfl rfl)
theorem dX6_lookAt_284 : decode cX6_lookAt 284 = .ok (.getfield 231, 3) := dk_180 0 231 (dk_at dksX6_lookAt_12 4 rfl rfl)
theorem dX6_lookAt_287 : decode cX6_lookAt 287 = .ok (.iconst 2, 1) := dk_5 (dk_at dksX6_lookAt_12 7 rfl rfl)
theorem dX6_lookAt_288 : decode cX6_lookAt 288 = .ok (.if_icmp .le 7, 3) := dk_164 0 7 (dk_at dksX6_lookAt_12 8 rfl rfl)
theorem dX6_lookAt_291 : decode cX6_lookAt 291 = .ok (.iconst 4, 1) := dk_7 (dk_at dksX6_lookAt_12 11 rfl rfl)
theorem dX6_lookAt_292 : decode cX6_lookAt 292 = .ok (.goto 7, 3) := dk_167 0 7 (dk_at dksX6_lookAt_12 12 rfl rfl)
theorem dX6_lookAt_295 : decode cX6_lookAt 295 = .ok (.aload_n 0, 1) := dk_42 (dk_at dksX6_lookAt_12 15 rfl rfl)
theorem dX6_lookAt_296 : decode cX6_lookAt 296 = .ok (.getfield 234, 3) := dk_180 0 234 (dk_at dksX6_lookAt_12 16 rfl rfl)
theorem dX6_lookAt_299 : decode cX6_lookAt 299 = .ok (.putfield 234, 3) := dk_181 0 234 (dk_at dksX6_lookAt_12 19 rfl rfl)
theorem dX6_lookAt_302 : decode cX6_lookAt 302 = .ok (.return_, 1) := dk_177 (dk_at dksX6_lookAt_12 22 rfl rfl)
abbrev cX6_isSmall : ByteArray := prog_21_method_70_code
def yX6_isSmall : MethodName := ⟨RX6, "isSmall", "(I)Z"⟩
def dkwX6_isSmall_0 : List UInt8 := [26, 133, 20, 0, 220, 20, 0, 222, 184, 0, 59, 172]
abbrev dktX6_isSmall_0 : List UInt8 := dkwX6_isSmall_0 ++ []
theorem dksX6_isSmall_0 : cX6_isSmall.data.toList.drop 0 = dktX6_isSmall_0 := by decide +kernel
theorem dX6_isSmall_0 : decode cX6_isSmall 0 = .ok (.iload_n 0, 1) := dk_26 (dk_at dksX6_isSmall_0 0 rfl rfl)
theorem dX6_isSmall_1 : decode cX6_isSmall 1 = .ok (.i2l, 1) := dk_133 (dk_at dksX6_isSmall_0 1 rfl rfl)
theorem dX6_isSmall_2 : decode cX6_isSmall 2 = .ok (.ldc2_w 220, 3) := dk_20 0 220 (dk_at dksX6_isSmall_0 2 rfl rfl)
theorem dX6_isSmall_5 : decode cX6_isSmall 5 = .ok (.ldc2_w 222, 3) := dk_20 0 222 (dk_at dksX6_isSmall_0 5 rfl rfl)
theorem dX6_isSmall_8 : decode cX6_isSmall 8 = .ok (.invokestatic 59, 3) := dk_184 0 59 (dk_at dksX6_isSmall_0 8 rfl rfl)
theorem dX6_isSmall_11 : decode cX6_isSmall 11 = .ok (.ireturn, 1) := dk_172 (dk_at dksX6_isSmall_0 11 rfl rfl)
abbrev cX6_isFigure : ByteArray := prog_21_method_71_code
def yX6_isFigure : MethodName := ⟨RX6, "isFigure", "(I)Z"⟩
def dkwX6_isFigure_0 : List UInt8 := [26, 133, 20, 0, 224, 20, 0, 226, 184, 0, 59, 172]
abbrev dktX6_isFigure_0 : List UInt8 := dkwX6_isFigure_0 ++ []
theorem dksX6_isFigure_0 : cX6_isFigure.data.toList.drop 0 = dktX6_isFigure_0 := by decide +kernel
theorem dX6_isFigure_0 : decode cX6_isFigure 0 = .ok (.iload_n 0, 1) := dk_26 (dk_at dksX6_isFigure_0 0 rfl rfl)
theorem dX6_isFigure_1 : decode cX6_isFigure 1 = .ok (.i2l, 1) := dk_133 (dk_at dksX6_isFigure_0 1 rfl rfl)
theorem dX6_isFigure_2 : decode cX6_isFigure 2 = .ok (.ldc2_w 224, 3) := dk_20 0 224 (dk_at dksX6_isFigure_0 2 rfl rfl)
theorem dX6_isFigure_5 : decode cX6_isFigure 5 = .ok (.ldc2_w 226, 3) := dk_20 0 226 (dk_at dksX6_isFigure_0 5 rfl rfl)
theorem dX6_isFigure_8 : decode cX6_isFigure 8 = .ok (.invokestatic 59, 3) := dk_184 0 59 (dk_at dksX6_isFigure_0 8 rfl rfl)
theorem dX6_isFigure_11 : decode cX6_isFigure 11 = .ok (.ireturn, 1) := dk_172 (dk_at dksX6_isFigure_0 11 rfl rfl)
abbrev cX6_spells : ByteArray := prog_21_method_74_code
def yX6_spells : MethodName := ⟨RX6, "spells", "(IIIIIII)Z"⟩
def dkwX6_spells_5 : List UInt8 := [167, 255, 166, 21, 8, 172]
abbrev dktX6_spells_5 : List UInt8 := dkwX6_spells_5 ++ []
def dkwX6_spells_4 : List UInt8 := [160, 0, 8, 21, 6, 167, 0, 5, 21, 7, 160, 0, 7, 4, 167, 0, 4, 3, 54, 8, 132, 9, 1]
abbrev dktX6_spells_4 : List UInt8 := dkwX6_spells_4 ++ dktX6_spells_5
def dkwX6_spells_3 : List UInt8 := [160, 0, 8, 21, 4, 167, 0, 27, 21, 9, 6, 160, 0, 8, 21, 5, 167, 0, 16, 21, 9, 7]
abbrev dktX6_spells_3 : List UInt8 := dkwX6_spells_3 ++ dktX6_spells_4
def dkwX6_spells_2 : List UInt8 := [46, 21, 9, 154, 0, 7, 28, 167, 0, 48, 21, 9, 4, 160, 0, 7, 29, 167, 0, 38, 21, 9, 5]
abbrev dktX6_spells_2 : List UInt8 := dkwX6_spells_2 ++ dktX6_spells_3
def dkwX6_spells_1 : List UInt8 := [54, 9, 21, 9, 27, 162, 0, 90, 21, 8, 153, 0, 85, 42, 180, 0, 42, 42, 180, 0, 228, 21, 9, 96]
abbrev dktX6_spells_1 : List UInt8 := dkwX6_spells_1 ++ dktX6_spells_2
def dkwX6_spells_0 : List UInt8 := [42, 180, 0, 234, 4, 160, 0, 15, 42, 180, 0, 231, 27, 160, 0, 7, 4, 167, 0, 4, 3, 54, 8, 3]
abbrev dktX6_spells_0 : List UInt8 := dkwX6_spells_0 ++ dktX6_spells_1
theorem dksX6_spells_0 : cX6_spells.data.toList.drop 0 = dktX6_spells_0 := by decide +kernel
theorem dksX6_spells_1 : cX6_spells.data.toList.drop 24 = dktX6_spells_1 := dk_seg dksX6_spells_0 24 rfl rfl
theorem dksX6_spells_2 : cX6_spells.data.toList.drop 48 = dktX6_spells_2 := dk_seg dksX6_spells_1 24 rfl rfl
theorem dksX6_spells_3 : cX6_spells.data.toList.drop 71 = dktX6_spells_3 := dk_seg dksX6_spells_2 23 rfl rfl
theorem dksX6_spells_4 : cX6_spells.data.toList.drop 93 = dktX6_spells_4 := dk_seg dksX6_spells_3 22 rfl rfl
theorem dksX6_spells_5 : cX6_spells.data.toList.drop 116 = dktX6_spells_5 := dk_seg dksX6_spells_4 23 rfl rfl
theorem dX6_spells_0 : decode cX6_spells 0 = .ok (.aload_n 0, 1) := dk_42 (dk_at dksX6_spells_0 0 rfl rfl)
theorem dX6_spells_1 : decode cX6_spells 1 = .ok (.getfield 234, 3) := dk_180 0 234 (dk_at dksX6_spells_0 1 rfl rfl)
theorem dX6_spells_4 : decode cX6_spells 4 = .ok (.iconst 1, 1) := dk_4 (dk_at dksX6_spells_0 4 rfl rfl)
theorem dX6_spells_5 : decode cX6_spells 5 = .ok (.if_icmp .ne 15, 3) := dk_160 0 15 (dk_at dksX6_spells_0 5 rfl rfl)
theorem dX6_spells_8 : decode cX6_spells 8 = .ok (.aload_n 0, 1) := dk_42 (dk_at dksX6_spells_0 8 rfl rfl)
theorem dX6_spells_9 : decode cX6_spells 9 = .ok (.getfield 231, 3) := dk_180 0 231 (dk_at dksX6_spells_0 9 rfl rfl)
theorem dX6_spells_12 : decode cX6_spells 12 = .ok (.iload_n 1, 1) := dk_27 (dk_at dksX6_spells_0 12 rfl rfl)
theorem dX6_spells_13 : decode cX6_spells 13 = .ok (.if_icmp .ne 7, 3) := dk_160 0 7 (dk_at dksX6_spells_0 13 rfl rfl)
theorem dX6_spells_16 : decode cX6_spells 16 = .ok (.iconst 1, 1) := dk_4 (dk_at dksX6_spells_0 16 rfl rfl)
theorem dX6_spells_17 : decode cX6_spells 17 = .ok (.goto 4, 3) := dk_167 0 4 (dk_at dksX6_spells_0 17 rfl rfl)
theorem dX6_spells_20 : decode cX6_spells 20 = .ok (.iconst 0, 1) := dk_3 (dk_at dksX6_spells_0 20 rfl rfl)
theorem dX6_spells_21 : decode cX6_spells 21 = .ok (.istore 8, 2) := dk_54 8 (dk_at dksX6_spells_0 21 rfl rfl)
theorem dX6_spells_23 : decode cX6_spells 23 = .ok (.iconst 0, 1) := dk_3 (dk_at dksX6_spells_0 23 rfl rfl)
theorem dX6_spells_24 : decode cX6_spells 24 = .ok (.istore 9, 2) := dk_54 9 (dk_at dksX6_spells_1 0 rfl rfl)
theorem dX6_spells_26 : decode cX6_spells 26 = .ok (.iload 9, 2) := dk_21 9 (dk_at dksX6_spells_1 2 rfl rfl)
theorem dX6_spells_28 : decode cX6_spells 28 = .ok (.iload_n 1, 1) := dk_27 (dk_at dksX6_spells_1 4 rfl rfl)
theorem dX6_spells_29 : decode cX6_spells 29 = .ok (.if_icmp .ge 90, 3) := dk_162 0 90 (dk_at dksX6_spells_1 5 rfl rfl)
theorem dX6_spells_32 : decode cX6_spells 32 = .ok (.iload 8, 2) := dk_21 8 (dk_at dksX6_spells_1 8 rfl rfl)
theorem dX6_spells_34 : decode cX6_spells 34 = .ok (.ifCond .eq 85, 3) := dk_153 0 85 (dk_at dksX6_spells_1 10 rfl rfl)
theorem dX6_spells_37 : decode cX6_spells 37 = .ok (.aload_n 0, 1) := dk_42 (dk_at dksX6_spells_1 13 rfl rfl)
theorem dX6_spells_38 : decode cX6_spells 38 = .ok (.getfield 42, 3) := dk_180 0 42 (dk_at dksX6_spells_1 14 rfl rfl)
theorem dX6_spells_41 : decode cX6_spells 41 = .ok (.aload_n 0, 1) := dk_42 (dk_at dksX6_spells_1 17 rfl rfl)
theorem dX6_spells_42 : decode cX6_spells 42 = .ok (.getfield 228, 3) := dk_180 0 228 (dk_at dksX6_spells_1 18 rfl rfl)
theorem dX6_spells_45 : decode cX6_spells 45 = .ok (.iload 9, 2) := dk_21 9 (dk_at dksX6_spells_1 21 rfl rfl)
theorem dX6_spells_47 : decode cX6_spells 47 = .ok (.iadd, 1) := dk_96 (dk_at dksX6_spells_1 23 rfl rfl)
theorem dX6_spells_48 : decode cX6_spells 48 = .ok (.iaload, 1) := dk_46 (dk_at dksX6_spells_2 0 rfl rfl)
theorem dX6_spells_49 : decode cX6_spells 49 = .ok (.iload 9, 2) := dk_21 9 (dk_at dksX6_spells_2 1 rfl rfl)
theorem dX6_spells_51 : decode cX6_spells 51 = .ok (.ifCond .ne 7, 3) := dk_154 0 7 (dk_at dksX6_spells_2 3 rfl rfl)
theorem dX6_spells_54 : decode cX6_spells 54 = .ok (.iload_n 2, 1) := dk_28 (dk_at dksX6_spells_2 6 rfl rfl)
theorem dX6_spells_55 : decode cX6_spells 55 = .ok (.goto 48, 3) := dk_167 0 48 (dk_at dksX6_spells_2 7 rfl rfl)
theorem dX6_spells_58 : decode cX6_spells 58 = .ok (.iload 9, 2) := dk_21 9 (dk_at dksX6_spells_2 10 rfl rfl)
theorem dX6_spells_60 : decode cX6_spells 60 = .ok (.iconst 1, 1) := dk_4 (dk_at dksX6_spells_2 12 rfl rfl)
theorem dX6_spells_61 : decode cX6_spells 61 = .ok (.if_icmp .ne 7, 3) := dk_160 0 7 (dk_at dksX6_spells_2 13 rfl rfl)
theorem dX6_spells_64 : decode cX6_spells 64 = .ok (.iload_n 3, 1) := dk_29 (dk_at dksX6_spells_2 16 rfl rfl)
theorem dX6_spells_65 : decode cX6_spells 65 = .ok (.goto 38, 3) := dk_167 0 38 (dk_at dksX6_spells_2 17 rfl rfl)
theorem dX6_spells_68 : decode cX6_spells 68 = .ok (.iload 9, 2) := dk_21 9 (dk_at dksX6_spells_2 20 rfl rfl)
theorem dX6_spells_70 : decode cX6_spells 70 = .ok (.iconst 2, 1) := dk_5 (dk_at dksX6_spells_2 22 rfl rfl)
theorem dX6_spells_71 : decode cX6_spells 71 = .ok (.if_icmp .ne 8, 3) := dk_160 0 8 (dk_at dksX6_spells_3 0 rfl rfl)
theorem dX6_spells_74 : decode cX6_spells 74 = .ok (.iload 4, 2) := dk_21 4 (dk_at dksX6_spells_3 3 rfl rfl)
theorem dX6_spells_76 : decode cX6_spells 76 = .ok (.goto 27, 3) := dk_167 0 27 (dk_at dksX6_spells_3 5 rfl rfl)
theorem dX6_spells_79 : decode cX6_spells 79 = .ok (.iload 9, 2) := dk_21 9 (dk_at dksX6_spells_3 8 rfl rfl)
theorem dX6_spells_81 : decode cX6_spells 81 = .ok (.iconst 3, 1) := dk_6 (dk_at dksX6_spells_3 10 rfl rfl)
theorem dX6_spells_82 : decode cX6_spells 82 = .ok (.if_icmp .ne 8, 3) := dk_160 0 8 (dk_at dksX6_spells_3 11 rfl rfl)
theorem dX6_spells_85 : decode cX6_spells 85 = .ok (.iload 5, 2) := dk_21 5 (dk_at dksX6_spells_3 14 rfl rfl)
theorem dX6_spells_87 : decode cX6_spells 87 = .ok (.goto 16, 3) := dk_167 0 16 (dk_at dksX6_spells_3 16 rfl rfl)
theorem dX6_spells_90 : decode cX6_spells 90 = .ok (.iload 9, 2) := dk_21 9 (dk_at dksX6_spells_3 19 rfl rfl)
theorem dX6_spells_92 : decode cX6_spells 92 = .ok (.iconst 4, 1) := dk_7 (dk_at dksX6_spells_3 21 rfl rfl)
theorem dX6_spells_93 : decode cX6_spells 93 = .ok (.if_icmp .ne 8, 3) := dk_160 0 8 (dk_at dksX6_spells_4 0 rfl rfl)
theorem dX6_spells_96 : decode cX6_spells 96 = .ok (.iload 6, 2) := dk_21 6 (dk_at dksX6_spells_4 3 rfl rfl)
theorem dX6_spells_98 : decode cX6_spells 98 = .ok (.goto 5, 3) := dk_167 0 5 (dk_at dksX6_spells_4 5 rfl rfl)
theorem dX6_spells_101 : decode cX6_spells 101 = .ok (.iload 7, 2) := dk_21 7 (dk_at dksX6_spells_4 8 rfl rfl)
theorem dX6_spells_103 : decode cX6_spells 103 = .ok (.if_icmp .ne 7, 3) := dk_160 0 7 (dk_at dksX6_spells_4 10 rfl rfl)
theorem dX6_spells_106 : decode cX6_spells 106 = .ok (.iconst 1, 1) := dk_4 (dk_at dksX6_spells_4 13 rfl rfl)
theorem dX6_spells_107 : decode cX6_spells 107 = .ok (.goto 4, 3) := dk_167 0 4 (dk_at dksX6_spells_4 14 rfl rfl)
theorem dX6_spells_110 : decode cX6_spells 110 = .ok (.iconst 0, 1) := dk_3 (dk_at dksX6_spells_4 17 rfl rfl)
theorem dX6_spells_111 : decode cX6_spells 111 = .ok (.istore 8, 2) := dk_54 8 (dk_at dksX6_spells_4 18 rfl rfl)
theorem dX6_spells_113 : decode cX6_spells 113 = .ok (.iinc 9 1, 3) := dk_132 9 1 (dk_at dksX6_spells_4 20 rfl rfl)
theorem dX6_spells_116 : decode cX6_spells 116 = .ok (.goto (-90), 3) := dk_167 255 166 (dk_at dksX6_spells_5 0 rfl rfl)
theorem dX6_spells_119 : decode cX6_spells 119 = .ok (.iload 8, 2) := dk_21 8 (dk_at dksX6_spells_5 3 rfl rfl)
theorem dX6_spells_121 : decode cX6_spells 121 = .ok (.ireturn, 1) := dk_172 (dk_at dksX6_spells_5 5 rfl rfl)
abbrev cX6_goBehind : ByteArray := prog_21_method_73_code
def yX6_goBehind : MethodName := ⟨RX6, "goBehind", "()V"⟩
def dkwX6_goBehind_0 : List UInt8 := [42, 42, 180, 0, 228, 42, 180, 0, 231, 96, 182, 0, 246, 177]
abbrev dktX6_goBehind_0 : List UInt8 := dkwX6_goBehind_0 ++ []
theorem dksX6_goBehind_0 : cX6_goBehind.data.toList.drop 0 = dktX6_goBehind_0 := by decide +kernel
theorem dX6_goBehind_0 : decode cX6_goBehind 0 = .ok (.aload_n 0, 1) := dk_42 (dk_at dksX6_goBehind_0 0 rfl rfl)
theorem dX6_goBehind_1 : decode cX6_goBehind 1 = .ok (.aload_n 0, 1) := dk_42 (dk_at dksX6_goBehind_0 1 rfl rfl)
theorem dX6_goBehind_2 : decode cX6_goBehind 2 = .ok (.getfield 228, 3) := dk_180 0 228 (dk_at dksX6_goBehind_0 2 rfl rfl)
theorem dX6_goBehind_5 : decode cX6_goBehind 5 = .ok (.aload_n 0, 1) := dk_42 (dk_at dksX6_goBehind_0 5 rfl rfl)
theorem dX6_goBehind_6 : decode cX6_goBehind 6 = .ok (.getfield 231, 3) := dk_180 0 231 (dk_at dksX6_goBehind_0 6 rfl rfl)
theorem dX6_goBehind_9 : decode cX6_goBehind 9 = .ok (.iadd, 1) := dk_96 (dk_at dksX6_goBehind_0 9 rfl rfl)
theorem dX6_goBehind_10 : decode cX6_goBehind 10 = .ok (.invokevirtual 246, 3) := dk_182 0 246 (dk_at dksX6_goBehind_0 10 rfl rfl)
theorem dX6_goBehind_13 : decode cX6_goBehind 13 = .ok (.return_, 1) := dk_177 (dk_at dksX6_goBehind_0 13 rfl rfl)
abbrev cX6_takesItem : ByteArray := prog_21_method_80_code
def yX6_takesItem : MethodName := ⟨RX6, "takesItem", "()Z"⟩
def dkwX6_takesItem_4 : List UInt8 := [4, 167, 0, 4, 3, 172]
abbrev dktX6_takesItem_4 : List UInt8 := dkwX6_takesItem_4 ++ []
def dkwX6_takesItem_3 : List UInt8 := [16, 98, 16, 111, 16, 97, 16, 114, 16, 100, 3, 182, 1, 1, 153, 0, 14, 42, 182, 1, 15, 153, 0, 7]
abbrev dktX6_takesItem_3 : List UInt8 := dkwX6_takesItem_3 ++ dktX6_takesItem_4
def dkwX6_takesItem_2 : List UInt8 := [16, 99, 16, 97, 16, 108, 16, 108, 3, 3, 182, 1, 1, 153, 0, 8, 42, 182, 1, 12, 172, 42, 8]
abbrev dktX6_takesItem_2 : List UInt8 := dkwX6_takesItem_2 ++ dktX6_takesItem_3
def dkwX6_takesItem_1 : List UInt8 := [6, 16, 109, 16, 97, 16, 110, 3, 3, 3, 182, 1, 1, 153, 0, 8, 42, 182, 1, 9, 172, 42, 7]
abbrev dktX6_takesItem_1 : List UInt8 := dkwX6_takesItem_1 ++ dktX6_takesItem_2
def dkwX6_takesItem_0 : List UInt8 := [42, 7, 16, 115, 16, 104, 16, 105, 16, 112, 3, 3, 182, 1, 1, 153, 0, 8, 42, 182, 1, 5, 172, 42]
abbrev dktX6_takesItem_0 : List UInt8 := dkwX6_takesItem_0 ++ dktX6_takesItem_1
theorem dksX6_takesItem_0 : cX6_takesItem.data.toList.drop 0 = dktX6_takesItem_0 := by decide +kernel
theorem dksX6_takesItem_1 : cX6_takesItem.data.toList.drop 24 = dktX6_takesItem_1 := dk_seg dksX6_takesItem_0 24 rfl rfl
theorem dksX6_takesItem_2 : cX6_takesItem.data.toList.drop 47 = dktX6_takesItem_2 := dk_seg dksX6_takesItem_1 23 rfl rfl
theorem dksX6_takesItem_3 : cX6_takesItem.data.toList.drop 70 = dktX6_takesItem_3 := dk_seg dksX6_takesItem_2 23 rfl rfl
theorem dksX6_takesItem_4 : cX6_takesItem.data.toList.drop 94 = dktX6_takesItem_4 := dk_seg dksX6_takesItem_3 24 rfl rfl
theorem dX6_takesItem_0 : decode cX6_takesItem 0 = .ok (.aload_n 0, 1) := dk_42 (dk_at dksX6_takesItem_0 0 rfl rfl)
theorem dX6_takesItem_1 : decode cX6_takesItem 1 = .ok (.iconst 4, 1) := dk_7 (dk_at dksX6_takesItem_0 1 rfl rfl)
theorem dX6_takesItem_2 : decode cX6_takesItem 2 = .ok (.bipush 115, 2) := dk_16 115 (dk_at dksX6_takesItem_0 2 rfl rfl)
theorem dX6_takesItem_4 : decode cX6_takesItem 4 = .ok (.bipush 104, 2) := dk_16 104 (dk_at dksX6_takesItem_0 4 rfl rfl)
theorem dX6_takesItem_6 : decode cX6_takesItem 6 = .ok (.bipush 105, 2) := dk_16 105 (dk_at dksX6_takesItem_0 6 rfl rfl)
theorem dX6_takesItem_8 : decode cX6_takesItem 8 = .ok (.bipush 112, 2) := dk_16 112 (dk_at dksX6_takesItem_0 8 rfl rfl)
theorem dX6_takesItem_10 : decode cX6_takesItem 10 = .ok (.iconst 0, 1) := dk_3 (dk_at dksX6_takesItem_0 10 rfl rfl)
theorem dX6_takesItem_11 : decode cX6_takesItem 11 = .ok (.iconst 0, 1) := dk_3 (dk_at dksX6_takesItem_0 11 rfl rfl)
theorem dX6_takesItem_12 : decode cX6_takesItem 12 = .ok (.invokevirtual 257, 3) := dk_182 1 1 (dk_at dksX6_takesItem_0 12 rfl rfl)
theorem dX6_takesItem_15 : decode cX6_takesItem 15 = .ok (.ifCond .eq 8, 3) := dk_153 0 8 (dk_at dksX6_takesItem_0 15 rfl rfl)
theorem dX6_takesItem_18 : decode cX6_takesItem 18 = .ok (.aload_n 0, 1) := dk_42 (dk_at dksX6_takesItem_0 18 rfl rfl)
theorem dX6_takesItem_19 : decode cX6_takesItem 19 = .ok (.invokevirtual 261, 3) := dk_182 1 5 (dk_at dksX6_takesItem_0 19 rfl rfl)
theorem dX6_takesItem_22 : decode cX6_takesItem 22 = .ok (.ireturn, 1) := dk_172 (dk_at dksX6_takesItem_0 22 rfl rfl)
theorem dX6_takesItem_23 : decode cX6_takesItem 23 = .ok (.aload_n 0, 1) := dk_42 (dk_at dksX6_takesItem_0 23 rfl rfl)
theorem dX6_takesItem_24 : decode cX6_takesItem 24 = .ok (.iconst 3, 1) := dk_6 (dk_at dksX6_takesItem_1 0 rfl rfl)
theorem dX6_takesItem_25 : decode cX6_takesItem 25 = .ok (.bipush 109, 2) := dk_16 109 (dk_at dksX6_takesItem_1 1 rfl rfl)
theorem dX6_takesItem_27 : decode cX6_takesItem 27 = .ok (.bipush 97, 2) := dk_16 97 (dk_at dksX6_takesItem_1 3 rfl rfl)
theorem dX6_takesItem_29 : decode cX6_takesItem 29 = .ok (.bipush 110, 2) := dk_16 110 (dk_at dksX6_takesItem_1 5 rfl rfl)
theorem dX6_takesItem_31 : decode cX6_takesItem 31 = .ok (.iconst 0, 1) := dk_3 (dk_at dksX6_takesItem_1 7 rfl rfl)
theorem dX6_takesItem_32 : decode cX6_takesItem 32 = .ok (.iconst 0, 1) := dk_3 (dk_at dksX6_takesItem_1 8 rfl rfl)
theorem dX6_takesItem_33 : decode cX6_takesItem 33 = .ok (.iconst 0, 1) := dk_3 (dk_at dksX6_takesItem_1 9 rfl rfl)
theorem dX6_takesItem_34 : decode cX6_takesItem 34 = .ok (.invokevirtual 257, 3) := dk_182 1 1 (dk_at dksX6_takesItem_1 10 rfl rfl)
theorem dX6_takesItem_37 : decode cX6_takesItem 37 = .ok (.ifCond .eq 8, 3) := dk_153 0 8 (dk_at dksX6_takesItem_1 13 rfl rfl)
theorem dX6_takesItem_40 : decode cX6_takesItem 40 = .ok (.aload_n 0, 1) := dk_42 (dk_at dksX6_takesItem_1 16 rfl rfl)
theorem dX6_takesItem_41 : decode cX6_takesItem 41 = .ok (.invokevirtual 265, 3) := dk_182 1 9 (dk_at dksX6_takesItem_1 17 rfl rfl)
theorem dX6_takesItem_44 : decode cX6_takesItem 44 = .ok (.ireturn, 1) := dk_172 (dk_at dksX6_takesItem_1 20 rfl rfl)
theorem dX6_takesItem_45 : decode cX6_takesItem 45 = .ok (.aload_n 0, 1) := dk_42 (dk_at dksX6_takesItem_1 21 rfl rfl)
theorem dX6_takesItem_46 : decode cX6_takesItem 46 = .ok (.iconst 4, 1) := dk_7 (dk_at dksX6_takesItem_1 22 rfl rfl)
theorem dX6_takesItem_47 : decode cX6_takesItem 47 = .ok (.bipush 99, 2) := dk_16 99 (dk_at dksX6_takesItem_2 0 rfl rfl)
theorem dX6_takesItem_49 : decode cX6_takesItem 49 = .ok (.bipush 97, 2) := dk_16 97 (dk_at dksX6_takesItem_2 2 rfl rfl)
theorem dX6_takesItem_51 : decode cX6_takesItem 51 = .ok (.bipush 108, 2) := dk_16 108 (dk_at dksX6_takesItem_2 4 rfl rfl)
theorem dX6_takesItem_53 : decode cX6_takesItem 53 = .ok (.bipush 108, 2) := dk_16 108 (dk_at dksX6_takesItem_2 6 rfl rfl)
theorem dX6_takesItem_55 : decode cX6_takesItem 55 = .ok (.iconst 0, 1) := dk_3 (dk_at dksX6_takesItem_2 8 rfl rfl)
theorem dX6_takesItem_56 : decode cX6_takesItem 56 = .ok (.iconst 0, 1) := dk_3 (dk_at dksX6_takesItem_2 9 rfl rfl)
theorem dX6_takesItem_57 : decode cX6_takesItem 57 = .ok (.invokevirtual 257, 3) := dk_182 1 1 (dk_at dksX6_takesItem_2 10 rfl rfl)
theorem dX6_takesItem_60 : decode cX6_takesItem 60 = .ok (.ifCond .eq 8, 3) := dk_153 0 8 (dk_at dksX6_takesItem_2 13 rfl rfl)
theorem dX6_takesItem_63 : decode cX6_takesItem 63 = .ok (.aload_n 0, 1) := dk_42 (dk_at dksX6_takesItem_2 16 rfl rfl)
theorem dX6_takesItem_64 : decode cX6_takesItem 64 = .ok (.invokevirtual 268, 3) := dk_182 1 12 (dk_at dksX6_takesItem_2 17 rfl rfl)
theorem dX6_takesItem_67 : decode cX6_takesItem 67 = .ok (.ireturn, 1) := dk_172 (dk_at dksX6_takesItem_2 20 rfl rfl)
theorem dX6_takesItem_68 : decode cX6_takesItem 68 = .ok (.aload_n 0, 1) := dk_42 (dk_at dksX6_takesItem_2 21 rfl rfl)
theorem dX6_takesItem_69 : decode cX6_takesItem 69 = .ok (.iconst 5, 1) := dk_8 (dk_at dksX6_takesItem_2 22 rfl rfl)
theorem dX6_takesItem_70 : decode cX6_takesItem 70 = .ok (.bipush 98, 2) := dk_16 98 (dk_at dksX6_takesItem_3 0 rfl rfl)
theorem dX6_takesItem_72 : decode cX6_takesItem 72 = .ok (.bipush 111, 2) := dk_16 111 (dk_at dksX6_takesItem_3 2 rfl rfl)
theorem dX6_takesItem_74 : decode cX6_takesItem 74 = .ok (.bipush 97, 2) := dk_16 97 (dk_at dksX6_takesItem_3 4 rfl rfl)
theorem dX6_takesItem_76 : decode cX6_takesItem 76 = .ok (.bipush 114, 2) := dk_16 114 (dk_at dksX6_takesItem_3 6 rfl rfl)
theorem dX6_takesItem_78 : decode cX6_takesItem 78 = .ok (.bipush 100, 2) := dk_16 100 (dk_at dksX6_takesItem_3 8 rfl rfl)
theorem dX6_takesItem_80 : decode cX6_takesItem 80 = .ok (.iconst 0, 1) := dk_3 (dk_at dksX6_takesItem_3 10 rfl rfl)
theorem dX6_takesItem_81 : decode cX6_takesItem 81 = .ok (.invokevirtual 257, 3) := dk_182 1 1 (dk_at dksX6_takesItem_3 11 rfl rfl)
theorem dX6_takesItem_84 : decode cX6_takesItem 84 = .ok (.ifCond .eq 14, 3) := dk_153 0 14 (dk_at dksX6_takesItem_3 14 rfl rfl)
theorem dX6_takesItem_87 : decode cX6_takesItem 87 = .ok (.aload_n 0, 1) := dk_42 (dk_at dksX6_takesItem_3 17 rfl rfl)
theorem dX6_takesItem_88 : decode cX6_takesItem 88 = .ok (.invokevirtual 271, 3) := dk_182 1 15 (dk_at dksX6_takesItem_3 18 rfl rfl)
theorem dX6_takesItem_91 : decode cX6_takesItem 91 = .ok (.ifCond .eq 7, 3) := dk_153 0 7 (dk_at dksX6_takesItem_3 21 rfl rfl)
theorem dX6_takesItem_94 : decode cX6_takesItem 94 = .ok (.iconst 1, 1) := dk_4 (dk_at dksX6_takesItem_4 0 rfl rfl)
theorem dX6_takesItem_95 : decode cX6_takesItem 95 = .ok (.goto 4, 3) := dk_167 0 4 (dk_at dksX6_takesItem_4 1 rfl rfl)
theorem dX6_takesItem_98 : decode cX6_takesItem 98 = .ok (.iconst 0, 1) := dk_3 (dk_at dksX6_takesItem_4 4 rfl rfl)
theorem dX6_takesItem_99 : decode cX6_takesItem 99 = .ok (.ireturn, 1) := dk_172 (dk_at dksX6_takesItem_4 5 rfl rfl)
abbrev cX6_takesShip : ByteArray := prog_21_method_76_code
def yX6_takesShip : MethodName := ⟨RX6, "takesShip", "()Z"⟩
def dkwX6_takesShip_2 : List UInt8 := [79, 42, 180, 0, 45, 4, 92, 46, 4, 96, 79, 4, 172]
abbrev dktX6_takesShip_2 : List UInt8 := dkwX6_takesShip_2 ++ []
def dkwX6_takesShip_1 : List UInt8 := [154, 0, 5, 3, 172, 42, 180, 0, 45, 16, 17, 42, 180, 0, 45, 4, 46, 96, 42, 180, 0, 48, 3, 46]
abbrev dktX6_takesShip_1 : List UInt8 := dkwX6_takesShip_1 ++ dktX6_takesShip_2
def dkwX6_takesShip_0 : List UInt8 := [42, 180, 0, 45, 4, 46, 6, 160, 0, 5, 3, 172, 42, 182, 0, 250, 42, 3, 3, 8, 182, 0, 253]
abbrev dktX6_takesShip_0 : List UInt8 := dkwX6_takesShip_0 ++ dktX6_takesShip_1
theorem dksX6_takesShip_0 : cX6_takesShip.data.toList.drop 0 = dktX6_takesShip_0 := by decide +kernel
theorem dksX6_takesShip_1 : cX6_takesShip.data.toList.drop 23 = dktX6_takesShip_1 := dk_seg dksX6_takesShip_0 23 rfl rfl
theorem dksX6_takesShip_2 : cX6_takesShip.data.toList.drop 47 = dktX6_takesShip_2 := dk_seg dksX6_takesShip_1 24 rfl rfl
theorem dX6_takesShip_0 : decode cX6_takesShip 0 = .ok (.aload_n 0, 1) := dk_42 (dk_at dksX6_takesShip_0 0 rfl rfl)
theorem dX6_takesShip_1 : decode cX6_takesShip 1 = .ok (.getfield 45, 3) := dk_180 0 45 (dk_at dksX6_takesShip_0 1 rfl rfl)
theorem dX6_takesShip_4 : decode cX6_takesShip 4 = .ok (.iconst 1, 1) := dk_4 (dk_at dksX6_takesShip_0 4 rfl rfl)
theorem dX6_takesShip_5 : decode cX6_takesShip 5 = .ok (.iaload, 1) := dk_46 (dk_at dksX6_takesShip_0 5 rfl rfl)
theorem dX6_takesShip_6 : decode cX6_takesShip 6 = .ok (.iconst 3, 1) := dk_6 (dk_at dksX6_takesShip_0 6 rfl rfl)
theorem dX6_takesShip_7 : decode cX6_takesShip 7 = .ok (.if_icmp .ne 5, 3) := dk_160 0 5 (dk_at dksX6_takesShip_0 7 rfl rfl)
theorem dX6_takesShip_10 : decode cX6_takesShip 10 = .ok (.iconst 0, 1) := dk_3 (dk_at dksX6_takesShip_0 10 rfl rfl)
theorem dX6_takesShip_11 : decode cX6_takesShip 11 = .ok (.ireturn, 1) := dk_172 (dk_at dksX6_takesShip_0 11 rfl rfl)
theorem dX6_takesShip_12 : decode cX6_takesShip 12 = .ok (.aload_n 0, 1) := dk_42 (dk_at dksX6_takesShip_0 12 rfl rfl)
theorem dX6_takesShip_13 : decode cX6_takesShip 13 = .ok (.invokevirtual 250, 3) := dk_182 0 250 (dk_at dksX6_takesShip_0 13 rfl rfl)
theorem dX6_takesShip_16 : decode cX6_takesShip 16 = .ok (.aload_n 0, 1) := dk_42 (dk_at dksX6_takesShip_0 16 rfl rfl)
theorem dX6_takesShip_17 : decode cX6_takesShip 17 = .ok (.iconst 0, 1) := dk_3 (dk_at dksX6_takesShip_0 17 rfl rfl)
theorem dX6_takesShip_18 : decode cX6_takesShip 18 = .ok (.iconst 0, 1) := dk_3 (dk_at dksX6_takesShip_0 18 rfl rfl)
theorem dX6_takesShip_19 : decode cX6_takesShip 19 = .ok (.iconst 5, 1) := dk_8 (dk_at dksX6_takesShip_0 19 rfl rfl)
theorem dX6_takesShip_20 : decode cX6_takesShip 20 = .ok (.invokevirtual 253, 3) := dk_182 0 253 (dk_at dksX6_takesShip_0 20 rfl rfl)
theorem dX6_takesShip_23 : decode cX6_takesShip 23 = .ok (.ifCond .ne 5, 3) := dk_154 0 5 (dk_at dksX6_takesShip_1 0 rfl rfl)
theorem dX6_takesShip_26 : decode cX6_takesShip 26 = .ok (.iconst 0, 1) := dk_3 (dk_at dksX6_takesShip_1 3 rfl rfl)
theorem dX6_takesShip_27 : decode cX6_takesShip 27 = .ok (.ireturn, 1) := dk_172 (dk_at dksX6_takesShip_1 4 rfl rfl)
theorem dX6_takesShip_28 : decode cX6_takesShip 28 = .ok (.aload_n 0, 1) := dk_42 (dk_at dksX6_takesShip_1 5 rfl rfl)
theorem dX6_takesShip_29 : decode cX6_takesShip 29 = .ok (.getfield 45, 3) := dk_180 0 45 (dk_at dksX6_takesShip_1 6 rfl rfl)
theorem dX6_takesShip_32 : decode cX6_takesShip 32 = .ok (.bipush 17, 2) := dk_16 17 (dk_at dksX6_takesShip_1 9 rfl rfl)
theorem dX6_takesShip_34 : decode cX6_takesShip 34 = .ok (.aload_n 0, 1) := dk_42 (dk_at dksX6_takesShip_1 11 rfl rfl)
theorem dX6_takesShip_35 : decode cX6_takesShip 35 = .ok (.getfield 45, 3) := dk_180 0 45 (dk_at dksX6_takesShip_1 12 rfl rfl)
theorem dX6_takesShip_38 : decode cX6_takesShip 38 = .ok (.iconst 1, 1) := dk_4 (dk_at dksX6_takesShip_1 15 rfl rfl)
theorem dX6_takesShip_39 : decode cX6_takesShip 39 = .ok (.iaload, 1) := dk_46 (dk_at dksX6_takesShip_1 16 rfl rfl)
theorem dX6_takesShip_40 : decode cX6_takesShip 40 = .ok (.iadd, 1) := dk_96 (dk_at dksX6_takesShip_1 17 rfl rfl)
theorem dX6_takesShip_41 : decode cX6_takesShip 41 = .ok (.aload_n 0, 1) := dk_42 (dk_at dksX6_takesShip_1 18 rfl rfl)
theorem dX6_takesShip_42 : decode cX6_takesShip 42 = .ok (.getfield 48, 3) := dk_180 0 48 (dk_at dksX6_takesShip_1 19 rfl rfl)
theorem dX6_takesShip_45 : decode cX6_takesShip 45 = .ok (.iconst 0, 1) := dk_3 (dk_at dksX6_takesShip_1 22 rfl rfl)
theorem dX6_takesShip_46 : decode cX6_takesShip 46 = .ok (.iaload, 1) := dk_46 (dk_at dksX6_takesShip_1 23 rfl rfl)
theorem dX6_takesShip_47 : decode cX6_takesShip 47 = .ok (.iastore, 1) := dk_79 (dk_at dksX6_takesShip_2 0 rfl rfl)
theorem dX6_takesShip_48 : decode cX6_takesShip 48 = .ok (.aload_n 0, 1) := dk_42 (dk_at dksX6_takesShip_2 1 rfl rfl)
theorem dX6_takesShip_49 : decode cX6_takesShip 49 = .ok (.getfield 45, 3) := dk_180 0 45 (dk_at dksX6_takesShip_2 2 rfl rfl)
theorem dX6_takesShip_52 : decode cX6_takesShip 52 = .ok (.iconst 1, 1) := dk_4 (dk_at dksX6_takesShip_2 5 rfl rfl)
theorem dX6_takesShip_53 : decode cX6_takesShip 53 = .ok (.dup2, 1) := dk_92 (dk_at dksX6_takesShip_2 6 rfl rfl)
theorem dX6_takesShip_54 : decode cX6_takesShip 54 = .ok (.iaload, 1) := dk_46 (dk_at dksX6_takesShip_2 7 rfl rfl)
theorem dX6_takesShip_55 : decode cX6_takesShip 55 = .ok (.iconst 1, 1) := dk_4 (dk_at dksX6_takesShip_2 8 rfl rfl)
theorem dX6_takesShip_56 : decode cX6_takesShip 56 = .ok (.iadd, 1) := dk_96 (dk_at dksX6_takesShip_2 9 rfl rfl)
theorem dX6_takesShip_57 : decode cX6_takesShip 57 = .ok (.iastore, 1) := dk_79 (dk_at dksX6_takesShip_2 10 rfl rfl)
theorem dX6_takesShip_58 : decode cX6_takesShip 58 = .ok (.iconst 1, 1) := dk_4 (dk_at dksX6_takesShip_2 11 rfl rfl)
theorem dX6_takesShip_59 : decode cX6_takesShip 59 = .ok (.ireturn, 1) := dk_172 (dk_at dksX6_takesShip_2 12 rfl rfl)
abbrev cX6_takes : ByteArray := prog_21_method_75_code
def yX6_takes : MethodName := ⟨RX6, "takes", "(III)Z"⟩
def dkwX6_takes_1 : List UInt8 := [172, 42, 180, 0, 48, 27, 42, 180, 0, 237, 79, 42, 182, 0, 250, 4, 172]
abbrev dktX6_takes_1 : List UInt8 := dkwX6_takes_1 ++ []
def dkwX6_takes_0 : List UInt8 := [42, 180, 0, 234, 5, 160, 0, 18, 42, 180, 0, 237, 133, 28, 133, 29, 133, 184, 0, 59, 154, 0, 5, 3]
abbrev dktX6_takes_0 : List UInt8 := dkwX6_takes_0 ++ dktX6_takes_1
theorem dksX6_takes_0 : cX6_takes.data.toList.drop 0 = dktX6_takes_0 := by decide +kernel
theorem dksX6_takes_1 : cX6_takes.data.toList.drop 24 = dktX6_takes_1 := dk_seg dksX6_takes_0 24 rfl rfl
theorem dX6_takes_0 : decode cX6_takes 0 = .ok (.aload_n 0, 1) := dk_42 (dk_at dksX6_takes_0 0 rfl rfl)
theorem dX6_takes_1 : decode cX6_takes 1 = .ok (.getfield 234, 3) := dk_180 0 234 (dk_at dksX6_takes_0 1 rfl rfl)
theorem dX6_takes_4 : decode cX6_takes 4 = .ok (.iconst 2, 1) := dk_5 (dk_at dksX6_takes_0 4 rfl rfl)
theorem dX6_takes_5 : decode cX6_takes 5 = .ok (.if_icmp .ne 18, 3) := dk_160 0 18 (dk_at dksX6_takes_0 5 rfl rfl)
theorem dX6_takes_8 : decode cX6_takes 8 = .ok (.aload_n 0, 1) := dk_42 (dk_at dksX6_takes_0 8 rfl rfl)
theorem dX6_takes_9 : decode cX6_takes 9 = .ok (.getfield 237, 3) := dk_180 0 237 (dk_at dksX6_takes_0 9 rfl rfl)
theorem dX6_takes_12 : decode cX6_takes 12 = .ok (.i2l, 1) := dk_133 (dk_at dksX6_takes_0 12 rfl rfl)
theorem dX6_takes_13 : decode cX6_takes 13 = .ok (.iload_n 2, 1) := dk_28 (dk_at dksX6_takes_0 13 rfl rfl)
theorem dX6_takes_14 : decode cX6_takes 14 = .ok (.i2l, 1) := dk_133 (dk_at dksX6_takes_0 14 rfl rfl)
theorem dX6_takes_15 : decode cX6_takes 15 = .ok (.iload_n 3, 1) := dk_29 (dk_at dksX6_takes_0 15 rfl rfl)
theorem dX6_takes_16 : decode cX6_takes 16 = .ok (.i2l, 1) := dk_133 (dk_at dksX6_takes_0 16 rfl rfl)
theorem dX6_takes_17 : decode cX6_takes 17 = .ok (.invokestatic 59, 3) := dk_184 0 59 (dk_at dksX6_takes_0 17 rfl rfl)
theorem dX6_takes_20 : decode cX6_takes 20 = .ok (.ifCond .ne 5, 3) := dk_154 0 5 (dk_at dksX6_takes_0 20 rfl rfl)
theorem dX6_takes_23 : decode cX6_takes 23 = .ok (.iconst 0, 1) := dk_3 (dk_at dksX6_takes_0 23 rfl rfl)
theorem dX6_takes_24 : decode cX6_takes 24 = .ok (.ireturn, 1) := dk_172 (dk_at dksX6_takes_1 0 rfl rfl)
theorem dX6_takes_25 : decode cX6_takes 25 = .ok (.aload_n 0, 1) := dk_42 (dk_at dksX6_takes_1 1 rfl rfl)
theorem dX6_takes_26 : decode cX6_takes 26 = .ok (.getfield 48, 3) := dk_180 0 48 (dk_at dksX6_takes_1 2 rfl rfl)
theorem dX6_takes_29 : decode cX6_takes 29 = .ok (.iload_n 1, 1) := dk_27 (dk_at dksX6_takes_1 5 rfl rfl)
theorem dX6_takes_30 : decode cX6_takes 30 = .ok (.aload_n 0, 1) := dk_42 (dk_at dksX6_takes_1 6 rfl rfl)
theorem dX6_takes_31 : decode cX6_takes 31 = .ok (.getfield 237, 3) := dk_180 0 237 (dk_at dksX6_takes_1 7 rfl rfl)
theorem dX6_takes_34 : decode cX6_takes 34 = .ok (.iastore, 1) := dk_79 (dk_at dksX6_takes_1 10 rfl rfl)
theorem dX6_takes_35 : decode cX6_takes 35 = .ok (.aload_n 0, 1) := dk_42 (dk_at dksX6_takes_1 11 rfl rfl)
theorem dX6_takes_36 : decode cX6_takes 36 = .ok (.invokevirtual 250, 3) := dk_182 0 250 (dk_at dksX6_takes_1 12 rfl rfl)
theorem dX6_takes_39 : decode cX6_takes 39 = .ok (.iconst 1, 1) := dk_4 (dk_at dksX6_takes_1 15 rfl rfl)
theorem dX6_takes_40 : decode cX6_takes 40 = .ok (.ireturn, 1) := dk_172 (dk_at dksX6_takes_1 16 rfl rfl)
abbrev cX6_takesMan : ByteArray := prog_21_method_77_code
def yX6_takesMan : MethodName := ⟨RX6, "takesMan", "()Z"⟩
def dkwX6_takesMan_5 : List UInt8 := [96, 184, 0, 86, 4, 172]
abbrev dktX6_takesMan_5 : List UInt8 := dkwX6_takesMan_5 ++ []
def dkwX6_takesMan_4 : List UInt8 := [4, 46, 42, 180, 0, 48, 5, 46, 16, 9, 160, 0, 7, 3, 167, 0, 11, 42, 180, 0, 48, 5, 46, 4]
abbrev dktX6_takesMan_4 : List UInt8 := dkwX6_takesMan_4 ++ dktX6_takesMan_5
def dkwX6_takesMan_3 : List UInt8 := [16, 9, 182, 0, 253, 154, 0, 5, 3, 172, 42, 180, 0, 45, 42, 180, 0, 48, 3, 46, 42, 180, 0, 48]
abbrev dktX6_takesMan_3 : List UInt8 := dkwX6_takesMan_3 ++ dktX6_takesMan_4
def dkwX6_takesMan_2 : List UInt8 := [180, 0, 237, 16, 9, 159, 0, 16, 42, 180, 0, 237, 42, 180, 0, 45, 4, 46, 162, 0, 14, 42, 5, 3]
abbrev dktX6_takesMan_2 : List UInt8 := dkwX6_takesMan_2 ++ dktX6_takesMan_3
def dkwX6_takesMan_1 : List UInt8 := [153, 0, 55, 42, 4, 4, 16, 9, 182, 0, 253, 153, 0, 44, 42, 180, 0, 234, 5, 160, 0, 36, 42]
abbrev dktX6_takesMan_1 : List UInt8 := dkwX6_takesMan_1 ++ dktX6_takesMan_2
def dkwX6_takesMan_0 : List UInt8 := [42, 180, 0, 45, 3, 46, 16, 8, 160, 0, 5, 3, 172, 42, 182, 0, 250, 42, 3, 3, 8, 182, 0, 253]
abbrev dktX6_takesMan_0 : List UInt8 := dkwX6_takesMan_0 ++ dktX6_takesMan_1
theorem dksX6_takesMan_0 : cX6_takesMan.data.toList.drop 0 = dktX6_takesMan_0 := by decide +kernel
theorem dksX6_takesMan_1 : cX6_takesMan.data.toList.drop 24 = dktX6_takesMan_1 := dk_seg dksX6_takesMan_0 24 rfl rfl
theorem dksX6_takesMan_2 : cX6_takesMan.data.toList.drop 47 = dktX6_takesMan_2 := dk_seg dksX6_takesMan_1 23 rfl rfl
theorem dksX6_takesMan_3 : cX6_takesMan.data.toList.drop 71 = dktX6_takesMan_3 := dk_seg dksX6_takesMan_2 24 rfl rfl
theorem dksX6_takesMan_4 : cX6_takesMan.data.toList.drop 95 = dktX6_takesMan_4 := dk_seg dksX6_takesMan_3 24 rfl rfl
theorem dksX6_takesMan_5 : cX6_takesMan.data.toList.drop 119 = dktX6_takesMan_5 := dk_seg dksX6_takesMan_4 24 rfl rfl
theorem dX6_takesMan_0 : decode cX6_takesMan 0 = .ok (.aload_n 0, 1) := dk_42 (dk_at dksX6_takesMan_0 0 rfl rfl)
theorem dX6_takesMan_1 : decode cX6_takesMan 1 = .ok (.getfield 45, 3) := dk_180 0 45 (dk_at dksX6_takesMan_0 1 rfl rfl)
theorem dX6_takesMan_4 : decode cX6_takesMan 4 = .ok (.iconst 0, 1) := dk_3 (dk_at dksX6_takesMan_0 4 rfl rfl)
theorem dX6_takesMan_5 : decode cX6_takesMan 5 = .ok (.iaload, 1) := dk_46 (dk_at dksX6_takesMan_0 5 rfl rfl)
theorem dX6_takesMan_6 : decode cX6_takesMan 6 = .ok (.bipush 8, 2) := dk_16 8 (dk_at dksX6_takesMan_0 6 rfl rfl)
theorem dX6_takesMan_8 : decode cX6_takesMan 8 = .ok (.if_icmp .ne 5, 3) := dk_160 0 5 (dk_at dksX6_takesMan_0 8 rfl rfl)
theorem dX6_takesMan_11 : decode cX6_takesMan 11 = .ok (.iconst 0, 1) := dk_3 (dk_at dksX6_takesMan_0 11 rfl rfl)
theorem dX6_takesMan_12 : decode cX6_takesMan 12 = .ok (.ireturn, 1) := dk_172 (dk_at dksX6_takesMan_0 12 rfl rfl)
theorem dX6_takesMan_13 : decode cX6_takesMan 13 = .ok (.aload_n 0, 1) := dk_42 (dk_at dksX6_takesMan_0 13 rfl rfl)
theorem dX6_takesMan_14 : decode cX6_takesMan 14 = .ok (.invokevirtual 250, 3) := dk_182 0 250 (dk_at dksX6_takesMan_0 14 rfl rfl)
theorem dX6_takesMan_17 : decode cX6_takesMan 17 = .ok (.aload_n 0, 1) := dk_42 (dk_at dksX6_takesMan_0 17 rfl rfl)
theorem dX6_takesMan_18 : decode cX6_takesMan 18 = .ok (.iconst 0, 1) := dk_3 (dk_at dksX6_takesMan_0 18 rfl rfl)
theorem dX6_takesMan_19 : decode cX6_takesMan 19 = .ok (.iconst 0, 1) := dk_3 (dk_at dksX6_takesMan_0 19 rfl rfl)
theorem dX6_takesMan_20 : decode cX6_takesMan 20 = .ok (.iconst 5, 1) := dk_8 (dk_at dksX6_takesMan_0 20 rfl rfl)
theorem dX6_takesMan_21 : decode cX6_takesMan 21 = .ok (.invokevirtual 253, 3) := dk_182 0 253 (dk_at dksX6_takesMan_0 21 rfl rfl)
theorem dX6_takesMan_24 : decode cX6_takesMan 24 = .ok (.ifCond .eq 55, 3) := dk_153 0 55 (dk_at dksX6_takesMan_1 0 rfl rfl)
theorem dX6_takesMan_27 : decode cX6_takesMan 27 = .ok (.aload_n 0, 1) := dk_42 (dk_at dksX6_takesMan_1 3 rfl rfl)
theorem dX6_takesMan_28 : decode cX6_takesMan 28 = .ok (.iconst 1, 1) := dk_4 (dk_at dksX6_takesMan_1 4 rfl rfl)
theorem dX6_takesMan_29 : decode cX6_takesMan 29 = .ok (.iconst 1, 1) := dk_4 (dk_at dksX6_takesMan_1 5 rfl rfl)
theorem dX6_takesMan_30 : decode cX6_takesMan 30 = .ok (.bipush 9, 2) := dk_16 9 (dk_at dksX6_takesMan_1 6 rfl rfl)
theorem dX6_takesMan_32 : decode cX6_takesMan 32 = .ok (.invokevirtual 253, 3) := dk_182 0 253 (dk_at dksX6_takesMan_1 8 rfl rfl)
theorem dX6_takesMan_35 : decode cX6_takesMan 35 = .ok (.ifCond .eq 44, 3) := dk_153 0 44 (dk_at dksX6_takesMan_1 11 rfl rfl)
theorem dX6_takesMan_38 : decode cX6_takesMan 38 = .ok (.aload_n 0, 1) := dk_42 (dk_at dksX6_takesMan_1 14 rfl rfl)
theorem dX6_takesMan_39 : decode cX6_takesMan 39 = .ok (.getfield 234, 3) := dk_180 0 234 (dk_at dksX6_takesMan_1 15 rfl rfl)
theorem dX6_takesMan_42 : decode cX6_takesMan 42 = .ok (.iconst 2, 1) := dk_5 (dk_at dksX6_takesMan_1 18 rfl rfl)
theorem dX6_takesMan_43 : decode cX6_takesMan 43 = .ok (.if_icmp .ne 36, 3) := dk_160 0 36 (dk_at dksX6_takesMan_1 19 rfl rfl)
theorem dX6_takesMan_46 : decode cX6_takesMan 46 = .ok (.aload_n 0, 1) := dk_42 (dk_at dksX6_takesMan_1 22 rfl rfl)
theorem dX6_takesMan_47 : decode cX6_takesMan 47 = .ok (.getfield 237, 3) := dk_180 0 237 (dk_at dksX6_takesMan_2 0 rfl rfl)
theorem dX6_takesMan_50 : decode cX6_takesMan 50 = .ok (.bipush 9, 2) := dk_16 9 (dk_at dksX6_takesMan_2 3 rfl rfl)
theorem dX6_takesMan_52 : decode cX6_takesMan 52 = .ok (.if_icmp .eq 16, 3) := dk_159 0 16 (dk_at dksX6_takesMan_2 5 rfl rfl)
theorem dX6_takesMan_55 : decode cX6_takesMan 55 = .ok (.aload_n 0, 1) := dk_42 (dk_at dksX6_takesMan_2 8 rfl rfl)
theorem dX6_takesMan_56 : decode cX6_takesMan 56 = .ok (.getfield 237, 3) := dk_180 0 237 (dk_at dksX6_takesMan_2 9 rfl rfl)
theorem dX6_takesMan_59 : decode cX6_takesMan 59 = .ok (.aload_n 0, 1) := dk_42 (dk_at dksX6_takesMan_2 12 rfl rfl)
theorem dX6_takesMan_60 : decode cX6_takesMan 60 = .ok (.getfield 45, 3) := dk_180 0 45 (dk_at dksX6_takesMan_2 13 rfl rfl)
theorem dX6_takesMan_63 : decode cX6_takesMan 63 = .ok (.iconst 1, 1) := dk_4 (dk_at dksX6_takesMan_2 16 rfl rfl)
theorem dX6_takesMan_64 : decode cX6_takesMan 64 = .ok (.iaload, 1) := dk_46 (dk_at dksX6_takesMan_2 17 rfl rfl)
theorem dX6_takesMan_65 : decode cX6_takesMan 65 = .ok (.if_icmp .ge 14, 3) := dk_162 0 14 (dk_at dksX6_takesMan_2 18 rfl rfl)
theorem dX6_takesMan_68 : decode cX6_takesMan 68 = .ok (.aload_n 0, 1) := dk_42 (dk_at dksX6_takesMan_2 21 rfl rfl)
theorem dX6_takesMan_69 : decode cX6_takesMan 69 = .ok (.iconst 2, 1) := dk_5 (dk_at dksX6_takesMan_2 22 rfl rfl)
theorem dX6_takesMan_70 : decode cX6_takesMan 70 = .ok (.iconst 0, 1) := dk_3 (dk_at dksX6_takesMan_2 23 rfl rfl)
theorem dX6_takesMan_71 : decode cX6_takesMan 71 = .ok (.bipush 9, 2) := dk_16 9 (dk_at dksX6_takesMan_3 0 rfl rfl)
theorem dX6_takesMan_73 : decode cX6_takesMan 73 = .ok (.invokevirtual 253, 3) := dk_182 0 253 (dk_at dksX6_takesMan_3 2 rfl rfl)
theorem dX6_takesMan_76 : decode cX6_takesMan 76 = .ok (.ifCond .ne 5, 3) := dk_154 0 5 (dk_at dksX6_takesMan_3 5 rfl rfl)
theorem dX6_takesMan_79 : decode cX6_takesMan 79 = .ok (.iconst 0, 1) := dk_3 (dk_at dksX6_takesMan_3 8 rfl rfl)
theorem dX6_takesMan_80 : decode cX6_takesMan 80 = .ok (.ireturn, 1) := dk_172 (dk_at dksX6_takesMan_3 9 rfl rfl)
theorem dX6_takesMan_81 : decode cX6_takesMan 81 = .ok (.aload_n 0, 1) := dk_42 (dk_at dksX6_takesMan_3 10 rfl rfl)
theorem dX6_takesMan_82 : decode cX6_takesMan 82 = .ok (.getfield 45, 3) := dk_180 0 45 (dk_at dksX6_takesMan_3 11 rfl rfl)
theorem dX6_takesMan_85 : decode cX6_takesMan 85 = .ok (.aload_n 0, 1) := dk_42 (dk_at dksX6_takesMan_3 14 rfl rfl)
theorem dX6_takesMan_86 : decode cX6_takesMan 86 = .ok (.getfield 48, 3) := dk_180 0 48 (dk_at dksX6_takesMan_3 15 rfl rfl)
theorem dX6_takesMan_89 : decode cX6_takesMan 89 = .ok (.iconst 0, 1) := dk_3 (dk_at dksX6_takesMan_3 18 rfl rfl)
theorem dX6_takesMan_90 : decode cX6_takesMan 90 = .ok (.iaload, 1) := dk_46 (dk_at dksX6_takesMan_3 19 rfl rfl)
theorem dX6_takesMan_91 : decode cX6_takesMan 91 = .ok (.aload_n 0, 1) := dk_42 (dk_at dksX6_takesMan_3 20 rfl rfl)
theorem dX6_takesMan_92 : decode cX6_takesMan 92 = .ok (.getfield 48, 3) := dk_180 0 48 (dk_at dksX6_takesMan_3 21 rfl rfl)
theorem dX6_takesMan_95 : decode cX6_takesMan 95 = .ok (.iconst 1, 1) := dk_4 (dk_at dksX6_takesMan_4 0 rfl rfl)
theorem dX6_takesMan_96 : decode cX6_takesMan 96 = .ok (.iaload, 1) := dk_46 (dk_at dksX6_takesMan_4 1 rfl rfl)
theorem dX6_takesMan_97 : decode cX6_takesMan 97 = .ok (.aload_n 0, 1) := dk_42 (dk_at dksX6_takesMan_4 2 rfl rfl)
theorem dX6_takesMan_98 : decode cX6_takesMan 98 = .ok (.getfield 48, 3) := dk_180 0 48 (dk_at dksX6_takesMan_4 3 rfl rfl)
theorem dX6_takesMan_101 : decode cX6_takesMan 101 = .ok (.iconst 2, 1) := dk_5 (dk_at dksX6_takesMan_4 6 rfl rfl)
theorem dX6_takesMan_102 : decode cX6_takesMan 102 = .ok (.iaload, 1) := dk_46 (dk_at dksX6_takesMan_4 7 rfl rfl)
theorem dX6_takesMan_103 : decode cX6_takesMan 103 = .ok (.bipush 9, 2) := dk_16 9 (dk_at dksX6_takesMan_4 8 rfl rfl)
theorem dX6_takesMan_105 : decode cX6_takesMan 105 = .ok (.if_icmp .ne 7, 3) := dk_160 0 7 (dk_at dksX6_takesMan_4 10 rfl rfl)
theorem dX6_takesMan_108 : decode cX6_takesMan 108 = .ok (.iconst 0, 1) := dk_3 (dk_at dksX6_takesMan_4 13 rfl rfl)
theorem dX6_takesMan_109 : decode cX6_takesMan 109 = .ok (.goto 11, 3) := dk_167 0 11 (dk_at dksX6_takesMan_4 14 rfl rfl)
theorem dX6_takesMan_112 : decode cX6_takesMan 112 = .ok (.aload_n 0, 1) := dk_42 (dk_at dksX6_takesMan_4 17 rfl rfl)
theorem dX6_takesMan_113 : decode cX6_takesMan 113 = .ok (.getfield 48, 3) := dk_180 0 48 (dk_at dksX6_takesMan_4 18 rfl rfl)
theorem dX6_takesMan_116 : decode cX6_takesMan 116 = .ok (.iconst 2, 1) := dk_5 (dk_at dksX6_takesMan_4 21 rfl rfl)
theorem dX6_takesMan_117 : decode cX6_takesMan 117 = .ok (.iaload, 1) := dk_46 (dk_at dksX6_takesMan_4 22 rfl rfl)
theorem dX6_takesMan_118 : decode cX6_takesMan 118 = .ok (.iconst 1, 1) := dk_4 (dk_at dksX6_takesMan_4 23 rfl rfl)
theorem dX6_takesMan_119 : decode cX6_takesMan 119 = .ok (.iadd, 1) := dk_96 (dk_at dksX6_takesMan_5 0 rfl rfl)
theorem dX6_takesMan_120 : decode cX6_takesMan 120 = .ok (.invokestatic 86, 3) := dk_184 0 86 (dk_at dksX6_takesMan_5 1 rfl rfl)
theorem dX6_takesMan_123 : decode cX6_takesMan 123 = .ok (.iconst 1, 1) := dk_4 (dk_at dksX6_takesMan_5 4 rfl rfl)
theorem dX6_takesMan_124 : decode cX6_takesMan 124 = .ok (.ireturn, 1) := dk_172 (dk_at dksX6_takesMan_5 5 rfl rfl)
abbrev cX6_takesCall : ByteArray := prog_21_method_78_code
def yX6_takesCall : MethodName := ⟨RX6, "takesCall", "()Z"⟩
def dkwX6_takesCall_2 : List UInt8 := [172, 42, 180, 0, 45, 42, 180, 0, 237, 184, 0, 117, 60, 42, 182, 0, 250, 4, 172]
abbrev dktX6_takesCall_2 : List UInt8 := dkwX6_takesCall_2 ++ []
def dkwX6_takesCall_1 : List UInt8 := [4, 100, 133, 184, 0, 59, 153, 0, 17, 42, 180, 0, 45, 42, 180, 0, 237, 184, 0, 90, 154, 0, 5, 3]
abbrev dktX6_takesCall_1 : List UInt8 := dkwX6_takesCall_1 ++ dktX6_takesCall_2
def dkwX6_takesCall_0 : List UInt8 := [42, 182, 0, 250, 42, 180, 0, 234, 5, 160, 0, 38, 42, 180, 0, 237, 133, 9, 42, 180, 0, 45, 4, 46]
abbrev dktX6_takesCall_0 : List UInt8 := dkwX6_takesCall_0 ++ dktX6_takesCall_1
theorem dksX6_takesCall_0 : cX6_takesCall.data.toList.drop 0 = dktX6_takesCall_0 := by decide +kernel
theorem dksX6_takesCall_1 : cX6_takesCall.data.toList.drop 24 = dktX6_takesCall_1 := dk_seg dksX6_takesCall_0 24 rfl rfl
theorem dksX6_takesCall_2 : cX6_takesCall.data.toList.drop 48 = dktX6_takesCall_2 := dk_seg dksX6_takesCall_1 24 rfl rfl
theorem dX6_takesCall_0 : decode cX6_takesCall 0 = .ok (.aload_n 0, 1) := dk_42 (dk_at dksX6_takesCall_0 0 rfl rfl)
theorem dX6_takesCall_1 : decode cX6_takesCall 1 = .ok (.invokevirtual 250, 3) := dk_182 0 250 (dk_at dksX6_takesCall_0 1 rfl rfl)
theorem dX6_takesCall_4 : decode cX6_takesCall 4 = .ok (.aload_n 0, 1) := dk_42 (dk_at dksX6_takesCall_0 4 rfl rfl)
theorem dX6_takesCall_5 : decode cX6_takesCall 5 = .ok (.getfield 234, 3) := dk_180 0 234 (dk_at dksX6_takesCall_0 5 rfl rfl)
theorem dX6_takesCall_8 : decode cX6_takesCall 8 = .ok (.iconst 2, 1) := dk_5 (dk_at dksX6_takesCall_0 8 rfl rfl)
theorem dX6_takesCall_9 : decode cX6_takesCall 9 = .ok (.if_icmp .ne 38, 3) := dk_160 0 38 (dk_at dksX6_takesCall_0 9 rfl rfl)
theorem dX6_takesCall_12 : decode cX6_takesCall 12 = .ok (.aload_n 0, 1) := dk_42 (dk_at dksX6_takesCall_0 12 rfl rfl)
theorem dX6_takesCall_13 : decode cX6_takesCall 13 = .ok (.getfield 237, 3) := dk_180 0 237 (dk_at dksX6_takesCall_0 13 rfl rfl)
theorem dX6_takesCall_16 : decode cX6_takesCall 16 = .ok (.i2l, 1) := dk_133 (dk_at dksX6_takesCall_0 16 rfl rfl)
theorem dX6_takesCall_17 : decode cX6_takesCall 17 = .ok (.lconst 0, 1) := dk_9 (dk_at dksX6_takesCall_0 17 rfl rfl)
theorem dX6_takesCall_18 : decode cX6_takesCall 18 = .ok (.aload_n 0, 1) := dk_42 (dk_at dksX6_takesCall_0 18 rfl rfl)
theorem dX6_takesCall_19 : decode cX6_takesCall 19 = .ok (.getfield 45, 3) := dk_180 0 45 (dk_at dksX6_takesCall_0 19 rfl rfl)
theorem dX6_takesCall_22 : decode cX6_takesCall 22 = .ok (.iconst 1, 1) := dk_4 (dk_at dksX6_takesCall_0 22 rfl rfl)
theorem dX6_takesCall_23 : decode cX6_takesCall 23 = .ok (.iaload, 1) := dk_46 (dk_at dksX6_takesCall_0 23 rfl rfl)
theorem dX6_takesCall_24 : decode cX6_takesCall 24 = .ok (.iconst 1, 1) := dk_4 (dk_at dksX6_takesCall_1 0 rfl rfl)
theorem dX6_takesCall_25 : decode cX6_takesCall 25 = .ok (.isub, 1) := dk_100 (dk_at dksX6_takesCall_1 1 rfl rfl)
theorem dX6_takesCall_26 : decode cX6_takesCall 26 = .ok (.i2l, 1) := dk_133 (dk_at dksX6_takesCall_1 2 rfl rfl)
theorem dX6_takesCall_27 : decode cX6_takesCall 27 = .ok (.invokestatic 59, 3) := dk_184 0 59 (dk_at dksX6_takesCall_1 3 rfl rfl)
theorem dX6_takesCall_30 : decode cX6_takesCall 30 = .ok (.ifCond .eq 17, 3) := dk_153 0 17 (dk_at dksX6_takesCall_1 6 rfl rfl)
theorem dX6_takesCall_33 : decode cX6_takesCall 33 = .ok (.aload_n 0, 1) := dk_42 (dk_at dksX6_takesCall_1 9 rfl rfl)
theorem dX6_takesCall_34 : decode cX6_takesCall 34 = .ok (.getfield 45, 3) := dk_180 0 45 (dk_at dksX6_takesCall_1 10 rfl rfl)
theorem dX6_takesCall_37 : decode cX6_takesCall 37 = .ok (.aload_n 0, 1) := dk_42 (dk_at dksX6_takesCall_1 13 rfl rfl)
theorem dX6_takesCall_38 : decode cX6_takesCall 38 = .ok (.getfield 237, 3) := dk_180 0 237 (dk_at dksX6_takesCall_1 14 rfl rfl)
theorem dX6_takesCall_41 : decode cX6_takesCall 41 = .ok (.invokestatic 90, 3) := dk_184 0 90 (dk_at dksX6_takesCall_1 17 rfl rfl)
theorem dX6_takesCall_44 : decode cX6_takesCall 44 = .ok (.ifCond .ne 5, 3) := dk_154 0 5 (dk_at dksX6_takesCall_1 20 rfl rfl)
theorem dX6_takesCall_47 : decode cX6_takesCall 47 = .ok (.iconst 0, 1) := dk_3 (dk_at dksX6_takesCall_1 23 rfl rfl)
theorem dX6_takesCall_48 : decode cX6_takesCall 48 = .ok (.ireturn, 1) := dk_172 (dk_at dksX6_takesCall_2 0 rfl rfl)
theorem dX6_takesCall_49 : decode cX6_takesCall 49 = .ok (.aload_n 0, 1) := dk_42 (dk_at dksX6_takesCall_2 1 rfl rfl)
theorem dX6_takesCall_50 : decode cX6_takesCall 50 = .ok (.getfield 45, 3) := dk_180 0 45 (dk_at dksX6_takesCall_2 2 rfl rfl)
theorem dX6_takesCall_53 : decode cX6_takesCall 53 = .ok (.aload_n 0, 1) := dk_42 (dk_at dksX6_takesCall_2 5 rfl rfl)
theorem dX6_takesCall_54 : decode cX6_takesCall 54 = .ok (.getfield 237, 3) := dk_180 0 237 (dk_at dksX6_takesCall_2 6 rfl rfl)
theorem dX6_takesCall_57 : decode cX6_takesCall 57 = .ok (.invokestatic 117, 3) := dk_184 0 117 (dk_at dksX6_takesCall_2 9 rfl rfl)
theorem dX6_takesCall_60 : decode cX6_takesCall 60 = .ok (.istore_n 1, 1) := dk_60 (dk_at dksX6_takesCall_2 12 rfl rfl)
theorem dX6_takesCall_61 : decode cX6_takesCall 61 = .ok (.aload_n 0, 1) := dk_42 (dk_at dksX6_takesCall_2 13 rfl rfl)
theorem dX6_takesCall_62 : decode cX6_takesCall 62 = .ok (.invokevirtual 250, 3) := dk_182 0 250 (dk_at dksX6_takesCall_2 14 rfl rfl)
theorem dX6_takesCall_65 : decode cX6_takesCall 65 = .ok (.iconst 1, 1) := dk_4 (dk_at dksX6_takesCall_2 17 rfl rfl)
theorem dX6_takesCall_66 : decode cX6_takesCall 66 = .ok (.ireturn, 1) := dk_172 (dk_at dksX6_takesCall_2 18 rfl rfl)
abbrev cX6_takesBoard : ByteArray := prog_21_method_79_code
def yX6_takesBoard : MethodName := ⟨RX6, "takesBoard", "()Z"⟩
def dkwX6_takesBoard_4 : List UInt8 := [172]
abbrev dktX6_takesBoard_4 : List UInt8 := dkwX6_takesBoard_4 ++ []
def dkwX6_takesBoard_3 : List UInt8 := [180, 0, 45, 16, 6, 42, 180, 0, 237, 96, 42, 180, 0, 48, 3, 46, 4, 96, 79, 42, 182, 0, 250, 4]
abbrev dktX6_takesBoard_3 : List UInt8 := dkwX6_takesBoard_3 ++ dktX6_takesBoard_4
def dkwX6_takesBoard_2 : List UInt8 := [184, 0, 59, 153, 0, 18, 42, 180, 0, 45, 16, 6, 42, 180, 0, 237, 96, 46, 153, 0, 5, 3, 172, 42]
abbrev dktX6_takesBoard_2 : List UInt8 := dkwX6_takesBoard_2 ++ dktX6_takesBoard_3
def dkwX6_takesBoard_1 : List UInt8 := [180, 0, 234, 5, 160, 0, 39, 42, 180, 0, 237, 133, 9, 42, 180, 0, 45, 3, 46, 4, 100, 133]
abbrev dktX6_takesBoard_1 : List UInt8 := dkwX6_takesBoard_1 ++ dktX6_takesBoard_2
def dkwX6_takesBoard_0 : List UInt8 := [42, 182, 0, 250, 42, 3, 3, 42, 180, 0, 45, 4, 46, 4, 100, 182, 0, 253, 153, 0, 47, 42]
abbrev dktX6_takesBoard_0 : List UInt8 := dkwX6_takesBoard_0 ++ dktX6_takesBoard_1
theorem dksX6_takesBoard_0 : cX6_takesBoard.data.toList.drop 0 = dktX6_takesBoard_0 := by decide +kernel
theorem dksX6_takesBoard_1 : cX6_takesBoard.data.toList.drop 22 = dktX6_takesBoard_1 := dk_seg dksX6_takesBoard_0 22 rfl rfl
theorem dksX6_takesBoard_2 : cX6_takesBoard.data.toList.drop 44 = dktX6_takesBoard_2 := dk_seg dksX6_takesBoard_1 22 rfl rfl
theorem dksX6_takesBoard_3 : cX6_takesBoard.data.toList.drop 68 = dktX6_takesBoard_3 := dk_seg dksX6_takesBoard_2 24 rfl rfl
theorem dksX6_takesBoard_4 : cX6_takesBoard.data.toList.drop 92 = dktX6_takesBoard_4 := dk_seg dksX6_takesBoard_3 24 rfl rfl
theorem dX6_takesBoard_0 : decode cX6_takesBoard 0 = .ok (.aload_n 0, 1) := dk_42 (dk_at dksX6_takesBoard_0 0 rfl rfl)
theorem dX6_takesBoard_1 : decode cX6_takesBoard 1 = .ok (.invokevirtual 250, 3) := dk_182 0 250 (dk_at dksX6_takesBoard_0 1 rfl rfl)
theorem dX6_takesBoard_4 : decode cX6_takesBoard 4 = .ok (.aload_n 0, 1) := dk_42 (dk_at dksX6_takesBoard_0 4 rfl rfl)
theorem dX6_takesBoard_5 : decode cX6_takesBoard 5 = .ok (.iconst 0, 1) := dk_3 (dk_at dksX6_takesBoard_0 5 rfl rfl)
theorem dX6_takesBoard_6 : decode cX6_takesBoard 6 = .ok (.iconst 0, 1) := dk_3 (dk_at dksX6_takesBoard_0 6 rfl rfl)
theorem dX6_takesBoard_7 : decode cX6_takesBoard 7 = .ok (.aload_n 0, 1) := dk_42 (dk_at dksX6_takesBoard_0 7 rfl rfl)
theorem dX6_takesBoard_8 : decode cX6_takesBoard 8 = .ok (.getfield 45, 3) := dk_180 0 45 (dk_at dksX6_takesBoard_0 8 rfl rfl)
theorem dX6_takesBoard_11 : decode cX6_takesBoard 11 = .ok (.iconst 1, 1) := dk_4 (dk_at dksX6_takesBoard_0 11 rfl rfl)
theorem dX6_takesBoard_12 : decode cX6_takesBoard 12 = .ok (.iaload, 1) := dk_46 (dk_at dksX6_takesBoard_0 12 rfl rfl)
theorem dX6_takesBoard_13 : decode cX6_takesBoard 13 = .ok (.iconst 1, 1) := dk_4 (dk_at dksX6_takesBoard_0 13 rfl rfl)
theorem dX6_takesBoard_14 : decode cX6_takesBoard 14 = .ok (.isub, 1) := dk_100 (dk_at dksX6_takesBoard_0 14 rfl rfl)
theorem dX6_takesBoard_15 : decode cX6_takesBoard 15 = .ok (.invokevirtual 253, 3) := dk_182 0 253 (dk_at dksX6_takesBoard_0 15 rfl rfl)
theorem dX6_takesBoard_18 : decode cX6_takesBoard 18 = .ok (.ifCond .eq 47, 3) := dk_153 0 47 (dk_at dksX6_takesBoard_0 18 rfl rfl)
theorem dX6_takesBoard_21 : decode cX6_takesBoard 21 = .ok (.aload_n 0, 1) := dk_42 (dk_at dksX6_takesBoard_0 21 rfl rfl)
theorem dX6_takesBoard_22 : decode cX6_takesBoard 22 = .ok (.getfield 234, 3) := dk_180 0 234 (dk_at dksX6_takesBoard_1 0 rfl rfl)
theorem dX6_takesBoard_25 : decode cX6_takesBoard 25 = .ok (.iconst 2, 1) := dk_5 (dk_at dksX6_takesBoard_1 3 rfl rfl)
theorem dX6_takesBoard_26 : decode cX6_takesBoard 26 = .ok (.if_icmp .ne 39, 3) := dk_160 0 39 (dk_at dksX6_takesBoard_1 4 rfl rfl)
theorem dX6_takesBoard_29 : decode cX6_takesBoard 29 = .ok (.aload_n 0, 1) := dk_42 (dk_at dksX6_takesBoard_1 7 rfl rfl)
theorem dX6_takesBoard_30 : decode cX6_takesBoard 30 = .ok (.getfield 237, 3) := dk_180 0 237 (dk_at dksX6_takesBoard_1 8 rfl rfl)
theorem dX6_takesBoard_33 : decode cX6_takesBoard 33 = .ok (.i2l, 1) := dk_133 (dk_at dksX6_takesBoard_1 11 rfl rfl)
theorem dX6_takesBoard_34 : decode cX6_takesBoard 34 = .ok (.lconst 0, 1) := dk_9 (dk_at dksX6_takesBoard_1 12 rfl rfl)
theorem dX6_takesBoard_35 : decode cX6_takesBoard 35 = .ok (.aload_n 0, 1) := dk_42 (dk_at dksX6_takesBoard_1 13 rfl rfl)
theorem dX6_takesBoard_36 : decode cX6_takesBoard 36 = .ok (.getfield 45, 3) := dk_180 0 45 (dk_at dksX6_takesBoard_1 14 rfl rfl)
theorem dX6_takesBoard_39 : decode cX6_takesBoard 39 = .ok (.iconst 0, 1) := dk_3 (dk_at dksX6_takesBoard_1 17 rfl rfl)
theorem dX6_takesBoard_40 : decode cX6_takesBoard 40 = .ok (.iaload, 1) := dk_46 (dk_at dksX6_takesBoard_1 18 rfl rfl)
theorem dX6_takesBoard_41 : decode cX6_takesBoard 41 = .ok (.iconst 1, 1) := dk_4 (dk_at dksX6_takesBoard_1 19 rfl rfl)
theorem dX6_takesBoard_42 : decode cX6_takesBoard 42 = .ok (.isub, 1) := dk_100 (dk_at dksX6_takesBoard_1 20 rfl rfl)
theorem dX6_takesBoard_43 : decode cX6_takesBoard 43 = .ok (.i2l, 1) := dk_133 (dk_at dksX6_takesBoard_1 21 rfl rfl)
theorem dX6_takesBoard_44 : decode cX6_takesBoard 44 = .ok (.invokestatic 59, 3) := dk_184 0 59 (dk_at dksX6_takesBoard_2 0 rfl rfl)
theorem dX6_takesBoard_47 : decode cX6_takesBoard 47 = .ok (.ifCond .eq 18, 3) := dk_153 0 18 (dk_at dksX6_takesBoard_2 3 rfl rfl)
theorem dX6_takesBoard_50 : decode cX6_takesBoard 50 = .ok (.aload_n 0, 1) := dk_42 (dk_at dksX6_takesBoard_2 6 rfl rfl)
theorem dX6_takesBoard_51 : decode cX6_takesBoard 51 = .ok (.getfield 45, 3) := dk_180 0 45 (dk_at dksX6_takesBoard_2 7 rfl rfl)
theorem dX6_takesBoard_54 : decode cX6_takesBoard 54 = .ok (.bipush 6, 2) := dk_16 6 (dk_at dksX6_takesBoard_2 10 rfl rfl)
theorem dX6_takesBoard_56 : decode cX6_takesBoard 56 = .ok (.aload_n 0, 1) := dk_42 (dk_at dksX6_takesBoard_2 12 rfl rfl)
theorem dX6_takesBoard_57 : decode cX6_takesBoard 57 = .ok (.getfield 237, 3) := dk_180 0 237 (dk_at dksX6_takesBoard_2 13 rfl rfl)
theorem dX6_takesBoard_60 : decode cX6_takesBoard 60 = .ok (.iadd, 1) := dk_96 (dk_at dksX6_takesBoard_2 16 rfl rfl)
theorem dX6_takesBoard_61 : decode cX6_takesBoard 61 = .ok (.iaload, 1) := dk_46 (dk_at dksX6_takesBoard_2 17 rfl rfl)
theorem dX6_takesBoard_62 : decode cX6_takesBoard 62 = .ok (.ifCond .eq 5, 3) := dk_153 0 5 (dk_at dksX6_takesBoard_2 18 rfl rfl)
theorem dX6_takesBoard_65 : decode cX6_takesBoard 65 = .ok (.iconst 0, 1) := dk_3 (dk_at dksX6_takesBoard_2 21 rfl rfl)
theorem dX6_takesBoard_66 : decode cX6_takesBoard 66 = .ok (.ireturn, 1) := dk_172 (dk_at dksX6_takesBoard_2 22 rfl rfl)
theorem dX6_takesBoard_67 : decode cX6_takesBoard 67 = .ok (.aload_n 0, 1) := dk_42 (dk_at dksX6_takesBoard_2 23 rfl rfl)
theorem dX6_takesBoard_68 : decode cX6_takesBoard 68 = .ok (.getfield 45, 3) := dk_180 0 45 (dk_at dksX6_takesBoard_3 0 rfl rfl)
theorem dX6_takesBoard_71 : decode cX6_takesBoard 71 = .ok (.bipush 6, 2) := dk_16 6 (dk_at dksX6_takesBoard_3 3 rfl rfl)
theorem dX6_takesBoard_73 : decode cX6_takesBoard 73 = .ok (.aload_n 0, 1) := dk_42 (dk_at dksX6_takesBoard_3 5 rfl rfl)
theorem dX6_takesBoard_74 : decode cX6_takesBoard 74 = .ok (.getfield 237, 3) := dk_180 0 237 (dk_at dksX6_takesBoard_3 6 rfl rfl)
theorem dX6_takesBoard_77 : decode cX6_takesBoard 77 = .ok (.iadd, 1) := dk_96 (dk_at dksX6_takesBoard_3 9 rfl rfl)
theorem dX6_takesBoard_78 : decode cX6_takesBoard 78 = .ok (.aload_n 0, 1) := dk_42 (dk_at dksX6_takesBoard_3 10 rfl rfl)
theorem dX6_takesBoard_79 : decode cX6_takesBoard 79 = .ok (.getfield 48, 3) := dk_180 0 48 (dk_at dksX6_takesBoard_3 11 rfl rfl)
theorem dX6_takesBoard_82 : decode cX6_takesBoard 82 = .ok (.iconst 0, 1) := dk_3 (dk_at dksX6_takesBoard_3 14 rfl rfl)
theorem dX6_takesBoard_83 : decode cX6_takesBoard 83 = .ok (.iaload, 1) := dk_46 (dk_at dksX6_takesBoard_3 15 rfl rfl)
theorem dX6_takesBoard_84 : decode cX6_takesBoard 84 = .ok (.iconst 1, 1) := dk_4 (dk_at dksX6_takesBoard_3 16 rfl rfl)
theorem dX6_takesBoard_85 : decode cX6_takesBoard 85 = .ok (.iadd, 1) := dk_96 (dk_at dksX6_takesBoard_3 17 rfl rfl)
theorem dX6_takesBoard_86 : decode cX6_takesBoard 86 = .ok (.iastore, 1) := dk_79 (dk_at dksX6_takesBoard_3 18 rfl rfl)
theorem dX6_takesBoard_87 : decode cX6_takesBoard 87 = .ok (.aload_n 0, 1) := dk_42 (dk_at dksX6_takesBoard_3 19 rfl rfl)
theorem dX6_takesBoard_88 : decode cX6_takesBoard 88 = .ok (.invokevirtual 250, 3) := dk_182 0 250 (dk_at dksX6_takesBoard_3 20 rfl rfl)
theorem dX6_takesBoard_91 : decode cX6_takesBoard 91 = .ok (.iconst 1, 1) := dk_4 (dk_at dksX6_takesBoard_3 23 rfl rfl)
theorem dX6_takesBoard_92 : decode cX6_takesBoard 92 = .ok (.ireturn, 1) := dk_172 (dk_at dksX6_takesBoard_4 0 rfl rfl)
abbrev cX6_part : ByteArray := prog_21_method_82_code
def yX6_part : MethodName := ⟨RX6, "part", "(I)J"⟩
def dkwX6_part_1 : List UInt8 := [16, 254, 182, 0, 73, 133, 173]
abbrev dktX6_part_1 : List UInt8 := dkwX6_part_1 ++ []
def dkwX6_part_0 : List UInt8 := [27, 154, 0, 10, 42, 180, 0, 191, 167, 0, 22, 27, 4, 160, 0, 10, 42, 180, 0, 23, 167, 0, 10, 42]
abbrev dktX6_part_0 : List UInt8 := dkwX6_part_0 ++ dktX6_part_1
theorem dksX6_part_0 : cX6_part.data.toList.drop 0 = dktX6_part_0 := by decide +kernel
theorem dksX6_part_1 : cX6_part.data.toList.drop 24 = dktX6_part_1 := dk_seg dksX6_part_0 24 rfl rfl
theorem dX6_part_0 : decode cX6_part 0 = .ok (.iload_n 1, 1) := dk_27 (dk_at dksX6_part_0 0 rfl rfl)
theorem dX6_part_1 : decode cX6_part 1 = .ok (.ifCond .ne 10, 3) := dk_154 0 10 (dk_at dksX6_part_0 1 rfl rfl)
theorem dX6_part_4 : decode cX6_part 4 = .ok (.aload_n 0, 1) := dk_42 (dk_at dksX6_part_0 4 rfl rfl)
theorem dX6_part_5 : decode cX6_part 5 = .ok (.getfield 191, 3) := dk_180 0 191 (dk_at dksX6_part_0 5 rfl rfl)
theorem dX6_part_8 : decode cX6_part 8 = .ok (.goto 22, 3) := dk_167 0 22 (dk_at dksX6_part_0 8 rfl rfl)
theorem dX6_part_11 : decode cX6_part 11 = .ok (.iload_n 1, 1) := dk_27 (dk_at dksX6_part_0 11 rfl rfl)
theorem dX6_part_12 : decode cX6_part 12 = .ok (.iconst 1, 1) := dk_4 (dk_at dksX6_part_0 12 rfl rfl)
theorem dX6_part_13 : decode cX6_part 13 = .ok (.if_icmp .ne 10, 3) := dk_160 0 10 (dk_at dksX6_part_0 13 rfl rfl)
theorem dX6_part_16 : decode cX6_part 16 = .ok (.aload_n 0, 1) := dk_42 (dk_at dksX6_part_0 16 rfl rfl)
theorem dX6_part_17 : decode cX6_part 17 = .ok (.getfield 23, 3) := dk_180 0 23 (dk_at dksX6_part_0 17 rfl rfl)
theorem dX6_part_20 : decode cX6_part 20 = .ok (.goto 10, 3) := dk_167 0 10 (dk_at dksX6_part_0 20 rfl rfl)
theorem dX6_part_23 : decode cX6_part 23 = .ok (.aload_n 0, 1) := dk_42 (dk_at dksX6_part_0 23 rfl rfl)
theorem dX6_part_24 : decode cX6_part 24 = .ok (.bipush (-2), 2) := dk_16 254 (dk_at dksX6_part_1 0 rfl rfl)
theorem dX6_part_26 : decode cX6_part 26 = .ok (.invokevirtual 73, 3) := dk_182 0 73 (dk_at dksX6_part_1 2 rfl rfl)
theorem dX6_part_29 : decode cX6_part 29 = .ok (.i2l, 1) := dk_133 (dk_at dksX6_part_1 5 rfl rfl)
theorem dX6_part_30 : decode cX6_part 30 = .ok (.lreturn, 1) := dk_173 (dk_at dksX6_part_1 6 rfl rfl)
abbrev cX6_image : ByteArray := prog_21_method_83_code
def yX6_image : MethodName := ⟨RX6, "image", "(I)I"⟩
def dkwX6_image_2 : List UInt8 := [167, 255, 228, 42, 180, 0, 16, 27, 4, 84, 4, 172]
abbrev dktX6_image_2 : List UInt8 := dkwX6_image_2 ++ []
def dkwX6_image_1 : List UInt8 := [162, 0, 27, 42, 180, 0, 13, 17, 0, 192, 27, 104, 28, 96, 42, 180, 0, 7, 28, 46, 79, 132, 2, 1]
abbrev dktX6_image_1 : List UInt8 := dkwX6_image_1 ++ dktX6_image_2
def dkwX6_image_0 : List UInt8 := [27, 133, 9, 10, 184, 0, 59, 154, 0, 10, 42, 16, 254, 182, 0, 73, 172, 3, 61, 28, 17, 0, 192]
abbrev dktX6_image_0 : List UInt8 := dkwX6_image_0 ++ dktX6_image_1
theorem dksX6_image_0 : cX6_image.data.toList.drop 0 = dktX6_image_0 := by decide +kernel
theorem dksX6_image_1 : cX6_image.data.toList.drop 23 = dktX6_image_1 := dk_seg dksX6_image_0 23 rfl rfl
theorem dksX6_image_2 : cX6_image.data.toList.drop 47 = dktX6_image_2 := dk_seg dksX6_image_1 24 rfl rfl
theorem dX6_image_0 : decode cX6_image 0 = .ok (.iload_n 1, 1) := dk_27 (dk_at dksX6_image_0 0 rfl rfl)
theorem dX6_image_1 : decode cX6_image 1 = .ok (.i2l, 1) := dk_133 (dk_at dksX6_image_0 1 rfl rfl)
theorem dX6_image_2 : decode cX6_image 2 = .ok (.lconst 0, 1) := dk_9 (dk_at dksX6_image_0 2 rfl rfl)
theorem dX6_image_3 : decode cX6_image 3 = .ok (.lconst 1, 1) := dk_10 (dk_at dksX6_image_0 3 rfl rfl)
theorem dX6_image_4 : decode cX6_image 4 = .ok (.invokestatic 59, 3) := dk_184 0 59 (dk_at dksX6_image_0 4 rfl rfl)
theorem dX6_image_7 : decode cX6_image 7 = .ok (.ifCond .ne 10, 3) := dk_154 0 10 (dk_at dksX6_image_0 7 rfl rfl)
theorem dX6_image_10 : decode cX6_image 10 = .ok (.aload_n 0, 1) := dk_42 (dk_at dksX6_image_0 10 rfl rfl)
theorem dX6_image_11 : decode cX6_image 11 = .ok (.bipush (-2), 2) := dk_16 254 (dk_at dksX6_image_0 11 rfl rfl)
theorem dX6_image_13 : decode cX6_image 13 = .ok (.invokevirtual 73, 3) := dk_182 0 73 (dk_at dksX6_image_0 13 rfl rfl)
theorem dX6_image_16 : decode cX6_image 16 = .ok (.ireturn, 1) := dk_172 (dk_at dksX6_image_0 16 rfl rfl)
theorem dX6_image_17 : decode cX6_image 17 = .ok (.iconst 0, 1) := dk_3 (dk_at dksX6_image_0 17 rfl rfl)
theorem dX6_image_18 : decode cX6_image 18 = .ok (.istore_n 2, 1) := dk_61 (dk_at dksX6_image_0 18 rfl rfl)
theorem dX6_image_19 : decode cX6_image 19 = .ok (.iload_n 2, 1) := dk_28 (dk_at dksX6_image_0 19 rfl rfl)
theorem dX6_image_20 : decode cX6_image 20 = .ok (.sipush 192, 3) := dk_17 0 192 (dk_at dksX6_image_0 20 rfl rfl)
theorem dX6_image_23 : decode cX6_image 23 = .ok (.if_icmp .ge 27, 3) := dk_162 0 27 (dk_at dksX6_image_1 0 rfl rfl)
theorem dX6_image_26 : decode cX6_image 26 = .ok (.aload_n 0, 1) := dk_42 (dk_at dksX6_image_1 3 rfl rfl)
theorem dX6_image_27 : decode cX6_image 27 = .ok (.getfield 13, 3) := dk_180 0 13 (dk_at dksX6_image_1 4 rfl rfl)
theorem dX6_image_30 : decode cX6_image 30 = .ok (.sipush 192, 3) := dk_17 0 192 (dk_at dksX6_image_1 7 rfl rfl)
theorem dX6_image_33 : decode cX6_image 33 = .ok (.iload_n 1, 1) := dk_27 (dk_at dksX6_image_1 10 rfl rfl)
theorem dX6_image_34 : decode cX6_image 34 = .ok (.imul, 1) := dk_104 (dk_at dksX6_image_1 11 rfl rfl)
theorem dX6_image_35 : decode cX6_image 35 = .ok (.iload_n 2, 1) := dk_28 (dk_at dksX6_image_1 12 rfl rfl)
theorem dX6_image_36 : decode cX6_image 36 = .ok (.iadd, 1) := dk_96 (dk_at dksX6_image_1 13 rfl rfl)
theorem dX6_image_37 : decode cX6_image 37 = .ok (.aload_n 0, 1) := dk_42 (dk_at dksX6_image_1 14 rfl rfl)
theorem dX6_image_38 : decode cX6_image 38 = .ok (.getfield 7, 3) := dk_180 0 7 (dk_at dksX6_image_1 15 rfl rfl)
theorem dX6_image_41 : decode cX6_image 41 = .ok (.iload_n 2, 1) := dk_28 (dk_at dksX6_image_1 18 rfl rfl)
theorem dX6_image_42 : decode cX6_image 42 = .ok (.iaload, 1) := dk_46 (dk_at dksX6_image_1 19 rfl rfl)
theorem dX6_image_43 : decode cX6_image 43 = .ok (.iastore, 1) := dk_79 (dk_at dksX6_image_1 20 rfl rfl)
theorem dX6_image_44 : decode cX6_image 44 = .ok (.iinc 2 1, 3) := dk_132 2 1 (dk_at dksX6_image_1 21 rfl rfl)
theorem dX6_image_47 : decode cX6_image 47 = .ok (.goto (-28), 3) := dk_167 255 228 (dk_at dksX6_image_2 0 rfl rfl)
theorem dX6_image_50 : decode cX6_image 50 = .ok (.aload_n 0, 1) := dk_42 (dk_at dksX6_image_2 3 rfl rfl)
theorem dX6_image_51 : decode cX6_image 51 = .ok (.getfield 16, 3) := dk_180 0 16 (dk_at dksX6_image_2 4 rfl rfl)
theorem dX6_image_54 : decode cX6_image 54 = .ok (.iload_n 1, 1) := dk_27 (dk_at dksX6_image_2 7 rfl rfl)
theorem dX6_image_55 : decode cX6_image 55 = .ok (.iconst 1, 1) := dk_4 (dk_at dksX6_image_2 8 rfl rfl)
theorem dX6_image_56 : decode cX6_image 56 = .ok (.bastore, 1) := dk_84 (dk_at dksX6_image_2 9 rfl rfl)
theorem dX6_image_57 : decode cX6_image 57 = .ok (.iconst 1, 1) := dk_4 (dk_at dksX6_image_2 10 rfl rfl)
theorem dX6_image_58 : decode cX6_image 58 = .ok (.ireturn, 1) := dk_172 (dk_at dksX6_image_2 11 rfl rfl)
abbrev cX6_from : ByteArray := prog_21_method_84_code
def yX6_from : MethodName := ⟨RX6, "from", "(I)I"⟩
def dkwX6_from_2 : List UInt8 := [180, 0, 13, 17, 0, 192, 27, 104, 28, 96, 46, 79, 132, 2, 1, 167, 255, 228, 4, 172]
abbrev dktX6_from_2 : List UInt8 := dkwX6_from_2 ++ []
def dkwX6_from_1 : List UInt8 := [154, 0, 8, 42, 182, 0, 111, 172, 3, 61, 28, 17, 0, 192, 162, 0, 27, 42, 180, 0, 7, 28, 42]
abbrev dktX6_from_1 : List UInt8 := dkwX6_from_1 ++ dktX6_from_2
def dkwX6_from_0 : List UInt8 := [27, 133, 9, 10, 184, 0, 59, 154, 0, 10, 42, 16, 254, 182, 0, 73, 172, 42, 180, 0, 16, 27, 51]
abbrev dktX6_from_0 : List UInt8 := dkwX6_from_0 ++ dktX6_from_1
theorem dksX6_from_0 : cX6_from.data.toList.drop 0 = dktX6_from_0 := by decide +kernel
theorem dksX6_from_1 : cX6_from.data.toList.drop 23 = dktX6_from_1 := dk_seg dksX6_from_0 23 rfl rfl
theorem dksX6_from_2 : cX6_from.data.toList.drop 46 = dktX6_from_2 := dk_seg dksX6_from_1 23 rfl rfl
theorem dX6_from_0 : decode cX6_from 0 = .ok (.iload_n 1, 1) := dk_27 (dk_at dksX6_from_0 0 rfl rfl)
theorem dX6_from_1 : decode cX6_from 1 = .ok (.i2l, 1) := dk_133 (dk_at dksX6_from_0 1 rfl rfl)
theorem dX6_from_2 : decode cX6_from 2 = .ok (.lconst 0, 1) := dk_9 (dk_at dksX6_from_0 2 rfl rfl)
theorem dX6_from_3 : decode cX6_from 3 = .ok (.lconst 1, 1) := dk_10 (dk_at dksX6_from_0 3 rfl rfl)
theorem dX6_from_4 : decode cX6_from 4 = .ok (.invokestatic 59, 3) := dk_184 0 59 (dk_at dksX6_from_0 4 rfl rfl)
theorem dX6_from_7 : decode cX6_from 7 = .ok (.ifCond .ne 10, 3) := dk_154 0 10 (dk_at dksX6_from_0 7 rfl rfl)
theorem dX6_from_10 : decode cX6_from 10 = .ok (.aload_n 0, 1) := dk_42 (dk_at dksX6_from_0 10 rfl rfl)
theorem dX6_from_11 : decode cX6_from 11 = .ok (.bipush (-2), 2) := dk_16 254 (dk_at dksX6_from_0 11 rfl rfl)
theorem dX6_from_13 : decode cX6_from 13 = .ok (.invokevirtual 73, 3) := dk_182 0 73 (dk_at dksX6_from_0 13 rfl rfl)
theorem dX6_from_16 : decode cX6_from 16 = .ok (.ireturn, 1) := dk_172 (dk_at dksX6_from_0 16 rfl rfl)
theorem dX6_from_17 : decode cX6_from 17 = .ok (.aload_n 0, 1) := dk_42 (dk_at dksX6_from_0 17 rfl rfl)
theorem dX6_from_18 : decode cX6_from 18 = .ok (.getfield 16, 3) := dk_180 0 16 (dk_at dksX6_from_0 18 rfl rfl)
theorem dX6_from_21 : decode cX6_from 21 = .ok (.iload_n 1, 1) := dk_27 (dk_at dksX6_from_0 21 rfl rfl)
theorem dX6_from_22 : decode cX6_from 22 = .ok (.baload, 1) := dk_51 (dk_at dksX6_from_0 22 rfl rfl)
theorem dX6_from_23 : decode cX6_from 23 = .ok (.ifCond .ne 8, 3) := dk_154 0 8 (dk_at dksX6_from_1 0 rfl rfl)
theorem dX6_from_26 : decode cX6_from 26 = .ok (.aload_n 0, 1) := dk_42 (dk_at dksX6_from_1 3 rfl rfl)
theorem dX6_from_27 : decode cX6_from 27 = .ok (.invokevirtual 111, 3) := dk_182 0 111 (dk_at dksX6_from_1 4 rfl rfl)
theorem dX6_from_30 : decode cX6_from 30 = .ok (.ireturn, 1) := dk_172 (dk_at dksX6_from_1 7 rfl rfl)
theorem dX6_from_31 : decode cX6_from 31 = .ok (.iconst 0, 1) := dk_3 (dk_at dksX6_from_1 8 rfl rfl)
theorem dX6_from_32 : decode cX6_from 32 = .ok (.istore_n 2, 1) := dk_61 (dk_at dksX6_from_1 9 rfl rfl)
theorem dX6_from_33 : decode cX6_from 33 = .ok (.iload_n 2, 1) := dk_28 (dk_at dksX6_from_1 10 rfl rfl)
theorem dX6_from_34 : decode cX6_from 34 = .ok (.sipush 192, 3) := dk_17 0 192 (dk_at dksX6_from_1 11 rfl rfl)
theorem dX6_from_37 : decode cX6_from 37 = .ok (.if_icmp .ge 27, 3) := dk_162 0 27 (dk_at dksX6_from_1 14 rfl rfl)
theorem dX6_from_40 : decode cX6_from 40 = .ok (.aload_n 0, 1) := dk_42 (dk_at dksX6_from_1 17 rfl rfl)
theorem dX6_from_41 : decode cX6_from 41 = .ok (.getfield 7, 3) := dk_180 0 7 (dk_at dksX6_from_1 18 rfl rfl)
theorem dX6_from_44 : decode cX6_from 44 = .ok (.iload_n 2, 1) := dk_28 (dk_at dksX6_from_1 21 rfl rfl)
theorem dX6_from_45 : decode cX6_from 45 = .ok (.aload_n 0, 1) := dk_42 (dk_at dksX6_from_1 22 rfl rfl)
theorem dX6_from_46 : decode cX6_from 46 = .ok (.getfield 13, 3) := dk_180 0 13 (dk_at dksX6_from_2 0 rfl rfl)
theorem dX6_from_49 : decode cX6_from 49 = .ok (.sipush 192, 3) := dk_17 0 192 (dk_at dksX6_from_2 3 rfl rfl)
theorem dX6_from_52 : decode cX6_from 52 = .ok (.iload_n 1, 1) := dk_27 (dk_at dksX6_from_2 6 rfl rfl)
theorem dX6_from_53 : decode cX6_from 53 = .ok (.imul, 1) := dk_104 (dk_at dksX6_from_2 7 rfl rfl)
theorem dX6_from_54 : decode cX6_from 54 = .ok (.iload_n 2, 1) := dk_28 (dk_at dksX6_from_2 8 rfl rfl)
theorem dX6_from_55 : decode cX6_from 55 = .ok (.iadd, 1) := dk_96 (dk_at dksX6_from_2 9 rfl rfl)
theorem dX6_from_56 : decode cX6_from 56 = .ok (.iaload, 1) := dk_46 (dk_at dksX6_from_2 10 rfl rfl)
theorem dX6_from_57 : decode cX6_from 57 = .ok (.iastore, 1) := dk_79 (dk_at dksX6_from_2 11 rfl rfl)
theorem dX6_from_58 : decode cX6_from 58 = .ok (.iinc 2 1, 3) := dk_132 2 1 (dk_at dksX6_from_2 12 rfl rfl)
theorem dX6_from_61 : decode cX6_from 61 = .ok (.goto (-28), 3) := dk_167 255 228 (dk_at dksX6_from_2 15 rfl rfl)
theorem dX6_from_64 : decode cX6_from 64 = .ok (.iconst 1, 1) := dk_4 (dk_at dksX6_from_2 18 rfl rfl)
theorem dX6_from_65 : decode cX6_from 65 = .ok (.ireturn, 1) := dk_172 (dk_at dksX6_from_2 19 rfl rfl)
abbrev cX6_status : ByteArray := prog_21_method_85_code
def yX6_status : MethodName := ⟨RX6, "status", "(I)I"⟩
def dkwX6_status_1 : List UInt8 := [182, 0, 73, 172]
abbrev dktX6_status_1 : List UInt8 := dkwX6_status_1 ++ []
def dkwX6_status_0 : List UInt8 := [27, 133, 9, 20, 0, 160, 184, 0, 59, 153, 0, 12, 42, 180, 0, 20, 27, 46, 167, 0, 8, 42, 2]
abbrev dktX6_status_0 : List UInt8 := dkwX6_status_0 ++ dktX6_status_1
theorem dksX6_status_0 : cX6_status.data.toList.drop 0 = dktX6_status_0 := by decide +kernel
theorem dksX6_status_1 : cX6_status.data.toList.drop 23 = dktX6_status_1 := dk_seg dksX6_status_0 23 rfl rfl
theorem dX6_status_0 : decode cX6_status 0 = .ok (.iload_n 1, 1) := dk_27 (dk_at dksX6_status_0 0 rfl rfl)
theorem dX6_status_1 : decode cX6_status 1 = .ok (.i2l, 1) := dk_133 (dk_at dksX6_status_0 1 rfl rfl)
theorem dX6_status_2 : decode cX6_status 2 = .ok (.lconst 0, 1) := dk_9 (dk_at dksX6_status_0 2 rfl rfl)
theorem dX6_status_3 : decode cX6_status 3 = .ok (.ldc2_w 160, 3) := dk_20 0 160 (dk_at dksX6_status_0 3 rfl rfl)
theorem dX6_status_6 : decode cX6_status 6 = .ok (.invokestatic 59, 3) := dk_184 0 59 (dk_at dksX6_status_0 6 rfl rfl)
theorem dX6_status_9 : decode cX6_status 9 = .ok (.ifCond .eq 12, 3) := dk_153 0 12 (dk_at dksX6_status_0 9 rfl rfl)
theorem dX6_status_12 : decode cX6_status 12 = .ok (.aload_n 0, 1) := dk_42 (dk_at dksX6_status_0 12 rfl rfl)
theorem dX6_status_13 : decode cX6_status 13 = .ok (.getfield 20, 3) := dk_180 0 20 (dk_at dksX6_status_0 13 rfl rfl)
theorem dX6_status_16 : decode cX6_status 16 = .ok (.iload_n 1, 1) := dk_27 (dk_at dksX6_status_0 16 rfl rfl)
theorem dX6_status_17 : decode cX6_status 17 = .ok (.iaload, 1) := dk_46 (dk_at dksX6_status_0 17 rfl rfl)
theorem dX6_status_18 : decode cX6_status 18 = .ok (.goto 8, 3) := dk_167 0 8 (dk_at dksX6_status_0 18 rfl rfl)
theorem dX6_status_21 : decode cX6_status 21 = .ok (.aload_n 0, 1) := dk_42 (dk_at dksX6_status_0 21 rfl rfl)
theorem dX6_status_22 : decode cX6_status 22 = .ok (.iconst (-1), 1) := dk_2 (dk_at dksX6_status_0 22 rfl rfl)
theorem dX6_status_23 : decode cX6_status 23 = .ok (.invokevirtual 73, 3) := dk_182 0 73 (dk_at dksX6_status_1 0 rfl rfl)
theorem dX6_status_26 : decode cX6_status 26 = .ok (.ireturn, 1) := dk_172 (dk_at dksX6_status_1 3 rfl rfl)
abbrev cX6_count : ByteArray := prog_21_method_87_code
def yX6_count : MethodName := ⟨RX6, "count", "(I)I"⟩
def dkwX6_count_1 : List UInt8 := [182, 0, 73, 172]
abbrev dktX6_count_1 : List UInt8 := dkwX6_count_1 ++ []
def dkwX6_count_0 : List UInt8 := [27, 133, 9, 20, 0, 65, 184, 0, 59, 153, 0, 11, 42, 27, 182, 1, 21, 167, 0, 9, 42, 16, 254]
abbrev dktX6_count_0 : List UInt8 := dkwX6_count_0 ++ dktX6_count_1
theorem dksX6_count_0 : cX6_count.data.toList.drop 0 = dktX6_count_0 := by decide +kernel
theorem dksX6_count_1 : cX6_count.data.toList.drop 23 = dktX6_count_1 := dk_seg dksX6_count_0 23 rfl rfl
theorem dX6_count_0 : decode cX6_count 0 = .ok (.iload_n 1, 1) := dk_27 (dk_at dksX6_count_0 0 rfl rfl)
theorem dX6_count_1 : decode cX6_count 1 = .ok (.i2l, 1) := dk_133 (dk_at dksX6_count_0 1 rfl rfl)
theorem dX6_count_2 : decode cX6_count 2 = .ok (.lconst 0, 1) := dk_9 (dk_at dksX6_count_0 2 rfl rfl)
theorem dX6_count_3 : decode cX6_count 3 = .ok (.ldc2_w 65, 3) := dk_20 0 65 (dk_at dksX6_count_0 3 rfl rfl)
theorem dX6_count_6 : decode cX6_count 6 = .ok (.invokestatic 59, 3) := dk_184 0 59 (dk_at dksX6_count_0 6 rfl rfl)
theorem dX6_count_9 : decode cX6_count 9 = .ok (.ifCond .eq 11, 3) := dk_153 0 11 (dk_at dksX6_count_0 9 rfl rfl)
theorem dX6_count_12 : decode cX6_count 12 = .ok (.aload_n 0, 1) := dk_42 (dk_at dksX6_count_0 12 rfl rfl)
theorem dX6_count_13 : decode cX6_count 13 = .ok (.iload_n 1, 1) := dk_27 (dk_at dksX6_count_0 13 rfl rfl)
theorem dX6_count_14 : decode cX6_count 14 = .ok (.invokevirtual 277, 3) := dk_182 1 21 (dk_at dksX6_count_0 14 rfl rfl)
theorem dX6_count_17 : decode cX6_count 17 = .ok (.goto 9, 3) := dk_167 0 9 (dk_at dksX6_count_0 17 rfl rfl)
theorem dX6_count_20 : decode cX6_count 20 = .ok (.aload_n 0, 1) := dk_42 (dk_at dksX6_count_0 20 rfl rfl)
theorem dX6_count_21 : decode cX6_count 21 = .ok (.bipush (-2), 2) := dk_16 254 (dk_at dksX6_count_0 21 rfl rfl)
theorem dX6_count_23 : decode cX6_count 23 = .ok (.invokevirtual 73, 3) := dk_182 0 73 (dk_at dksX6_count_1 0 rfl rfl)
theorem dX6_count_26 : decode cX6_count 26 = .ok (.ireturn, 1) := dk_172 (dk_at dksX6_count_1 3 rfl rfl)
abbrev cX6_counted : ByteArray := prog_21_method_86_code
def yX6_counted : MethodName := ⟨RX6, "counted", "(I)I"⟩
def dkwX6_counted_4 : List UInt8 := [16, 16, 46, 96, 172, 42, 180, 0, 216, 172, 42, 180, 0, 7, 5, 27, 96, 8, 100, 46, 172]
abbrev dktX6_counted_4 : List UInt8 := dkwX6_counted_4 ++ []
def dkwX6_counted_3 : List UInt8 := [3, 184, 0, 94, 172, 42, 180, 0, 7, 16, 14, 46, 42, 180, 0, 7, 16, 15, 46, 96, 42, 180, 0, 7]
abbrev dktX6_counted_3 : List UInt8 := dkwX6_counted_3 ++ dktX6_counted_4
def dkwX6_counted_2 : List UInt8 := [42, 182, 0, 55, 172, 42, 180, 0, 7, 4, 46, 172, 42, 180, 0, 7, 184, 0, 123, 172, 42, 180, 0, 7]
abbrev dktX6_counted_2 : List UInt8 := dkwX6_counted_2 ++ dktX6_counted_3
def dkwX6_counted_1 : List UInt8 := [170, 0, 0, 0, 0, 0, 113, 0, 0, 0, 0, 0, 0, 0, 9, 0, 0, 0, 55, 0, 0, 0, 60, 0, 0, 0, 67, 0, 0, 0, 75, 0, 0, 0, 84, 0, 0, 0, 113, 0, 0, 0, 113, 0, 0, 0, 113, 0, 0, 0, 113, 0, 0, 0, 108]
abbrev dktX6_counted_1 : List UInt8 := dkwX6_counted_1 ++ dktX6_counted_2
def dkwX6_counted_0 : List UInt8 := [27]
abbrev dktX6_counted_0 : List UInt8 := dkwX6_counted_0 ++ dktX6_counted_1
theorem dksX6_counted_0 : cX6_counted.data.toList.drop 0 = dktX6_counted_0 := by decide +kernel
theorem dksX6_counted_1 : cX6_counted.data.toList.drop 1 = dktX6_counted_1 := dk_seg dksX6_counted_0 1 rfl rfl
theorem dksX6_counted_2 : cX6_counted.data.toList.drop 56 = dktX6_counted_2 := dk_seg dksX6_counted_1 55 rfl rfl
theorem dksX6_counted_3 : cX6_counted.data.toList.drop 80 = dktX6_counted_3 := dk_seg dksX6_counted_2 24 rfl rfl
theorem dksX6_counted_4 : cX6_counted.data.toList.drop 104 = dktX6_counted_4 := dk_seg dksX6_counted_3 24 rfl rfl
theorem dX6_counted_0 : decode cX6_counted 0 = .ok (.iload_n 1, 1) := dk_27 (dk_at dksX6_counted_0 0 rfl rfl)
theorem dX6_counted_1 : decode cX6_counted 1 = .ok (.tableswitch 113 0 9 #[55, 60, 67, 75, 84, 113, 113, 113, 113, 108], 55) := by decide +kernel
theorem dX6_counted_56 : decode cX6_counted 56 = .ok (.aload_n 0, 1) := dk_42 (dk_at dksX6_counted_2 0 rfl rfl)
theorem dX6_counted_57 : decode cX6_counted 57 = .ok (.invokevirtual 55, 3) := dk_182 0 55 (dk_at dksX6_counted_2 1 rfl rfl)
theorem dX6_counted_60 : decode cX6_counted 60 = .ok (.ireturn, 1) := dk_172 (dk_at dksX6_counted_2 4 rfl rfl)
theorem dX6_counted_61 : decode cX6_counted 61 = .ok (.aload_n 0, 1) := dk_42 (dk_at dksX6_counted_2 5 rfl rfl)
theorem dX6_counted_62 : decode cX6_counted 62 = .ok (.getfield 7, 3) := dk_180 0 7 (dk_at dksX6_counted_2 6 rfl rfl)
theorem dX6_counted_65 : decode cX6_counted 65 = .ok (.iconst 1, 1) := dk_4 (dk_at dksX6_counted_2 9 rfl rfl)
theorem dX6_counted_66 : decode cX6_counted 66 = .ok (.iaload, 1) := dk_46 (dk_at dksX6_counted_2 10 rfl rfl)
theorem dX6_counted_67 : decode cX6_counted 67 = .ok (.ireturn, 1) := dk_172 (dk_at dksX6_counted_2 11 rfl rfl)
theorem dX6_counted_68 : decode cX6_counted 68 = .ok (.aload_n 0, 1) := dk_42 (dk_at dksX6_counted_2 12 rfl rfl)
theorem dX6_counted_69 : decode cX6_counted 69 = .ok (.getfield 7, 3) := dk_180 0 7 (dk_at dksX6_counted_2 13 rfl rfl)
theorem dX6_counted_72 : decode cX6_counted 72 = .ok (.invokestatic 123, 3) := dk_184 0 123 (dk_at dksX6_counted_2 16 rfl rfl)
theorem dX6_counted_75 : decode cX6_counted 75 = .ok (.ireturn, 1) := dk_172 (dk_at dksX6_counted_2 19 rfl rfl)
theorem dX6_counted_76 : decode cX6_counted 76 = .ok (.aload_n 0, 1) := dk_42 (dk_at dksX6_counted_2 20 rfl rfl)
theorem dX6_counted_77 : decode cX6_counted 77 = .ok (.getfield 7, 3) := dk_180 0 7 (dk_at dksX6_counted_2 21 rfl rfl)
theorem dX6_counted_80 : decode cX6_counted 80 = .ok (.iconst 0, 1) := dk_3 (dk_at dksX6_counted_3 0 rfl rfl)
theorem dX6_counted_81 : decode cX6_counted 81 = .ok (.invokestatic 94, 3) := dk_184 0 94 (dk_at dksX6_counted_3 1 rfl rfl)
theorem dX6_counted_84 : decode cX6_counted 84 = .ok (.ireturn, 1) := dk_172 (dk_at dksX6_counted_3 4 rfl rfl)
theorem dX6_counted_85 : decode cX6_counted 85 = .ok (.aload_n 0, 1) := dk_42 (dk_at dksX6_counted_3 5 rfl rfl)
theorem dX6_counted_86 : decode cX6_counted 86 = .ok (.getfield 7, 3) := dk_180 0 7 (dk_at dksX6_counted_3 6 rfl rfl)
theorem dX6_counted_89 : decode cX6_counted 89 = .ok (.bipush 14, 2) := dk_16 14 (dk_at dksX6_counted_3 9 rfl rfl)
theorem dX6_counted_91 : decode cX6_counted 91 = .ok (.iaload, 1) := dk_46 (dk_at dksX6_counted_3 11 rfl rfl)
theorem dX6_counted_92 : decode cX6_counted 92 = .ok (.aload_n 0, 1) := dk_42 (dk_at dksX6_counted_3 12 rfl rfl)
theorem dX6_counted_93 : decode cX6_counted 93 = .ok (.getfield 7, 3) := dk_180 0 7 (dk_at dksX6_counted_3 13 rfl rfl)
theorem dX6_counted_96 : decode cX6_counted 96 = .ok (.bipush 15, 2) := dk_16 15 (dk_at dksX6_counted_3 16 rfl rfl)
theorem dX6_counted_98 : decode cX6_counted 98 = .ok (.iaload, 1) := dk_46 (dk_at dksX6_counted_3 18 rfl rfl)
theorem dX6_counted_99 : decode cX6_counted 99 = .ok (.iadd, 1) := dk_96 (dk_at dksX6_counted_3 19 rfl rfl)
theorem dX6_counted_100 : decode cX6_counted 100 = .ok (.aload_n 0, 1) := dk_42 (dk_at dksX6_counted_3 20 rfl rfl)
theorem dX6_counted_101 : decode cX6_counted 101 = .ok (.getfield 7, 3) := dk_180 0 7 (dk_at dksX6_counted_3 21 rfl rfl)
theorem dX6_counted_104 : decode cX6_counted 104 = .ok (.bipush 16, 2) := dk_16 16 (dk_at dksX6_counted_4 0 rfl rfl)
theorem dX6_counted_106 : decode cX6_counted 106 = .ok (.iaload, 1) := dk_46 (dk_at dksX6_counted_4 2 rfl rfl)
theorem dX6_counted_107 : decode cX6_counted 107 = .ok (.iadd, 1) := dk_96 (dk_at dksX6_counted_4 3 rfl rfl)
theorem dX6_counted_108 : decode cX6_counted 108 = .ok (.ireturn, 1) := dk_172 (dk_at dksX6_counted_4 4 rfl rfl)
theorem dX6_counted_109 : decode cX6_counted 109 = .ok (.aload_n 0, 1) := dk_42 (dk_at dksX6_counted_4 5 rfl rfl)
theorem dX6_counted_110 : decode cX6_counted 110 = .ok (.getfield 216, 3) := dk_180 0 216 (dk_at dksX6_counted_4 6 rfl rfl)
theorem dX6_counted_113 : decode cX6_counted 113 = .ok (.ireturn, 1) := dk_172 (dk_at dksX6_counted_4 9 rfl rfl)
theorem dX6_counted_114 : decode cX6_counted 114 = .ok (.aload_n 0, 1) := dk_42 (dk_at dksX6_counted_4 10 rfl rfl)
theorem dX6_counted_115 : decode cX6_counted 115 = .ok (.getfield 7, 3) := dk_180 0 7 (dk_at dksX6_counted_4 11 rfl rfl)
theorem dX6_counted_118 : decode cX6_counted 118 = .ok (.iconst 2, 1) := dk_5 (dk_at dksX6_counted_4 14 rfl rfl)
theorem dX6_counted_119 : decode cX6_counted 119 = .ok (.iload_n 1, 1) := dk_27 (dk_at dksX6_counted_4 15 rfl rfl)
theorem dX6_counted_120 : decode cX6_counted 120 = .ok (.iadd, 1) := dk_96 (dk_at dksX6_counted_4 16 rfl rfl)
theorem dX6_counted_121 : decode cX6_counted 121 = .ok (.iconst 5, 1) := dk_8 (dk_at dksX6_counted_4 17 rfl rfl)
theorem dX6_counted_122 : decode cX6_counted 122 = .ok (.isub, 1) := dk_100 (dk_at dksX6_counted_4 18 rfl rfl)
theorem dX6_counted_123 : decode cX6_counted 123 = .ok (.iaload, 1) := dk_46 (dk_at dksX6_counted_4 19 rfl rfl)
theorem dX6_counted_124 : decode cX6_counted 124 = .ok (.ireturn, 1) := dk_172 (dk_at dksX6_counted_4 20 rfl rfl)
abbrev cX6_digest : ByteArray := prog_21_method_89_code
def yX6_digest : MethodName := ⟨RX6, "digest", "()J"⟩
def dkwX6_digest_9 : List UInt8 := [97, 173]
abbrev dktX6_digest_9 : List UInt8 := dkwX6_digest_9 ++ []
def dkwX6_digest_8 : List UInt8 := [46, 104, 182, 1, 28, 64, 20, 1, 24, 20, 1, 24, 31, 105, 42, 180, 0, 191, 97, 105, 42, 180, 0, 23]
abbrev dktX6_digest_8 : List UInt8 := dkwX6_digest_8 ++ dktX6_digest_9
def dkwX6_digest_7 : List UInt8 := [16, 56, 7, 42, 180, 0, 7, 6, 46, 104, 182, 1, 28, 64, 42, 31, 16, 80, 7, 42, 180, 0, 7, 7]
abbrev dktX6_digest_7 : List UInt8 := dkwX6_digest_7 ++ dktX6_digest_8
def dkwX6_digest_6 : List UInt8 := [132, 3, 1, 167, 255, 196, 42, 31, 16, 36, 7, 42, 180, 0, 7, 5, 46, 104, 182, 1, 28, 64, 42, 31]
abbrev dktX6_digest_6 : List UInt8 := dkwX6_digest_6 ++ dktX6_digest_7
def dkwX6_digest_5 : List UInt8 := [16, 28, 29, 96, 46, 133, 97, 105, 42, 180, 0, 7, 16, 6, 29, 96, 46, 133, 97, 10, 101, 64]
abbrev dktX6_digest_5 : List UInt8 := dkwX6_digest_5 ++ dktX6_digest_6
def dkwX6_digest_4 : List UInt8 := [20, 1, 24, 20, 1, 24, 31, 105, 42, 180, 0, 7, 16, 20, 29, 96, 46, 133, 97, 105, 42, 180, 0, 7]
abbrev dktX6_digest_4 : List UInt8 := dkwX6_digest_4 ++ dktX6_digest_5
def dkwX6_digest_3 : List UInt8 := [96, 46, 133, 97, 64, 132, 3, 1, 167, 255, 211, 3, 62, 29, 42, 182, 0, 55, 162, 0, 58, 20, 1, 24]
abbrev dktX6_digest_3 : List UInt8 := dkwX6_digest_3 ++ dktX6_digest_4
def dkwX6_digest_2 : List UInt8 := [20, 1, 24, 31, 105, 42, 180, 0, 7, 16, 17, 29, 96, 46, 133, 97, 105, 42, 180, 0, 7, 16, 14, 29]
abbrev dktX6_digest_2 : List UInt8 := dkwX6_digest_2 ++ dktX6_digest_3
def dkwX6_digest_1 : List UInt8 := [64, 132, 3, 1, 167, 255, 234, 3, 62, 29, 42, 180, 0, 7, 4, 46, 162, 0, 41, 20, 1, 24]
abbrev dktX6_digest_1 : List UInt8 := dkwX6_digest_1 ++ dktX6_digest_2
def dkwX6_digest_0 : List UInt8 := [20, 1, 26, 64, 3, 62, 29, 16, 10, 162, 0, 22, 20, 1, 24, 31, 105, 42, 29, 182, 1, 21, 133, 97]
abbrev dktX6_digest_0 : List UInt8 := dkwX6_digest_0 ++ dktX6_digest_1
theorem dksX6_digest_0 : cX6_digest.data.toList.drop 0 = dktX6_digest_0 := by decide +kernel
theorem dksX6_digest_1 : cX6_digest.data.toList.drop 24 = dktX6_digest_1 := dk_seg dksX6_digest_0 24 rfl rfl
theorem dksX6_digest_2 : cX6_digest.data.toList.drop 46 = dktX6_digest_2 := dk_seg dksX6_digest_1 22 rfl rfl
theorem dksX6_digest_3 : cX6_digest.data.toList.drop 70 = dktX6_digest_3 := dk_seg dksX6_digest_2 24 rfl rfl
theorem dksX6_digest_4 : cX6_digest.data.toList.drop 94 = dktX6_digest_4 := dk_seg dksX6_digest_3 24 rfl rfl
theorem dksX6_digest_5 : cX6_digest.data.toList.drop 118 = dktX6_digest_5 := dk_seg dksX6_digest_4 24 rfl rfl
theorem dksX6_digest_6 : cX6_digest.data.toList.drop 140 = dktX6_digest_6 := dk_seg dksX6_digest_5 22 rfl rfl
theorem dksX6_digest_7 : cX6_digest.data.toList.drop 164 = dktX6_digest_7 := dk_seg dksX6_digest_6 24 rfl rfl
theorem dksX6_digest_8 : cX6_digest.data.toList.drop 188 = dktX6_digest_8 := dk_seg dksX6_digest_7 24 rfl rfl
theorem dksX6_digest_9 : cX6_digest.data.toList.drop 212 = dktX6_digest_9 := dk_seg dksX6_digest_8 24 rfl rfl
theorem dX6_digest_0 : decode cX6_digest 0 = .ok (.ldc2_w 282, 3) := dk_20 1 26 (dk_at dksX6_digest_0 0 rfl rfl)
theorem dX6_digest_3 : decode cX6_digest 3 = .ok (.lstore_n 1, 1) := dk_64 (dk_at dksX6_digest_0 3 rfl rfl)
theorem dX6_digest_4 : decode cX6_digest 4 = .ok (.iconst 0, 1) := dk_3 (dk_at dksX6_digest_0 4 rfl rfl)
theorem dX6_digest_5 : decode cX6_digest 5 = .ok (.istore_n 3, 1) := dk_62 (dk_at dksX6_digest_0 5 rfl rfl)
theorem dX6_digest_6 : decode cX6_digest 6 = .ok (.iload_n 3, 1) := dk_29 (dk_at dksX6_digest_0 6 rfl rfl)
theorem dX6_digest_7 : decode cX6_digest 7 = .ok (.bipush 10, 2) := dk_16 10 (dk_at dksX6_digest_0 7 rfl rfl)
theorem dX6_digest_9 : decode cX6_digest 9 = .ok (.if_icmp .ge 22, 3) := dk_162 0 22 (dk_at dksX6_digest_0 9 rfl rfl)
theorem dX6_digest_12 : decode cX6_digest 12 = .ok (.ldc2_w 280, 3) := dk_20 1 24 (dk_at dksX6_digest_0 12 rfl rfl)
theorem dX6_digest_15 : decode cX6_digest 15 = .ok (.lload_n 1, 1) := dk_31 (dk_at dksX6_digest_0 15 rfl rfl)
theorem dX6_digest_16 : decode cX6_digest 16 = .ok (.lmul, 1) := dk_105 (dk_at dksX6_digest_0 16 rfl rfl)
theorem dX6_digest_17 : decode cX6_digest 17 = .ok (.aload_n 0, 1) := dk_42 (dk_at dksX6_digest_0 17 rfl rfl)
theorem dX6_digest_18 : decode cX6_digest 18 = .ok (.iload_n 3, 1) := dk_29 (dk_at dksX6_digest_0 18 rfl rfl)
theorem dX6_digest_19 : decode cX6_digest 19 = .ok (.invokevirtual 277, 3) := dk_182 1 21 (dk_at dksX6_digest_0 19 rfl rfl)
theorem dX6_digest_22 : decode cX6_digest 22 = .ok (.i2l, 1) := dk_133 (dk_at dksX6_digest_0 22 rfl rfl)
theorem dX6_digest_23 : decode cX6_digest 23 = .ok (.ladd, 1) := dk_97 (dk_at dksX6_digest_0 23 rfl rfl)
theorem dX6_digest_24 : decode cX6_digest 24 = .ok (.lstore_n 1, 1) := dk_64 (dk_at dksX6_digest_1 0 rfl rfl)
theorem dX6_digest_25 : decode cX6_digest 25 = .ok (.iinc 3 1, 3) := dk_132 3 1 (dk_at dksX6_digest_1 1 rfl rfl)
theorem dX6_digest_28 : decode cX6_digest 28 = .ok (.goto (-22), 3) := dk_167 255 234 (dk_at dksX6_digest_1 4 rfl rfl)
theorem dX6_digest_31 : decode cX6_digest 31 = .ok (.iconst 0, 1) := dk_3 (dk_at dksX6_digest_1 7 rfl rfl)
theorem dX6_digest_32 : decode cX6_digest 32 = .ok (.istore_n 3, 1) := dk_62 (dk_at dksX6_digest_1 8 rfl rfl)
theorem dX6_digest_33 : decode cX6_digest 33 = .ok (.iload_n 3, 1) := dk_29 (dk_at dksX6_digest_1 9 rfl rfl)
theorem dX6_digest_34 : decode cX6_digest 34 = .ok (.aload_n 0, 1) := dk_42 (dk_at dksX6_digest_1 10 rfl rfl)
theorem dX6_digest_35 : decode cX6_digest 35 = .ok (.getfield 7, 3) := dk_180 0 7 (dk_at dksX6_digest_1 11 rfl rfl)
theorem dX6_digest_38 : decode cX6_digest 38 = .ok (.iconst 1, 1) := dk_4 (dk_at dksX6_digest_1 14 rfl rfl)
theorem dX6_digest_39 : decode cX6_digest 39 = .ok (.iaload, 1) := dk_46 (dk_at dksX6_digest_1 15 rfl rfl)
theorem dX6_digest_40 : decode cX6_digest 40 = .ok (.if_icmp .ge 41, 3) := dk_162 0 41 (dk_at dksX6_digest_1 16 rfl rfl)
theorem dX6_digest_43 : decode cX6_digest 43 = .ok (.ldc2_w 280, 3) := dk_20 1 24 (dk_at dksX6_digest_1 19 rfl rfl)
theorem dX6_digest_46 : decode cX6_digest 46 = .ok (.ldc2_w 280, 3) := dk_20 1 24 (dk_at dksX6_digest_2 0 rfl rfl)
theorem dX6_digest_49 : decode cX6_digest 49 = .ok (.lload_n 1, 1) := dk_31 (dk_at dksX6_digest_2 3 rfl rfl)
theorem dX6_digest_50 : decode cX6_digest 50 = .ok (.lmul, 1) := dk_105 (dk_at dksX6_digest_2 4 rfl rfl)
theorem dX6_digest_51 : decode cX6_digest 51 = .ok (.aload_n 0, 1) := dk_42 (dk_at dksX6_digest_2 5 rfl rfl)
theorem dX6_digest_52 : decode cX6_digest 52 = .ok (.getfield 7, 3) := dk_180 0 7 (dk_at dksX6_digest_2 6 rfl rfl)
theorem dX6_digest_55 : decode cX6_digest 55 = .ok (.bipush 17, 2) := dk_16 17 (dk_at dksX6_digest_2 9 rfl rfl)
theorem dX6_digest_57 : decode cX6_digest 57 = .ok (.iload_n 3, 1) := dk_29 (dk_at dksX6_digest_2 11 rfl rfl)
theorem dX6_digest_58 : decode cX6_digest 58 = .ok (.iadd, 1) := dk_96 (dk_at dksX6_digest_2 12 rfl rfl)
theorem dX6_digest_59 : decode cX6_digest 59 = .ok (.iaload, 1) := dk_46 (dk_at dksX6_digest_2 13 rfl rfl)
theorem dX6_digest_60 : decode cX6_digest 60 = .ok (.i2l, 1) := dk_133 (dk_at dksX6_digest_2 14 rfl rfl)
theorem dX6_digest_61 : decode cX6_digest 61 = .ok (.ladd, 1) := dk_97 (dk_at dksX6_digest_2 15 rfl rfl)
theorem dX6_digest_62 : decode cX6_digest 62 = .ok (.lmul, 1) := dk_105 (dk_at dksX6_digest_2 16 rfl rfl)
theorem dX6_digest_63 : decode cX6_digest 63 = .ok (.aload_n 0, 1) := dk_42 (dk_at dksX6_digest_2 17 rfl rfl)
theorem dX6_digest_64 : decode cX6_digest 64 = .ok (.getfield 7, 3) := dk_180 0 7 (dk_at dksX6_digest_2 18 rfl rfl)
theorem dX6_digest_67 : decode cX6_digest 67 = .ok (.bipush 14, 2) := dk_16 14 (dk_at dksX6_digest_2 21 rfl rfl)
theorem dX6_digest_69 : decode cX6_digest 69 = .ok (.iload_n 3, 1) := dk_29 (dk_at dksX6_digest_2 23 rfl rfl)
theorem dX6_digest_70 : decode cX6_digest 70 = .ok (.iadd, 1) := dk_96 (dk_at dksX6_digest_3 0 rfl rfl)
theorem dX6_digest_71 : decode cX6_digest 71 = .ok (.iaload, 1) := dk_46 (dk_at dksX6_digest_3 1 rfl rfl)
theorem dX6_digest_72 : decode cX6_digest 72 = .ok (.i2l, 1) := dk_133 (dk_at dksX6_digest_3 2 rfl rfl)
theorem dX6_digest_73 : decode cX6_digest 73 = .ok (.ladd, 1) := dk_97 (dk_at dksX6_digest_3 3 rfl rfl)
theorem dX6_digest_74 : decode cX6_digest 74 = .ok (.lstore_n 1, 1) := dk_64 (dk_at dksX6_digest_3 4 rfl rfl)
theorem dX6_digest_75 : decode cX6_digest 75 = .ok (.iinc 3 1, 3) := dk_132 3 1 (dk_at dksX6_digest_3 5 rfl rfl)
theorem dX6_digest_78 : decode cX6_digest 78 = .ok (.goto (-45), 3) := dk_167 255 211 (dk_at dksX6_digest_3 8 rfl rfl)
theorem dX6_digest_81 : decode cX6_digest 81 = .ok (.iconst 0, 1) := dk_3 (dk_at dksX6_digest_3 11 rfl rfl)
theorem dX6_digest_82 : decode cX6_digest 82 = .ok (.istore_n 3, 1) := dk_62 (dk_at dksX6_digest_3 12 rfl rfl)
theorem dX6_digest_83 : decode cX6_digest 83 = .ok (.iload_n 3, 1) := dk_29 (dk_at dksX6_digest_3 13 rfl rfl)
theorem dX6_digest_84 : decode cX6_digest 84 = .ok (.aload_n 0, 1) := dk_42 (dk_at dksX6_digest_3 14 rfl rfl)
theorem dX6_digest_85 : decode cX6_digest 85 = .ok (.invokevirtual 55, 3) := dk_182 0 55 (dk_at dksX6_digest_3 15 rfl rfl)
theorem dX6_digest_88 : decode cX6_digest 88 = .ok (.if_icmp .ge 58, 3) := dk_162 0 58 (dk_at dksX6_digest_3 18 rfl rfl)
theorem dX6_digest_91 : decode cX6_digest 91 = .ok (.ldc2_w 280, 3) := dk_20 1 24 (dk_at dksX6_digest_3 21 rfl rfl)
theorem dX6_digest_94 : decode cX6_digest 94 = .ok (.ldc2_w 280, 3) := dk_20 1 24 (dk_at dksX6_digest_4 0 rfl rfl)
theorem dX6_digest_97 : decode cX6_digest 97 = .ok (.ldc2_w 280, 3) := dk_20 1 24 (dk_at dksX6_digest_4 3 rfl rfl)
theorem dX6_digest_100 : decode cX6_digest 100 = .ok (.lload_n 1, 1) := dk_31 (dk_at dksX6_digest_4 6 rfl rfl)
theorem dX6_digest_101 : decode cX6_digest 101 = .ok (.lmul, 1) := dk_105 (dk_at dksX6_digest_4 7 rfl rfl)
theorem dX6_digest_102 : decode cX6_digest 102 = .ok (.aload_n 0, 1) := dk_42 (dk_at dksX6_digest_4 8 rfl rfl)
theorem dX6_digest_103 : decode cX6_digest 103 = .ok (.getfield 7, 3) := dk_180 0 7 (dk_at dksX6_digest_4 9 rfl rfl)
theorem dX6_digest_106 : decode cX6_digest 106 = .ok (.bipush 20, 2) := dk_16 20 (dk_at dksX6_digest_4 12 rfl rfl)
theorem dX6_digest_108 : decode cX6_digest 108 = .ok (.iload_n 3, 1) := dk_29 (dk_at dksX6_digest_4 14 rfl rfl)
theorem dX6_digest_109 : decode cX6_digest 109 = .ok (.iadd, 1) := dk_96 (dk_at dksX6_digest_4 15 rfl rfl)
theorem dX6_digest_110 : decode cX6_digest 110 = .ok (.iaload, 1) := dk_46 (dk_at dksX6_digest_4 16 rfl rfl)
theorem dX6_digest_111 : decode cX6_digest 111 = .ok (.i2l, 1) := dk_133 (dk_at dksX6_digest_4 17 rfl rfl)
theorem dX6_digest_112 : decode cX6_digest 112 = .ok (.ladd, 1) := dk_97 (dk_at dksX6_digest_4 18 rfl rfl)
theorem dX6_digest_113 : decode cX6_digest 113 = .ok (.lmul, 1) := dk_105 (dk_at dksX6_digest_4 19 rfl rfl)
theorem dX6_digest_114 : decode cX6_digest 114 = .ok (.aload_n 0, 1) := dk_42 (dk_at dksX6_digest_4 20 rfl rfl)
theorem dX6_digest_115 : decode cX6_digest 115 = .ok (.getfield 7, 3) := dk_180 0 7 (dk_at dksX6_digest_4 21 rfl rfl)
theorem dX6_digest_118 : decode cX6_digest 118 = .ok (.bipush 28, 2) := dk_16 28 (dk_at dksX6_digest_5 0 rfl rfl)
theorem dX6_digest_120 : decode cX6_digest 120 = .ok (.iload_n 3, 1) := dk_29 (dk_at dksX6_digest_5 2 rfl rfl)
theorem dX6_digest_121 : decode cX6_digest 121 = .ok (.iadd, 1) := dk_96 (dk_at dksX6_digest_5 3 rfl rfl)
theorem dX6_digest_122 : decode cX6_digest 122 = .ok (.iaload, 1) := dk_46 (dk_at dksX6_digest_5 4 rfl rfl)
theorem dX6_digest_123 : decode cX6_digest 123 = .ok (.i2l, 1) := dk_133 (dk_at dksX6_digest_5 5 rfl rfl)
theorem dX6_digest_124 : decode cX6_digest 124 = .ok (.ladd, 1) := dk_97 (dk_at dksX6_digest_5 6 rfl rfl)
theorem dX6_digest_125 : decode cX6_digest 125 = .ok (.lmul, 1) := dk_105 (dk_at dksX6_digest_5 7 rfl rfl)
theorem dX6_digest_126 : decode cX6_digest 126 = .ok (.aload_n 0, 1) := dk_42 (dk_at dksX6_digest_5 8 rfl rfl)
theorem dX6_digest_127 : decode cX6_digest 127 = .ok (.getfield 7, 3) := dk_180 0 7 (dk_at dksX6_digest_5 9 rfl rfl)
theorem dX6_digest_130 : decode cX6_digest 130 = .ok (.bipush 6, 2) := dk_16 6 (dk_at dksX6_digest_5 12 rfl rfl)
theorem dX6_digest_132 : decode cX6_digest 132 = .ok (.iload_n 3, 1) := dk_29 (dk_at dksX6_digest_5 14 rfl rfl)
theorem dX6_digest_133 : decode cX6_digest 133 = .ok (.iadd, 1) := dk_96 (dk_at dksX6_digest_5 15 rfl rfl)
theorem dX6_digest_134 : decode cX6_digest 134 = .ok (.iaload, 1) := dk_46 (dk_at dksX6_digest_5 16 rfl rfl)
theorem dX6_digest_135 : decode cX6_digest 135 = .ok (.i2l, 1) := dk_133 (dk_at dksX6_digest_5 17 rfl rfl)
theorem dX6_digest_136 : decode cX6_digest 136 = .ok (.ladd, 1) := dk_97 (dk_at dksX6_digest_5 18 rfl rfl)
theorem dX6_digest_137 : decode cX6_digest 137 = .ok (.lconst 1, 1) := dk_10 (dk_at dksX6_digest_5 19 rfl rfl)
theorem dX6_digest_138 : decode cX6_digest 138 = .ok (.lsub, 1) := dk_101 (dk_at dksX6_digest_5 20 rfl rfl)
theorem dX6_digest_139 : decode cX6_digest 139 = .ok (.lstore_n 1, 1) := dk_64 (dk_at dksX6_digest_5 21 rfl rfl)
theorem dX6_digest_140 : decode cX6_digest 140 = .ok (.iinc 3 1, 3) := dk_132 3 1 (dk_at dksX6_digest_6 0 rfl rfl)
theorem dX6_digest_143 : decode cX6_digest 143 = .ok (.goto (-60), 3) := dk_167 255 196 (dk_at dksX6_digest_6 3 rfl rfl)
theorem dX6_digest_146 : decode cX6_digest 146 = .ok (.aload_n 0, 1) := dk_42 (dk_at dksX6_digest_6 6 rfl rfl)
theorem dX6_digest_147 : decode cX6_digest 147 = .ok (.lload_n 1, 1) := dk_31 (dk_at dksX6_digest_6 7 rfl rfl)
theorem dX6_digest_148 : decode cX6_digest 148 = .ok (.bipush 36, 2) := dk_16 36 (dk_at dksX6_digest_6 8 rfl rfl)
theorem dX6_digest_150 : decode cX6_digest 150 = .ok (.iconst 4, 1) := dk_7 (dk_at dksX6_digest_6 10 rfl rfl)
theorem dX6_digest_151 : decode cX6_digest 151 = .ok (.aload_n 0, 1) := dk_42 (dk_at dksX6_digest_6 11 rfl rfl)
theorem dX6_digest_152 : decode cX6_digest 152 = .ok (.getfield 7, 3) := dk_180 0 7 (dk_at dksX6_digest_6 12 rfl rfl)
theorem dX6_digest_155 : decode cX6_digest 155 = .ok (.iconst 2, 1) := dk_5 (dk_at dksX6_digest_6 15 rfl rfl)
theorem dX6_digest_156 : decode cX6_digest 156 = .ok (.iaload, 1) := dk_46 (dk_at dksX6_digest_6 16 rfl rfl)
theorem dX6_digest_157 : decode cX6_digest 157 = .ok (.imul, 1) := dk_104 (dk_at dksX6_digest_6 17 rfl rfl)
theorem dX6_digest_158 : decode cX6_digest 158 = .ok (.invokevirtual 284, 3) := dk_182 1 28 (dk_at dksX6_digest_6 18 rfl rfl)
theorem dX6_digest_161 : decode cX6_digest 161 = .ok (.lstore_n 1, 1) := dk_64 (dk_at dksX6_digest_6 21 rfl rfl)
theorem dX6_digest_162 : decode cX6_digest 162 = .ok (.aload_n 0, 1) := dk_42 (dk_at dksX6_digest_6 22 rfl rfl)
theorem dX6_digest_163 : decode cX6_digest 163 = .ok (.lload_n 1, 1) := dk_31 (dk_at dksX6_digest_6 23 rfl rfl)
theorem dX6_digest_164 : decode cX6_digest 164 = .ok (.bipush 56, 2) := dk_16 56 (dk_at dksX6_digest_7 0 rfl rfl)
theorem dX6_digest_166 : decode cX6_digest 166 = .ok (.iconst 4, 1) := dk_7 (dk_at dksX6_digest_7 2 rfl rfl)
theorem dX6_digest_167 : decode cX6_digest 167 = .ok (.aload_n 0, 1) := dk_42 (dk_at dksX6_digest_7 3 rfl rfl)
theorem dX6_digest_168 : decode cX6_digest 168 = .ok (.getfield 7, 3) := dk_180 0 7 (dk_at dksX6_digest_7 4 rfl rfl)
theorem dX6_digest_171 : decode cX6_digest 171 = .ok (.iconst 3, 1) := dk_6 (dk_at dksX6_digest_7 7 rfl rfl)
theorem dX6_digest_172 : decode cX6_digest 172 = .ok (.iaload, 1) := dk_46 (dk_at dksX6_digest_7 8 rfl rfl)
theorem dX6_digest_173 : decode cX6_digest 173 = .ok (.imul, 1) := dk_104 (dk_at dksX6_digest_7 9 rfl rfl)
theorem dX6_digest_174 : decode cX6_digest 174 = .ok (.invokevirtual 284, 3) := dk_182 1 28 (dk_at dksX6_digest_7 10 rfl rfl)
theorem dX6_digest_177 : decode cX6_digest 177 = .ok (.lstore_n 1, 1) := dk_64 (dk_at dksX6_digest_7 13 rfl rfl)
theorem dX6_digest_178 : decode cX6_digest 178 = .ok (.aload_n 0, 1) := dk_42 (dk_at dksX6_digest_7 14 rfl rfl)
theorem dX6_digest_179 : decode cX6_digest 179 = .ok (.lload_n 1, 1) := dk_31 (dk_at dksX6_digest_7 15 rfl rfl)
theorem dX6_digest_180 : decode cX6_digest 180 = .ok (.bipush 80, 2) := dk_16 80 (dk_at dksX6_digest_7 16 rfl rfl)
theorem dX6_digest_182 : decode cX6_digest 182 = .ok (.iconst 4, 1) := dk_7 (dk_at dksX6_digest_7 18 rfl rfl)
theorem dX6_digest_183 : decode cX6_digest 183 = .ok (.aload_n 0, 1) := dk_42 (dk_at dksX6_digest_7 19 rfl rfl)
theorem dX6_digest_184 : decode cX6_digest 184 = .ok (.getfield 7, 3) := dk_180 0 7 (dk_at dksX6_digest_7 20 rfl rfl)
theorem dX6_digest_187 : decode cX6_digest 187 = .ok (.iconst 4, 1) := dk_7 (dk_at dksX6_digest_7 23 rfl rfl)
theorem dX6_digest_188 : decode cX6_digest 188 = .ok (.iaload, 1) := dk_46 (dk_at dksX6_digest_8 0 rfl rfl)
theorem dX6_digest_189 : decode cX6_digest 189 = .ok (.imul, 1) := dk_104 (dk_at dksX6_digest_8 1 rfl rfl)
theorem dX6_digest_190 : decode cX6_digest 190 = .ok (.invokevirtual 284, 3) := dk_182 1 28 (dk_at dksX6_digest_8 2 rfl rfl)
theorem dX6_digest_193 : decode cX6_digest 193 = .ok (.lstore_n 1, 1) := dk_64 (dk_at dksX6_digest_8 5 rfl rfl)
theorem dX6_digest_194 : decode cX6_digest 194 = .ok (.ldc2_w 280, 3) := dk_20 1 24 (dk_at dksX6_digest_8 6 rfl rfl)
theorem dX6_digest_197 : decode cX6_digest 197 = .ok (.ldc2_w 280, 3) := dk_20 1 24 (dk_at dksX6_digest_8 9 rfl rfl)
theorem dX6_digest_200 : decode cX6_digest 200 = .ok (.lload_n 1, 1) := dk_31 (dk_at dksX6_digest_8 12 rfl rfl)
theorem dX6_digest_201 : decode cX6_digest 201 = .ok (.lmul, 1) := dk_105 (dk_at dksX6_digest_8 13 rfl rfl)
theorem dX6_digest_202 : decode cX6_digest 202 = .ok (.aload_n 0, 1) := dk_42 (dk_at dksX6_digest_8 14 rfl rfl)
theorem dX6_digest_203 : decode cX6_digest 203 = .ok (.getfield 191, 3) := dk_180 0 191 (dk_at dksX6_digest_8 15 rfl rfl)
theorem dX6_digest_206 : decode cX6_digest 206 = .ok (.ladd, 1) := dk_97 (dk_at dksX6_digest_8 18 rfl rfl)
theorem dX6_digest_207 : decode cX6_digest 207 = .ok (.lmul, 1) := dk_105 (dk_at dksX6_digest_8 19 rfl rfl)
theorem dX6_digest_208 : decode cX6_digest 208 = .ok (.aload_n 0, 1) := dk_42 (dk_at dksX6_digest_8 20 rfl rfl)
theorem dX6_digest_209 : decode cX6_digest 209 = .ok (.getfield 23, 3) := dk_180 0 23 (dk_at dksX6_digest_8 21 rfl rfl)
theorem dX6_digest_212 : decode cX6_digest 212 = .ok (.ladd, 1) := dk_97 (dk_at dksX6_digest_9 0 rfl rfl)
theorem dX6_digest_213 : decode cX6_digest 213 = .ok (.lreturn, 1) := dk_173 (dk_at dksX6_digest_9 1 rfl rfl)
abbrev cX6_sums : ByteArray := prog_21_method_88_code
def yX6_sums : MethodName := ⟨RX6, "sums", "(JII)J"⟩
def dkwX6_sums_1 : List UInt8 := [21, 7, 96, 46, 133, 97, 55, 5, 132, 7, 1, 167, 255, 227, 22, 5, 173]
abbrev dktX6_sums_1 : List UInt8 := dkwX6_sums_1 ++ []
def dkwX6_sums_0 : List UInt8 := [31, 55, 5, 3, 54, 7, 21, 7, 21, 4, 162, 0, 28, 20, 1, 24, 22, 5, 105, 42, 180, 0, 7, 29]
abbrev dktX6_sums_0 : List UInt8 := dkwX6_sums_0 ++ dktX6_sums_1
theorem dksX6_sums_0 : cX6_sums.data.toList.drop 0 = dktX6_sums_0 := by decide +kernel
theorem dksX6_sums_1 : cX6_sums.data.toList.drop 24 = dktX6_sums_1 := dk_seg dksX6_sums_0 24 rfl rfl
theorem dX6_sums_0 : decode cX6_sums 0 = .ok (.lload_n 1, 1) := dk_31 (dk_at dksX6_sums_0 0 rfl rfl)
theorem dX6_sums_1 : decode cX6_sums 1 = .ok (.lstore 5, 2) := dk_55 5 (dk_at dksX6_sums_0 1 rfl rfl)
theorem dX6_sums_3 : decode cX6_sums 3 = .ok (.iconst 0, 1) := dk_3 (dk_at dksX6_sums_0 3 rfl rfl)
theorem dX6_sums_4 : decode cX6_sums 4 = .ok (.istore 7, 2) := dk_54 7 (dk_at dksX6_sums_0 4 rfl rfl)
theorem dX6_sums_6 : decode cX6_sums 6 = .ok (.iload 7, 2) := dk_21 7 (dk_at dksX6_sums_0 6 rfl rfl)
theorem dX6_sums_8 : decode cX6_sums 8 = .ok (.iload 4, 2) := dk_21 4 (dk_at dksX6_sums_0 8 rfl rfl)
theorem dX6_sums_10 : decode cX6_sums 10 = .ok (.if_icmp .ge 28, 3) := dk_162 0 28 (dk_at dksX6_sums_0 10 rfl rfl)
theorem dX6_sums_13 : decode cX6_sums 13 = .ok (.ldc2_w 280, 3) := dk_20 1 24 (dk_at dksX6_sums_0 13 rfl rfl)
theorem dX6_sums_16 : decode cX6_sums 16 = .ok (.lload 5, 2) := dk_22 5 (dk_at dksX6_sums_0 16 rfl rfl)
theorem dX6_sums_18 : decode cX6_sums 18 = .ok (.lmul, 1) := dk_105 (dk_at dksX6_sums_0 18 rfl rfl)
theorem dX6_sums_19 : decode cX6_sums 19 = .ok (.aload_n 0, 1) := dk_42 (dk_at dksX6_sums_0 19 rfl rfl)
theorem dX6_sums_20 : decode cX6_sums 20 = .ok (.getfield 7, 3) := dk_180 0 7 (dk_at dksX6_sums_0 20 rfl rfl)
theorem dX6_sums_23 : decode cX6_sums 23 = .ok (.iload_n 3, 1) := dk_29 (dk_at dksX6_sums_0 23 rfl rfl)
theorem dX6_sums_24 : decode cX6_sums 24 = .ok (.iload 7, 2) := dk_21 7 (dk_at dksX6_sums_1 0 rfl rfl)
theorem dX6_sums_26 : decode cX6_sums 26 = .ok (.iadd, 1) := dk_96 (dk_at dksX6_sums_1 2 rfl rfl)
theorem dX6_sums_27 : decode cX6_sums 27 = .ok (.iaload, 1) := dk_46 (dk_at dksX6_sums_1 3 rfl rfl)
theorem dX6_sums_28 : decode cX6_sums 28 = .ok (.i2l, 1) := dk_133 (dk_at dksX6_sums_1 4 rfl rfl)
theorem dX6_sums_29 : decode cX6_sums 29 = .ok (.ladd, 1) := dk_97 (dk_at dksX6_sums_1 5 rfl rfl)
theorem dX6_sums_30 : decode cX6_sums 30 = .ok (.lstore 5, 2) := dk_55 5 (dk_at dksX6_sums_1 6 rfl rfl)
theorem dX6_sums_32 : decode cX6_sums 32 = .ok (.iinc 7 1, 3) := dk_132 7 1 (dk_at dksX6_sums_1 8 rfl rfl)
theorem dX6_sums_35 : decode cX6_sums 35 = .ok (.goto (-29), 3) := dk_167 255 227 (dk_at dksX6_sums_1 11 rfl rfl)
theorem dX6_sums_38 : decode cX6_sums 38 = .ok (.lload 5, 2) := dk_22 5 (dk_at dksX6_sums_1 14 rfl rfl)
theorem dX6_sums_40 : decode cX6_sums 40 = .ok (.lreturn, 1) := dk_173 (dk_at dksX6_sums_1 16 rfl rfl)
theorem q67 : (Jvm.Cond.initialized "LeftBehindModel") ∈ lw_all := lw_g (lw_at lw_m1 7 rfl) rfl
theorem q945 : (Jvm.Cond.instantiable "LeftBehindModel" (19 : Nat)) ∈ lw_all := lw_g (lw_at lw_m4 165 rfl) rfl
theorem q947 : (Jvm.Cond.instanceMethod ({ cls := "LeftBehindModel", name := "<init>", desc := "()V" } : Jvm.MethodName)) ∈ lw_all := lw_g (lw_at lw_m4 167 rfl) rfl
theorem q948 : (Jvm.Cond.code ({ cls := "LeftBehindModel", name := "<init>", desc := "()V" } : Jvm.MethodName) prog_21_method_1_code (1 : Nat) (Option.none : Option Jvm.ClassFile.FieldType)) ∈ lw_all := lw_g (lw_at lw_m4 168 rfl) rfl
theorem q949 : (Jvm.Cond.methodLink "LeftBehindModel" (1 : Nat) ({ cls := "java/lang/Object", name := "<init>", desc := "()V" } : Jvm.MethodName)) ∈ lw_all := lw_g (lw_at lw_m4 169 rfl) rfl
theorem q950 : (Jvm.Cond.methodLink "LeftBehindModel" (51 : Nat) ({ cls := "LeftBehindModel", name := "begin", desc := "([I)V" } : Jvm.MethodName)) ∈ lw_all := lw_g (lw_at lw_m4 170 rfl) rfl
theorem q951 : (Jvm.Cond.static ({ cls := "LeftBehindModel", name := "begin", desc := "([I)V" } : Jvm.MethodName)) ∈ lw_all := lw_g (lw_at lw_m4 171 rfl) rfl
theorem q952 : (Jvm.Cond.code ({ cls := "LeftBehindModel", name := "begin", desc := "([I)V" } : Jvm.MethodName) prog_21_method_9_code (2 : Nat) (Option.none : Option Jvm.ClassFile.FieldType)) ∈ lw_all := lw_g (lw_at lw_m4 172 rfl) rfl
theorem q953 : (Jvm.Cond.fieldLink "LeftBehindModel" (7 : Nat) "LeftBehindModel" "all" "[I") ∈ lw_all := lw_g (lw_at lw_m4 173 rfl) rfl
theorem q954 : (Jvm.Cond.fieldLink "LeftBehindModel" (13 : Nat) "LeftBehindModel" "kept" "[I") ∈ lw_all := lw_g (lw_at lw_m4 174 rfl) rfl
theorem q955 : (Jvm.Cond.fieldLink "LeftBehindModel" (16 : Nat) "LeftBehindModel" "isKept" "[Z") ∈ lw_all := lw_g (lw_at lw_m4 175 rfl) rfl
theorem q956 : (Jvm.Cond.fieldLink "LeftBehindModel" (20 : Nat) "LeftBehindModel" "refused" "[I") ∈ lw_all := lw_g (lw_at lw_m4 176 rfl) rfl
theorem q957 : (Jvm.Cond.fieldLink "LeftBehindModel" (191 : Nat) "LeftBehindModel" "above" "J") ∈ lw_all := lw_g (lw_at lw_m4 177 rfl) rfl
theorem q958 : (Jvm.Cond.fieldLink "LeftBehindModel" (23 : Nat) "LeftBehindModel" "below" "J") ∈ lw_all := lw_g (lw_at lw_m4 178 rfl) rfl
theorem q959 : (Jvm.Cond.fieldLink "LeftBehindModel" (27 : Nat) "LeftBehindModel" "hand" "[I") ∈ lw_all := lw_g (lw_at lw_m4 179 rfl) rfl
theorem q960 : (Jvm.Cond.fieldLink "LeftBehindModel" (30 : Nat) "LeftBehindModel" "makes" "[I") ∈ lw_all := lw_g (lw_at lw_m4 180 rfl) rfl
theorem q961 : (Jvm.Cond.fieldLink "LeftBehindModel" (33 : Nat) "LeftBehindModel" "bestMakes" "[I") ∈ lw_all := lw_g (lw_at lw_m4 181 rfl) rfl
theorem q962 : (Jvm.Cond.fieldLink "LeftBehindModel" (36 : Nat) "LeftBehindModel" "goesTo" "[I") ∈ lw_all := lw_g (lw_at lw_m4 182 rfl) rfl
theorem q963 : (Jvm.Cond.fieldLink "LeftBehindModel" (39 : Nat) "LeftBehindModel" "tells" "[I") ∈ lw_all := lw_g (lw_at lw_m4 183 rfl) rfl
theorem q964 : (Jvm.Cond.fieldLink "LeftBehindModel" (42 : Nat) "LeftBehindModel" "bytes" "[I") ∈ lw_all := lw_g (lw_at lw_m4 184 rfl) rfl
theorem q965 : (Jvm.Cond.fieldLink "LeftBehindModel" (216 : Nat) "LeftBehindModel" "bytesLong" "I") ∈ lw_all := lw_g (lw_at lw_m4 185 rfl) rfl
theorem q966 : (Jvm.Cond.fieldLink "LeftBehindModel" (228 : Nat) "LeftBehindModel" "tokenAt" "I") ∈ lw_all := lw_g (lw_at lw_m4 186 rfl) rfl
theorem q967 : (Jvm.Cond.fieldLink "LeftBehindModel" (231 : Nat) "LeftBehindModel" "tokenLong" "I") ∈ lw_all := lw_g (lw_at lw_m4 187 rfl) rfl
theorem q968 : (Jvm.Cond.fieldLink "LeftBehindModel" (234 : Nat) "LeftBehindModel" "token" "I") ∈ lw_all := lw_g (lw_at lw_m4 188 rfl) rfl
theorem q969 : (Jvm.Cond.fieldLink "LeftBehindModel" (237 : Nat) "LeftBehindModel" "value" "I") ∈ lw_all := lw_g (lw_at lw_m4 189 rfl) rfl
theorem q970 : (Jvm.Cond.fieldLink "LeftBehindModel" (45 : Nat) "LeftBehindModel" "anew" "[I") ∈ lw_all := lw_g (lw_at lw_m4 190 rfl) rfl
theorem q971 : (Jvm.Cond.fieldLink "LeftBehindModel" (48 : Nat) "LeftBehindModel" "values" "[I") ∈ lw_all := lw_g (lw_at lw_m4 191 rfl) rfl
theorem q972 : (Jvm.Cond.laysFinal "LeftBehindModel" "LeftBehindModel" "all" "[I") ∈ lw_all := lw_g (lw_at lw_m4 192 rfl) rfl
theorem q973 : (Jvm.Cond.soleField "LeftBehindModel" "all") ∈ lw_all := lw_g (lw_at lw_m4 193 rfl) rfl
theorem q974 : (Jvm.Cond.laysFinal "LeftBehindModel" "LeftBehindModel" "kept" "[I") ∈ lw_all := lw_g (lw_at lw_m4 194 rfl) rfl
theorem q975 : (Jvm.Cond.soleField "LeftBehindModel" "kept") ∈ lw_all := lw_g (lw_at lw_m4 195 rfl) rfl
theorem q976 : (Jvm.Cond.laysFinal "LeftBehindModel" "LeftBehindModel" "isKept" "[Z") ∈ lw_all := lw_g (lw_at lw_m4 196 rfl) rfl
theorem q977 : (Jvm.Cond.soleField "LeftBehindModel" "isKept") ∈ lw_all := lw_g (lw_at lw_m4 197 rfl) rfl
theorem q978 : (Jvm.Cond.laysFinal "LeftBehindModel" "LeftBehindModel" "refused" "[I") ∈ lw_all := lw_g (lw_at lw_m4 198 rfl) rfl
theorem q979 : (Jvm.Cond.soleField "LeftBehindModel" "refused") ∈ lw_all := lw_g (lw_at lw_m4 199 rfl) rfl
theorem q980 : (Jvm.Cond.lays "LeftBehindModel" "LeftBehindModel" "above" "J") ∈ lw_all := lw_g (lw_at lw_m4 200 rfl) rfl
theorem q981 : (Jvm.Cond.soleField "LeftBehindModel" "above") ∈ lw_all := lw_g (lw_at lw_m4 201 rfl) rfl
theorem q982 : (Jvm.Cond.lays "LeftBehindModel" "LeftBehindModel" "below" "J") ∈ lw_all := lw_g (lw_at lw_m4 202 rfl) rfl
theorem q983 : (Jvm.Cond.soleField "LeftBehindModel" "below") ∈ lw_all := lw_g (lw_at lw_m4 203 rfl) rfl
theorem q984 : (Jvm.Cond.laysFinal "LeftBehindModel" "LeftBehindModel" "hand" "[I") ∈ lw_all := lw_g (lw_at lw_m4 204 rfl) rfl
theorem q985 : (Jvm.Cond.soleField "LeftBehindModel" "hand") ∈ lw_all := lw_g (lw_at lw_m4 205 rfl) rfl
theorem q986 : (Jvm.Cond.laysFinal "LeftBehindModel" "LeftBehindModel" "makes" "[I") ∈ lw_all := lw_g (lw_at lw_m4 206 rfl) rfl
theorem q987 : (Jvm.Cond.soleField "LeftBehindModel" "makes") ∈ lw_all := lw_g (lw_at lw_m4 207 rfl) rfl
theorem q988 : (Jvm.Cond.laysFinal "LeftBehindModel" "LeftBehindModel" "bestMakes" "[I") ∈ lw_all := lw_g (lw_at lw_m4 208 rfl) rfl
theorem q989 : (Jvm.Cond.soleField "LeftBehindModel" "bestMakes") ∈ lw_all := lw_g (lw_at lw_m4 209 rfl) rfl
theorem q990 : (Jvm.Cond.laysFinal "LeftBehindModel" "LeftBehindModel" "goesTo" "[I") ∈ lw_all := lw_g (lw_at lw_m4 210 rfl) rfl
theorem q991 : (Jvm.Cond.soleField "LeftBehindModel" "goesTo") ∈ lw_all := lw_g (lw_at lw_m4 211 rfl) rfl
theorem q992 : (Jvm.Cond.laysFinal "LeftBehindModel" "LeftBehindModel" "tells" "[I") ∈ lw_all := lw_g (lw_at lw_m4 212 rfl) rfl
theorem q993 : (Jvm.Cond.soleField "LeftBehindModel" "tells") ∈ lw_all := lw_g (lw_at lw_m4 213 rfl) rfl
theorem q994 : (Jvm.Cond.laysFinal "LeftBehindModel" "LeftBehindModel" "bytes" "[I") ∈ lw_all := lw_g (lw_at lw_m4 214 rfl) rfl
theorem q995 : (Jvm.Cond.soleField "LeftBehindModel" "bytes") ∈ lw_all := lw_g (lw_at lw_m4 215 rfl) rfl
theorem q996 : (Jvm.Cond.lays "LeftBehindModel" "LeftBehindModel" "bytesLong" "I") ∈ lw_all := lw_g (lw_at lw_m4 216 rfl) rfl
theorem q997 : (Jvm.Cond.soleField "LeftBehindModel" "bytesLong") ∈ lw_all := lw_g (lw_at lw_m4 217 rfl) rfl
theorem q998 : (Jvm.Cond.lays "LeftBehindModel" "LeftBehindModel" "tokenAt" "I") ∈ lw_all := lw_g (lw_at lw_m4 218 rfl) rfl
theorem q999 : (Jvm.Cond.soleField "LeftBehindModel" "tokenAt") ∈ lw_all := lw_g (lw_at lw_m4 219 rfl) rfl
theorem q1000 : (Jvm.Cond.lays "LeftBehindModel" "LeftBehindModel" "tokenLong" "I") ∈ lw_all := lw_g (lw_at lw_m4 220 rfl) rfl
theorem q1001 : (Jvm.Cond.soleField "LeftBehindModel" "tokenLong") ∈ lw_all := lw_g (lw_at lw_m4 221 rfl) rfl
theorem q1002 : (Jvm.Cond.lays "LeftBehindModel" "LeftBehindModel" "token" "I") ∈ lw_all := lw_g (lw_at lw_m4 222 rfl) rfl
theorem q1003 : (Jvm.Cond.soleField "LeftBehindModel" "token") ∈ lw_all := lw_g (lw_at lw_m4 223 rfl) rfl
theorem q1004 : (Jvm.Cond.lays "LeftBehindModel" "LeftBehindModel" "value" "I") ∈ lw_all := lw_g (lw_at lw_m4 224 rfl) rfl
theorem q1005 : (Jvm.Cond.soleField "LeftBehindModel" "value") ∈ lw_all := lw_g (lw_at lw_m4 225 rfl) rfl
theorem q1006 : (Jvm.Cond.laysFinal "LeftBehindModel" "LeftBehindModel" "anew" "[I") ∈ lw_all := lw_g (lw_at lw_m4 226 rfl) rfl
theorem q1007 : (Jvm.Cond.soleField "LeftBehindModel" "anew") ∈ lw_all := lw_g (lw_at lw_m4 227 rfl) rfl
theorem q1008 : (Jvm.Cond.laysFinal "LeftBehindModel" "LeftBehindModel" "values" "[I") ∈ lw_all := lw_g (lw_at lw_m4 228 rfl) rfl
theorem q1009 : (Jvm.Cond.soleField "LeftBehindModel" "values") ∈ lw_all := lw_g (lw_at lw_m4 229 rfl) rfl
theorem q1010 : (Jvm.Cond.superclass "LeftBehindModel" "java/lang/Object") ∈ lw_all := lw_g (lw_at lw_m4 230 rfl) rfl
theorem q1013 : (Jvm.Cond.instanceMethod ({ cls := "LeftBehindModel", name := "island", desc := "()I" } : Jvm.MethodName)) ∈ lw_all := lw_g (lw_at lw_m4 233 rfl) rfl
theorem q1014 : (Jvm.Cond.selects "LeftBehindModel" ({ cls := "LeftBehindModel", name := "island", desc := "()I" } : Jvm.MethodName) ({ cls := "LeftBehindModel", name := "island", desc := "()I" } : Jvm.MethodName)) ∈ lw_all := lw_g (lw_at lw_m4 234 rfl) rfl
theorem q1015 : (Jvm.Cond.code ({ cls := "LeftBehindModel", name := "island", desc := "()I" } : Jvm.MethodName) prog_21_method_16_code (2 : Nat) (Option.some Jvm.ClassFile.FieldType.int)) ∈ lw_all := lw_g (lw_at lw_m4 235 rfl) rfl
theorem q1016 : (Jvm.Cond.methodLink "LeftBehindModel" (55 : Nat) ({ cls := "LeftBehindModel", name := "many", desc := "()I" } : Jvm.MethodName)) ∈ lw_all := lw_g (lw_at lw_m4 236 rfl) rfl
theorem q1017 : (Jvm.Cond.privateMethod ({ cls := "LeftBehindModel", name := "many", desc := "()I" } : Jvm.MethodName)) ∈ lw_tbl := lw_at lw_m4 237 rfl
theorem q1018 : (Jvm.Cond.instanceMethod ({ cls := "LeftBehindModel", name := "many", desc := "()I" } : Jvm.MethodName)) ∈ lw_all := lw_g (lw_at lw_m4 238 rfl) rfl
theorem q1019 : (Jvm.Cond.code ({ cls := "LeftBehindModel", name := "many", desc := "()I" } : Jvm.MethodName) prog_21_method_10_code (1 : Nat) (Option.some Jvm.ClassFile.FieldType.int)) ∈ lw_all := lw_g (lw_at lw_m4 239 rfl) rfl
theorem q1021 : (Jvm.Cond.instanceMethod ({ cls := "LeftBehindModel", name := "ship", desc := "(I)I" } : Jvm.MethodName)) ∈ lw_all := lw_g (lw_at lw_m5 1 rfl) rfl
theorem q1022 : (Jvm.Cond.selects "LeftBehindModel" ({ cls := "LeftBehindModel", name := "ship", desc := "(I)I" } : Jvm.MethodName) ({ cls := "LeftBehindModel", name := "ship", desc := "(I)I" } : Jvm.MethodName)) ∈ lw_all := lw_g (lw_at lw_m5 2 rfl) rfl
theorem q1023 : (Jvm.Cond.code ({ cls := "LeftBehindModel", name := "ship", desc := "(I)I" } : Jvm.MethodName) prog_21_method_17_code (2 : Nat) (Option.some Jvm.ClassFile.FieldType.int)) ∈ lw_all := lw_g (lw_at lw_m5 3 rfl) rfl
theorem q1024 : (Jvm.Cond.methodLink "LeftBehindModel" (69 : Nat) ({ cls := "LeftBehindModel", name := "isKind", desc := "(I)Z" } : Jvm.MethodName)) ∈ lw_all := lw_g (lw_at lw_m5 4 rfl) rfl
theorem q1025 : (Jvm.Cond.static ({ cls := "LeftBehindModel", name := "isKind", desc := "(I)Z" } : Jvm.MethodName)) ∈ lw_all := lw_g (lw_at lw_m5 5 rfl) rfl
theorem q1026 : (Jvm.Cond.code ({ cls := "LeftBehindModel", name := "isKind", desc := "(I)Z" } : Jvm.MethodName) prog_21_method_13_code (1 : Nat) (Option.some Jvm.ClassFile.FieldType.boolean)) ∈ lw_all := lw_g (lw_at lw_m5 6 rfl) rfl
theorem q1027 : (Jvm.Cond.constantLong "LeftBehindModel" (63 : Nat) (5 : Int64)) ∈ lw_all := lw_g (lw_at lw_m5 7 rfl) rfl
theorem q1028 : (Jvm.Cond.methodLink "LeftBehindModel" (59 : Nat) ({ cls := "LeftBehindModel", name := "in", desc := "(JJJ)Z" } : Jvm.MethodName)) ∈ lw_all := lw_g (lw_at lw_m5 8 rfl) rfl
theorem q1029 : (Jvm.Cond.static ({ cls := "LeftBehindModel", name := "in", desc := "(JJJ)Z" } : Jvm.MethodName)) ∈ lw_all := lw_g (lw_at lw_m5 9 rfl) rfl
theorem q1030 : (Jvm.Cond.code ({ cls := "LeftBehindModel", name := "in", desc := "(JJJ)Z" } : Jvm.MethodName) prog_21_method_3_code (6 : Nat) (Option.some Jvm.ClassFile.FieldType.boolean)) ∈ lw_all := lw_g (lw_at lw_m5 10 rfl) rfl
theorem q1031 : (Jvm.Cond.methodLink "LeftBehindModel" (73 : Nat) ({ cls := "LeftBehindModel", name := "bad", desc := "(I)I" } : Jvm.MethodName)) ∈ lw_all := lw_g (lw_at lw_m5 11 rfl) rfl
theorem q1032 : (Jvm.Cond.privateMethod ({ cls := "LeftBehindModel", name := "bad", desc := "(I)I" } : Jvm.MethodName)) ∈ lw_tbl := lw_at lw_m5 12 rfl
theorem q1033 : (Jvm.Cond.instanceMethod ({ cls := "LeftBehindModel", name := "bad", desc := "(I)I" } : Jvm.MethodName)) ∈ lw_all := lw_g (lw_at lw_m5 13 rfl) rfl
theorem q1034 : (Jvm.Cond.code ({ cls := "LeftBehindModel", name := "bad", desc := "(I)I" } : Jvm.MethodName) prog_21_method_4_code (2 : Nat) (Option.some Jvm.ClassFile.FieldType.int)) ∈ lw_all := lw_g (lw_at lw_m5 14 rfl) rfl
theorem q1035 : (Jvm.Cond.methodLink "LeftBehindModel" (77 : Nat) ({ cls := "LeftBehindModel", name := "full", desc := "()I" } : Jvm.MethodName)) ∈ lw_all := lw_g (lw_at lw_m5 15 rfl) rfl
theorem q1036 : (Jvm.Cond.privateMethod ({ cls := "LeftBehindModel", name := "full", desc := "()I" } : Jvm.MethodName)) ∈ lw_tbl := lw_at lw_m5 16 rfl
theorem q1037 : (Jvm.Cond.instanceMethod ({ cls := "LeftBehindModel", name := "full", desc := "()I" } : Jvm.MethodName)) ∈ lw_all := lw_g (lw_at lw_m5 17 rfl) rfl
theorem q1038 : (Jvm.Cond.code ({ cls := "LeftBehindModel", name := "full", desc := "()I" } : Jvm.MethodName) prog_21_method_6_code (1 : Nat) (Option.some Jvm.ClassFile.FieldType.int)) ∈ lw_all := lw_g (lw_at lw_m5 18 rfl) rfl
theorem q1040 : (Jvm.Cond.instanceMethod ({ cls := "LeftBehindModel", name := "man", desc := "(III)I" } : Jvm.MethodName)) ∈ lw_all := lw_g (lw_at lw_m5 20 rfl) rfl
theorem q1041 : (Jvm.Cond.selects "LeftBehindModel" ({ cls := "LeftBehindModel", name := "man", desc := "(III)I" } : Jvm.MethodName) ({ cls := "LeftBehindModel", name := "man", desc := "(III)I" } : Jvm.MethodName)) ∈ lw_all := lw_g (lw_at lw_m5 21 rfl) rfl
theorem q1042 : (Jvm.Cond.code ({ cls := "LeftBehindModel", name := "man", desc := "(III)I" } : Jvm.MethodName) prog_21_method_19_code (4 : Nat) (Option.some Jvm.ClassFile.FieldType.int)) ∈ lw_all := lw_g (lw_at lw_m5 22 rfl) rfl
theorem q1043 : (Jvm.Cond.methodLink "LeftBehindModel" (80 : Nat) ({ cls := "LeftBehindModel", name := "isSkill", desc := "(I)Z" } : Jvm.MethodName)) ∈ lw_all := lw_g (lw_at lw_m5 23 rfl) rfl
theorem q1044 : (Jvm.Cond.static ({ cls := "LeftBehindModel", name := "isSkill", desc := "(I)Z" } : Jvm.MethodName)) ∈ lw_all := lw_g (lw_at lw_m5 24 rfl) rfl
theorem q1045 : (Jvm.Cond.code ({ cls := "LeftBehindModel", name := "isSkill", desc := "(I)Z" } : Jvm.MethodName) prog_21_method_14_code (1 : Nat) (Option.some Jvm.ClassFile.FieldType.boolean)) ∈ lw_all := lw_g (lw_at lw_m5 25 rfl) rfl
theorem q1046 : (Jvm.Cond.constantLong "LeftBehindModel" (65 : Nat) (9 : Int64)) ∈ lw_all := lw_g (lw_at lw_m5 26 rfl) rfl
theorem q1047 : (Jvm.Cond.methodLink "LeftBehindModel" (83 : Nat) ({ cls := "LeftBehindModel", name := "isShip", desc := "(I)Z" } : Jvm.MethodName)) ∈ lw_all := lw_g (lw_at lw_m5 27 rfl) rfl
theorem q1048 : (Jvm.Cond.privateMethod ({ cls := "LeftBehindModel", name := "isShip", desc := "(I)Z" } : Jvm.MethodName)) ∈ lw_tbl := lw_at lw_m5 28 rfl
theorem q1049 : (Jvm.Cond.instanceMethod ({ cls := "LeftBehindModel", name := "isShip", desc := "(I)Z" } : Jvm.MethodName)) ∈ lw_all := lw_g (lw_at lw_m5 29 rfl) rfl
theorem q1050 : (Jvm.Cond.code ({ cls := "LeftBehindModel", name := "isShip", desc := "(I)Z" } : Jvm.MethodName) prog_21_method_12_code (2 : Nat) (Option.some Jvm.ClassFile.FieldType.boolean)) ∈ lw_all := lw_g (lw_at lw_m5 30 rfl) rfl
theorem q1051 : (Jvm.Cond.methodLink "LeftBehindModel" (86 : Nat) ({ cls := "LeftBehindModel", name := "layMan", desc := "([IIII)V" } : Jvm.MethodName)) ∈ lw_all := lw_g (lw_at lw_m5 31 rfl) rfl
theorem q1052 : (Jvm.Cond.static ({ cls := "LeftBehindModel", name := "layMan", desc := "([IIII)V" } : Jvm.MethodName)) ∈ lw_all := lw_g (lw_at lw_m5 32 rfl) rfl
theorem q1053 : (Jvm.Cond.code ({ cls := "LeftBehindModel", name := "layMan", desc := "([IIII)V" } : Jvm.MethodName) prog_21_method_18_code (5 : Nat) (Option.none : Option Jvm.ClassFile.FieldType)) ∈ lw_all := lw_g (lw_at lw_m5 33 rfl) rfl
theorem q1055 : (Jvm.Cond.instanceMethod ({ cls := "LeftBehindModel", name := "calls", desc := "(I)I" } : Jvm.MethodName)) ∈ lw_all := lw_g (lw_at lw_m5 35 rfl) rfl
theorem q1056 : (Jvm.Cond.selects "LeftBehindModel" ({ cls := "LeftBehindModel", name := "calls", desc := "(I)I" } : Jvm.MethodName) ({ cls := "LeftBehindModel", name := "calls", desc := "(I)I" } : Jvm.MethodName)) ∈ lw_all := lw_g (lw_at lw_m5 36 rfl) rfl
theorem q1057 : (Jvm.Cond.code ({ cls := "LeftBehindModel", name := "calls", desc := "(I)I" } : Jvm.MethodName) prog_21_method_29_code (2 : Nat) (Option.some Jvm.ClassFile.FieldType.int)) ∈ lw_all := lw_g (lw_at lw_m5 37 rfl) rfl
theorem q1058 : (Jvm.Cond.methodLink "LeftBehindModel" (90 : Nat) ({ cls := "LeftBehindModel", name := "aboard", desc := "([II)I" } : Jvm.MethodName)) ∈ lw_all := lw_g (lw_at lw_m5 38 rfl) rfl
theorem q1059 : (Jvm.Cond.static ({ cls := "LeftBehindModel", name := "aboard", desc := "([II)I" } : Jvm.MethodName)) ∈ lw_all := lw_g (lw_at lw_m5 39 rfl) rfl
theorem q1060 : (Jvm.Cond.code ({ cls := "LeftBehindModel", name := "aboard", desc := "([II)I" } : Jvm.MethodName) prog_21_method_22_code (4 : Nat) (Option.some Jvm.ClassFile.FieldType.int)) ∈ lw_all := lw_g (lw_at lw_m5 40 rfl) rfl
theorem q1061 : (Jvm.Cond.methodLink "LeftBehindModel" (111 : Nat) ({ cls := "LeftBehindModel", name := "no", desc := "()I" } : Jvm.MethodName)) ∈ lw_all := lw_g (lw_at lw_m5 41 rfl) rfl
theorem q1062 : (Jvm.Cond.privateMethod ({ cls := "LeftBehindModel", name := "no", desc := "()I" } : Jvm.MethodName)) ∈ lw_tbl := lw_at lw_m5 42 rfl
theorem q1063 : (Jvm.Cond.instanceMethod ({ cls := "LeftBehindModel", name := "no", desc := "()I" } : Jvm.MethodName)) ∈ lw_all := lw_g (lw_at lw_m5 43 rfl) rfl
theorem q1064 : (Jvm.Cond.code ({ cls := "LeftBehindModel", name := "no", desc := "()I" } : Jvm.MethodName) prog_21_method_5_code (1 : Nat) (Option.some Jvm.ClassFile.FieldType.int)) ∈ lw_all := lw_g (lw_at lw_m5 44 rfl) rfl
theorem q1065 : (Jvm.Cond.methodLink "LeftBehindModel" (114 : Nat) ({ cls := "LeftBehindModel", name := "save", desc := "()V" } : Jvm.MethodName)) ∈ lw_all := lw_g (lw_at lw_m5 45 rfl) rfl
theorem q1066 : (Jvm.Cond.privateMethod ({ cls := "LeftBehindModel", name := "save", desc := "()V" } : Jvm.MethodName)) ∈ lw_tbl := lw_at lw_m5 46 rfl
theorem q1067 : (Jvm.Cond.instanceMethod ({ cls := "LeftBehindModel", name := "save", desc := "()V" } : Jvm.MethodName)) ∈ lw_all := lw_g (lw_at lw_m5 47 rfl) rfl
theorem q1068 : (Jvm.Cond.code ({ cls := "LeftBehindModel", name := "save", desc := "()V" } : Jvm.MethodName) prog_21_method_28_code (2 : Nat) (Option.none : Option Jvm.ClassFile.FieldType)) ∈ lw_all := lw_g (lw_at lw_m5 48 rfl) rfl
theorem q1069 : (Jvm.Cond.methodLink "LeftBehindModel" (117 : Nat) ({ cls := "LeftBehindModel", name := "goCall", desc := "([II)I" } : Jvm.MethodName)) ∈ lw_all := lw_g (lw_at lw_m5 49 rfl) rfl
theorem q1070 : (Jvm.Cond.static ({ cls := "LeftBehindModel", name := "goCall", desc := "([II)I" } : Jvm.MethodName)) ∈ lw_all := lw_g (lw_at lw_m5 50 rfl) rfl
theorem q1071 : (Jvm.Cond.code ({ cls := "LeftBehindModel", name := "goCall", desc := "([II)I" } : Jvm.MethodName) prog_21_method_27_code (3 : Nat) (Option.some Jvm.ClassFile.FieldType.int)) ∈ lw_all := lw_g (lw_at lw_m5 51 rfl) rfl
theorem q1072 : (Jvm.Cond.methodLink "LeftBehindModel" (108 : Nat) ({ cls := "LeftBehindModel", name := "leastOf", desc := "([II)I" } : Jvm.MethodName)) ∈ lw_all := lw_g (lw_at lw_m5 52 rfl) rfl
theorem q1073 : (Jvm.Cond.static ({ cls := "LeftBehindModel", name := "leastOf", desc := "([II)I" } : Jvm.MethodName)) ∈ lw_all := lw_g (lw_at lw_m5 53 rfl) rfl
theorem q1074 : (Jvm.Cond.code ({ cls := "LeftBehindModel", name := "leastOf", desc := "([II)I" } : Jvm.MethodName) prog_21_method_26_code (4 : Nat) (Option.some Jvm.ClassFile.FieldType.int)) ∈ lw_all := lw_g (lw_at lw_m5 54 rfl) rfl
theorem q1075 : (Jvm.Cond.methodLink "LeftBehindModel" (104 : Nat) ({ cls := "LeftBehindModel", name := "likedOf", desc := "([III)I" } : Jvm.MethodName)) ∈ lw_all := lw_g (lw_at lw_m5 55 rfl) rfl
theorem q1076 : (Jvm.Cond.static ({ cls := "LeftBehindModel", name := "likedOf", desc := "([III)I" } : Jvm.MethodName)) ∈ lw_all := lw_g (lw_at lw_m5 56 rfl) rfl
theorem q1077 : (Jvm.Cond.code ({ cls := "LeftBehindModel", name := "likedOf", desc := "([III)I" } : Jvm.MethodName) prog_21_method_25_code (3 : Nat) (Option.some Jvm.ClassFile.FieldType.int)) ∈ lw_all := lw_g (lw_at lw_m5 57 rfl) rfl
theorem q1078 : (Jvm.Cond.methodLink "LeftBehindModel" (101 : Nat) ({ cls := "LeftBehindModel", name := "likedAs", desc := "(III)I" } : Jvm.MethodName)) ∈ lw_all := lw_g (lw_at lw_m5 58 rfl) rfl
theorem q1079 : (Jvm.Cond.static ({ cls := "LeftBehindModel", name := "likedAs", desc := "(III)I" } : Jvm.MethodName)) ∈ lw_all := lw_g (lw_at lw_m5 59 rfl) rfl
theorem q1080 : (Jvm.Cond.code ({ cls := "LeftBehindModel", name := "likedAs", desc := "(III)I" } : Jvm.MethodName) prog_21_method_21_code (5 : Nat) (Option.some Jvm.ClassFile.FieldType.int)) ∈ lw_all := lw_g (lw_at lw_m5 60 rfl) rfl
theorem q1082 : (Jvm.Cond.instanceMethod ({ cls := "LeftBehindModel", name := "boards", desc := "(II)I" } : Jvm.MethodName)) ∈ lw_all := lw_g (lw_at lw_m5 62 rfl) rfl
theorem q1083 : (Jvm.Cond.selects "LeftBehindModel" ({ cls := "LeftBehindModel", name := "boards", desc := "(II)I" } : Jvm.MethodName) ({ cls := "LeftBehindModel", name := "boards", desc := "(II)I" } : Jvm.MethodName)) ∈ lw_all := lw_g (lw_at lw_m5 63 rfl) rfl
theorem q1084 : (Jvm.Cond.code ({ cls := "LeftBehindModel", name := "boards", desc := "(II)I" } : Jvm.MethodName) prog_21_method_30_code (3 : Nat) (Option.some Jvm.ClassFile.FieldType.int)) ∈ lw_all := lw_g (lw_at lw_m5 64 rfl) rfl
theorem q1085 : (Jvm.Cond.methodLink "LeftBehindModel" (120 : Nat) ({ cls := "LeftBehindModel", name := "isMan", desc := "(I)Z" } : Jvm.MethodName)) ∈ lw_all := lw_g (lw_at lw_m5 65 rfl) rfl
theorem q1086 : (Jvm.Cond.privateMethod ({ cls := "LeftBehindModel", name := "isMan", desc := "(I)Z" } : Jvm.MethodName)) ∈ lw_tbl := lw_at lw_m5 66 rfl
theorem q1087 : (Jvm.Cond.instanceMethod ({ cls := "LeftBehindModel", name := "isMan", desc := "(I)Z" } : Jvm.MethodName)) ∈ lw_all := lw_g (lw_at lw_m5 67 rfl) rfl
theorem q1088 : (Jvm.Cond.code ({ cls := "LeftBehindModel", name := "isMan", desc := "(I)Z" } : Jvm.MethodName) prog_21_method_11_code (2 : Nat) (Option.some Jvm.ClassFile.FieldType.boolean)) ∈ lw_all := lw_g (lw_at lw_m5 68 rfl) rfl
theorem q1090 : (Jvm.Cond.instanceMethod ({ cls := "LeftBehindModel", name := "undo", desc := "()I" } : Jvm.MethodName)) ∈ lw_all := lw_g (lw_at lw_m5 70 rfl) rfl
theorem q1091 : (Jvm.Cond.selects "LeftBehindModel" ({ cls := "LeftBehindModel", name := "undo", desc := "()I" } : Jvm.MethodName) ({ cls := "LeftBehindModel", name := "undo", desc := "()I" } : Jvm.MethodName)) ∈ lw_all := lw_g (lw_at lw_m5 71 rfl) rfl
theorem q1092 : (Jvm.Cond.code ({ cls := "LeftBehindModel", name := "undo", desc := "()I" } : Jvm.MethodName) prog_21_method_32_code (2 : Nat) (Option.some Jvm.ClassFile.FieldType.int)) ∈ lw_all := lw_g (lw_at lw_m5 72 rfl) rfl
theorem q1093 : (Jvm.Cond.methodLink "LeftBehindModel" (123 : Nat) ({ cls := "LeftBehindModel", name := "ashore", desc := "([I)I" } : Jvm.MethodName)) ∈ lw_all := lw_g (lw_at lw_m5 73 rfl) rfl
theorem q1094 : (Jvm.Cond.static ({ cls := "LeftBehindModel", name := "ashore", desc := "([I)I" } : Jvm.MethodName)) ∈ lw_all := lw_g (lw_at lw_m5 74 rfl) rfl
theorem q1095 : (Jvm.Cond.code ({ cls := "LeftBehindModel", name := "ashore", desc := "([I)I" } : Jvm.MethodName) prog_21_method_31_code (1 : Nat) (Option.some Jvm.ClassFile.FieldType.int)) ∈ lw_all := lw_g (lw_at lw_m5 75 rfl) rfl
theorem q1097 : (Jvm.Cond.instanceMethod ({ cls := "LeftBehindModel", name := "of", desc := "(II)I" } : Jvm.MethodName)) ∈ lw_all := lw_g (lw_at lw_m5 77 rfl) rfl
theorem q1098 : (Jvm.Cond.selects "LeftBehindModel" ({ cls := "LeftBehindModel", name := "of", desc := "(II)I" } : Jvm.MethodName) ({ cls := "LeftBehindModel", name := "of", desc := "(II)I" } : Jvm.MethodName)) ∈ lw_all := lw_g (lw_at lw_m5 78 rfl) rfl
theorem q1099 : (Jvm.Cond.code ({ cls := "LeftBehindModel", name := "of", desc := "(II)I" } : Jvm.MethodName) prog_21_method_33_code (4 : Nat) (Option.some Jvm.ClassFile.FieldType.int)) ∈ lw_all := lw_g (lw_at lw_m5 79 rfl) rfl
theorem q1100 : (Jvm.Cond.constantLong "LeftBehindModel" (127 : Nat) (3 : Int64)) ∈ lw_all := lw_g (lw_at lw_m5 80 rfl) rfl
theorem q1102 : (Jvm.Cond.instanceMethod ({ cls := "LeftBehindModel", name := "about", desc := "(II)I" } : Jvm.MethodName)) ∈ lw_all := lw_g (lw_at lw_m5 82 rfl) rfl
theorem q1103 : (Jvm.Cond.selects "LeftBehindModel" ({ cls := "LeftBehindModel", name := "about", desc := "(II)I" } : Jvm.MethodName) ({ cls := "LeftBehindModel", name := "about", desc := "(II)I" } : Jvm.MethodName)) ∈ lw_all := lw_g (lw_at lw_m5 83 rfl) rfl
theorem q1104 : (Jvm.Cond.code ({ cls := "LeftBehindModel", name := "about", desc := "(II)I" } : Jvm.MethodName) prog_21_method_35_code (3 : Nat) (Option.some Jvm.ClassFile.FieldType.int)) ∈ lw_all := lw_g (lw_at lw_m5 84 rfl) rfl
theorem q1105 : (Jvm.Cond.methodLink "LeftBehindModel" (129 : Nat) ({ cls := "LeftBehindModel", name := "crewOf", desc := "(I)I" } : Jvm.MethodName)) ∈ lw_all := lw_g (lw_at lw_m5 85 rfl) rfl
theorem q1106 : (Jvm.Cond.privateMethod ({ cls := "LeftBehindModel", name := "crewOf", desc := "(I)I" } : Jvm.MethodName)) ∈ lw_tbl := lw_at lw_m5 86 rfl
theorem q1107 : (Jvm.Cond.instanceMethod ({ cls := "LeftBehindModel", name := "crewOf", desc := "(I)I" } : Jvm.MethodName)) ∈ lw_all := lw_g (lw_at lw_m5 87 rfl) rfl
theorem q1108 : (Jvm.Cond.code ({ cls := "LeftBehindModel", name := "crewOf", desc := "(I)I" } : Jvm.MethodName) prog_21_method_34_code (4 : Nat) (Option.some Jvm.ClassFile.FieldType.int)) ∈ lw_all := lw_g (lw_at lw_m5 88 rfl) rfl
theorem q1109 : (Jvm.Cond.methodLink "LeftBehindModel" (94 : Nat) ({ cls := "LeftBehindModel", name := "skillsIn", desc := "([II)I" } : Jvm.MethodName)) ∈ lw_all := lw_g (lw_at lw_m5 89 rfl) rfl
theorem q1110 : (Jvm.Cond.static ({ cls := "LeftBehindModel", name := "skillsIn", desc := "([II)I" } : Jvm.MethodName)) ∈ lw_all := lw_g (lw_at lw_m5 90 rfl) rfl
theorem q1111 : (Jvm.Cond.code ({ cls := "LeftBehindModel", name := "skillsIn", desc := "([II)I" } : Jvm.MethodName) prog_21_method_23_code (4 : Nat) (Option.some Jvm.ClassFile.FieldType.int)) ∈ lw_all := lw_g (lw_at lw_m5 91 rfl) rfl
theorem q1113 : (Jvm.Cond.instanceMethod ({ cls := "LeftBehindModel", name := "left", desc := "(I)I" } : Jvm.MethodName)) ∈ lw_all := lw_g (lw_at lw_m5 93 rfl) rfl
theorem q1114 : (Jvm.Cond.selects "LeftBehindModel" ({ cls := "LeftBehindModel", name := "left", desc := "(I)I" } : Jvm.MethodName) ({ cls := "LeftBehindModel", name := "left", desc := "(I)I" } : Jvm.MethodName)) ∈ lw_all := lw_g (lw_at lw_m5 94 rfl) rfl
theorem q1115 : (Jvm.Cond.code ({ cls := "LeftBehindModel", name := "left", desc := "(I)I" } : Jvm.MethodName) prog_21_method_36_code (2 : Nat) (Option.some Jvm.ClassFile.FieldType.int)) ∈ lw_all := lw_g (lw_at lw_m5 95 rfl) rfl
theorem q1117 : (Jvm.Cond.instanceMethod ({ cls := "LeftBehindModel", name := "needs", desc := "(II)I" } : Jvm.MethodName)) ∈ lw_all := lw_g (lw_at lw_m5 97 rfl) rfl
theorem q1118 : (Jvm.Cond.selects "LeftBehindModel" ({ cls := "LeftBehindModel", name := "needs", desc := "(II)I" } : Jvm.MethodName) ({ cls := "LeftBehindModel", name := "needs", desc := "(II)I" } : Jvm.MethodName)) ∈ lw_all := lw_g (lw_at lw_m5 98 rfl) rfl
theorem q1119 : (Jvm.Cond.code ({ cls := "LeftBehindModel", name := "needs", desc := "(II)I" } : Jvm.MethodName) prog_21_method_37_code (3 : Nat) (Option.some Jvm.ClassFile.FieldType.int)) ∈ lw_all := lw_g (lw_at lw_m5 99 rfl) rfl
theorem q1120 : (Jvm.Cond.methodLink "LeftBehindModel" (132 : Nat) ({ cls := "LeftBehindModel", name := "isFar", desc := "(I)Z" } : Jvm.MethodName)) ∈ lw_all := lw_g (lw_at lw_m5 100 rfl) rfl
theorem q1121 : (Jvm.Cond.static ({ cls := "LeftBehindModel", name := "isFar", desc := "(I)Z" } : Jvm.MethodName)) ∈ lw_all := lw_g (lw_at lw_m5 101 rfl) rfl
theorem q1122 : (Jvm.Cond.code ({ cls := "LeftBehindModel", name := "isFar", desc := "(I)Z" } : Jvm.MethodName) prog_21_method_15_code (1 : Nat) (Option.some Jvm.ClassFile.FieldType.boolean)) ∈ lw_all := lw_g (lw_at lw_m5 102 rfl) rfl
theorem q1123 : (Jvm.Cond.constantLong "LeftBehindModel" (67 : Nat) (30 : Int64)) ∈ lw_all := lw_g (lw_at lw_m5 103 rfl) rfl
theorem q1124 : (Jvm.Cond.methodLink "LeftBehindModel" (97 : Nat) ({ cls := "LeftBehindModel", name := "needsAs", desc := "(III)I" } : Jvm.MethodName)) ∈ lw_all := lw_g (lw_at lw_m5 104 rfl) rfl
theorem q1125 : (Jvm.Cond.static ({ cls := "LeftBehindModel", name := "needsAs", desc := "(III)I" } : Jvm.MethodName)) ∈ lw_all := lw_g (lw_at lw_m5 105 rfl) rfl
theorem q1126 : (Jvm.Cond.code ({ cls := "LeftBehindModel", name := "needsAs", desc := "(III)I" } : Jvm.MethodName) prog_21_method_20_code (4 : Nat) (Option.some Jvm.ClassFile.FieldType.int)) ∈ lw_all := lw_g (lw_at lw_m5 106 rfl) rfl
theorem q1128 : (Jvm.Cond.instanceMethod ({ cls := "LeftBehindModel", name := "far", desc := "(I)I" } : Jvm.MethodName)) ∈ lw_all := lw_g (lw_at lw_m5 108 rfl) rfl
theorem q1129 : (Jvm.Cond.selects "LeftBehindModel" ({ cls := "LeftBehindModel", name := "far", desc := "(I)I" } : Jvm.MethodName) ({ cls := "LeftBehindModel", name := "far", desc := "(I)I" } : Jvm.MethodName)) ∈ lw_all := lw_g (lw_at lw_m5 109 rfl) rfl
theorem q1130 : (Jvm.Cond.code ({ cls := "LeftBehindModel", name := "far", desc := "(I)I" } : Jvm.MethodName) prog_21_method_38_code (4 : Nat) (Option.some Jvm.ClassFile.FieldType.int)) ∈ lw_all := lw_g (lw_at lw_m5 110 rfl) rfl
theorem q1131 : (Jvm.Cond.methodLink "LeftBehindModel" (135 : Nat) ({ cls := "LeftBehindModel", name := "canSail", desc := "([III)Z" } : Jvm.MethodName)) ∈ lw_all := lw_g (lw_at lw_m5 111 rfl) rfl
theorem q1132 : (Jvm.Cond.static ({ cls := "LeftBehindModel", name := "canSail", desc := "([III)Z" } : Jvm.MethodName)) ∈ lw_all := lw_g (lw_at lw_m5 112 rfl) rfl
theorem q1133 : (Jvm.Cond.code ({ cls := "LeftBehindModel", name := "canSail", desc := "([III)Z" } : Jvm.MethodName) prog_21_method_24_code (4 : Nat) (Option.some Jvm.ClassFile.FieldType.boolean)) ∈ lw_all := lw_g (lw_at lw_m5 113 rfl) rfl
theorem q1135 : (Jvm.Cond.instanceMethod ({ cls := "LeftBehindModel", name := "behind", desc := "(II)I" } : Jvm.MethodName)) ∈ lw_all := lw_g (lw_at lw_m5 115 rfl) rfl
theorem q1136 : (Jvm.Cond.selects "LeftBehindModel" ({ cls := "LeftBehindModel", name := "behind", desc := "(II)I" } : Jvm.MethodName) ({ cls := "LeftBehindModel", name := "behind", desc := "(II)I" } : Jvm.MethodName)) ∈ lw_all := lw_g (lw_at lw_m5 116 rfl) rfl
theorem q1137 : (Jvm.Cond.code ({ cls := "LeftBehindModel", name := "behind", desc := "(II)I" } : Jvm.MethodName) prog_21_method_40_code (5 : Nat) (Option.some Jvm.ClassFile.FieldType.int)) ∈ lw_all := lw_g (lw_at lw_m5 117 rfl) rfl
theorem q1138 : (Jvm.Cond.constantLong "LeftBehindModel" (139 : Nat) (8 : Int64)) ∈ lw_all := lw_g (lw_at lw_m5 118 rfl) rfl
theorem q1139 : (Jvm.Cond.methodLink "LeftBehindModel" (141 : Nat) ({ cls := "LeftBehindModel", name := "layHand", desc := "()V" } : Jvm.MethodName)) ∈ lw_all := lw_g (lw_at lw_m5 119 rfl) rfl
theorem q1140 : (Jvm.Cond.privateMethod ({ cls := "LeftBehindModel", name := "layHand", desc := "()V" } : Jvm.MethodName)) ∈ lw_tbl := lw_at lw_m5 120 rfl
theorem q1141 : (Jvm.Cond.instanceMethod ({ cls := "LeftBehindModel", name := "layHand", desc := "()V" } : Jvm.MethodName)) ∈ lw_all := lw_g (lw_at lw_m5 121 rfl) rfl
theorem q1142 : (Jvm.Cond.code ({ cls := "LeftBehindModel", name := "layHand", desc := "()V" } : Jvm.MethodName) prog_21_method_39_code (2 : Nat) (Option.none : Option Jvm.ClassFile.FieldType)) ∈ lw_all := lw_g (lw_at lw_m5 122 rfl) rfl
theorem q1144 : (Jvm.Cond.instanceMethod ({ cls := "LeftBehindModel", name := "lasts", desc := "(II)I" } : Jvm.MethodName)) ∈ lw_all := lw_g (lw_at lw_m5 124 rfl) rfl
theorem q1145 : (Jvm.Cond.selects "LeftBehindModel" ({ cls := "LeftBehindModel", name := "lasts", desc := "(II)I" } : Jvm.MethodName) ({ cls := "LeftBehindModel", name := "lasts", desc := "(II)I" } : Jvm.MethodName)) ∈ lw_all := lw_g (lw_at lw_m5 125 rfl) rfl
theorem q1146 : (Jvm.Cond.code ({ cls := "LeftBehindModel", name := "lasts", desc := "(II)I" } : Jvm.MethodName) prog_21_method_41_code (5 : Nat) (Option.some Jvm.ClassFile.FieldType.int)) ∈ lw_all := lw_g (lw_at lw_m5 126 rfl) rfl
theorem q1148 : (Jvm.Cond.instanceMethod ({ cls := "LeftBehindModel", name := "few", desc := "(II)I" } : Jvm.MethodName)) ∈ lw_all := lw_g (lw_at lw_m5 128 rfl) rfl
theorem q1149 : (Jvm.Cond.selects "LeftBehindModel" ({ cls := "LeftBehindModel", name := "few", desc := "(II)I" } : Jvm.MethodName) ({ cls := "LeftBehindModel", name := "few", desc := "(II)I" } : Jvm.MethodName)) ∈ lw_all := lw_g (lw_at lw_m5 129 rfl) rfl
theorem q1150 : (Jvm.Cond.code ({ cls := "LeftBehindModel", name := "few", desc := "(II)I" } : Jvm.MethodName) prog_21_method_43_code (8 : Nat) (Option.some Jvm.ClassFile.FieldType.int)) ∈ lw_all := lw_g (lw_at lw_m5 130 rfl) rfl
theorem q1151 : (Jvm.Cond.constantLong "LeftBehindModel" (144 : Nat) (72 : Int64)) ∈ lw_all := lw_g (lw_at lw_m5 131 rfl) rfl
theorem q1152 : (Jvm.Cond.constant "LeftBehindModel" (146 : Nat) (1000000 : Int32)) ∈ lw_all := lw_g (lw_at lw_m5 132 rfl) rfl
theorem q1153 : (Jvm.Cond.methodLink "LeftBehindModel" (147 : Nat) ({ cls := "LeftBehindModel", name := "ashoreBy", desc := "(I)I" } : Jvm.MethodName)) ∈ lw_all := lw_g (lw_at lw_m5 133 rfl) rfl
theorem q1154 : (Jvm.Cond.privateMethod ({ cls := "LeftBehindModel", name := "ashoreBy", desc := "(I)I" } : Jvm.MethodName)) ∈ lw_tbl := lw_at lw_m5 134 rfl
theorem q1155 : (Jvm.Cond.instanceMethod ({ cls := "LeftBehindModel", name := "ashoreBy", desc := "(I)I" } : Jvm.MethodName)) ∈ lw_all := lw_g (lw_at lw_m5 135 rfl) rfl
theorem q1156 : (Jvm.Cond.code ({ cls := "LeftBehindModel", name := "ashoreBy", desc := "(I)I" } : Jvm.MethodName) prog_21_method_42_code (5 : Nat) (Option.some Jvm.ClassFile.FieldType.int)) ∈ lw_all := lw_g (lw_at lw_m5 136 rfl) rfl
theorem q1158 : (Jvm.Cond.instanceMethod ({ cls := "LeftBehindModel", name := "crew", desc := "(II)I" } : Jvm.MethodName)) ∈ lw_all := lw_g (lw_at lw_m5 138 rfl) rfl
theorem q1159 : (Jvm.Cond.selects "LeftBehindModel" ({ cls := "LeftBehindModel", name := "crew", desc := "(II)I" } : Jvm.MethodName) ({ cls := "LeftBehindModel", name := "crew", desc := "(II)I" } : Jvm.MethodName)) ∈ lw_all := lw_g (lw_at lw_m5 139 rfl) rfl
theorem q1160 : (Jvm.Cond.code ({ cls := "LeftBehindModel", name := "crew", desc := "(II)I" } : Jvm.MethodName) prog_21_method_45_code (8 : Nat) (Option.some Jvm.ClassFile.FieldType.int)) ∈ lw_all := lw_g (lw_at lw_m5 140 rfl) rfl
theorem q1161 : (Jvm.Cond.methodLink "LeftBehindModel" (150 : Nat) ({ cls := "LeftBehindModel", name := "crewBy", desc := "(II)I" } : Jvm.MethodName)) ∈ lw_all := lw_g (lw_at lw_m5 141 rfl) rfl
theorem q1162 : (Jvm.Cond.privateMethod ({ cls := "LeftBehindModel", name := "crewBy", desc := "(II)I" } : Jvm.MethodName)) ∈ lw_tbl := lw_at lw_m5 142 rfl
theorem q1163 : (Jvm.Cond.instanceMethod ({ cls := "LeftBehindModel", name := "crewBy", desc := "(II)I" } : Jvm.MethodName)) ∈ lw_all := lw_g (lw_at lw_m5 143 rfl) rfl
theorem q1164 : (Jvm.Cond.code ({ cls := "LeftBehindModel", name := "crewBy", desc := "(II)I" } : Jvm.MethodName) prog_21_method_44_code (6 : Nat) (Option.some Jvm.ClassFile.FieldType.int)) ∈ lw_all := lw_g (lw_at lw_m5 144 rfl) rfl
theorem q1166 : (Jvm.Cond.instanceMethod ({ cls := "LeftBehindModel", name := "seen", desc := "(IIII)I" } : Jvm.MethodName)) ∈ lw_all := lw_g (lw_at lw_m5 146 rfl) rfl
theorem q1167 : (Jvm.Cond.selects "LeftBehindModel" ({ cls := "LeftBehindModel", name := "seen", desc := "(IIII)I" } : Jvm.MethodName) ({ cls := "LeftBehindModel", name := "seen", desc := "(IIII)I" } : Jvm.MethodName)) ∈ lw_all := lw_g (lw_at lw_m5 147 rfl) rfl
theorem q1168 : (Jvm.Cond.code ({ cls := "LeftBehindModel", name := "seen", desc := "(IIII)I" } : Jvm.MethodName) prog_21_method_47_code (5 : Nat) (Option.some Jvm.ClassFile.FieldType.int)) ∈ lw_all := lw_g (lw_at lw_m5 148 rfl) rfl
theorem q1169 : (Jvm.Cond.constantLong "LeftBehindModel" (154 : Nat) (99 : Int64)) ∈ lw_all := lw_g (lw_at lw_m5 149 rfl) rfl
theorem q1170 : (Jvm.Cond.methodLink "LeftBehindModel" (156 : Nat) ({ cls := "LeftBehindModel", name := "layFour", desc := "(IIIII)V" } : Jvm.MethodName)) ∈ lw_all := lw_g (lw_at lw_m5 150 rfl) rfl
theorem q1171 : (Jvm.Cond.privateMethod ({ cls := "LeftBehindModel", name := "layFour", desc := "(IIIII)V" } : Jvm.MethodName)) ∈ lw_tbl := lw_at lw_m5 151 rfl
theorem q1172 : (Jvm.Cond.instanceMethod ({ cls := "LeftBehindModel", name := "layFour", desc := "(IIIII)V" } : Jvm.MethodName)) ∈ lw_all := lw_g (lw_at lw_m5 152 rfl) rfl
theorem q1173 : (Jvm.Cond.code ({ cls := "LeftBehindModel", name := "layFour", desc := "(IIIII)V" } : Jvm.MethodName) prog_21_method_46_code (6 : Nat) (Option.none : Option Jvm.ClassFile.FieldType)) ∈ lw_all := lw_g (lw_at lw_m5 153 rfl) rfl
theorem q1175 : (Jvm.Cond.instanceMethod ({ cls := "LeftBehindModel", name := "skilled", desc := "(II)I" } : Jvm.MethodName)) ∈ lw_all := lw_g (lw_at lw_m5 155 rfl) rfl
theorem q1176 : (Jvm.Cond.selects "LeftBehindModel" ({ cls := "LeftBehindModel", name := "skilled", desc := "(II)I" } : Jvm.MethodName) ({ cls := "LeftBehindModel", name := "skilled", desc := "(II)I" } : Jvm.MethodName)) ∈ lw_all := lw_g (lw_at lw_m5 156 rfl) rfl
theorem q1177 : (Jvm.Cond.code ({ cls := "LeftBehindModel", name := "skilled", desc := "(II)I" } : Jvm.MethodName) prog_21_method_49_code (7 : Nat) (Option.some Jvm.ClassFile.FieldType.int)) ∈ lw_all := lw_g (lw_at lw_m5 157 rfl) rfl
theorem q1178 : (Jvm.Cond.constantLong "LeftBehindModel" (160 : Nat) (2 : Int64)) ∈ lw_all := lw_g (lw_at lw_m5 158 rfl) rfl
theorem q1179 : (Jvm.Cond.methodLink "LeftBehindModel" (162 : Nat) ({ cls := "LeftBehindModel", name := "isSkilledBy", desc := "(II)Z" } : Jvm.MethodName)) ∈ lw_all := lw_g (lw_at lw_m5 159 rfl) rfl
theorem q1180 : (Jvm.Cond.privateMethod ({ cls := "LeftBehindModel", name := "isSkilledBy", desc := "(II)Z" } : Jvm.MethodName)) ∈ lw_tbl := lw_at lw_m5 160 rfl
theorem q1181 : (Jvm.Cond.instanceMethod ({ cls := "LeftBehindModel", name := "isSkilledBy", desc := "(II)Z" } : Jvm.MethodName)) ∈ lw_all := lw_g (lw_at lw_m5 161 rfl) rfl
theorem q1182 : (Jvm.Cond.code ({ cls := "LeftBehindModel", name := "isSkilledBy", desc := "(II)Z" } : Jvm.MethodName) prog_21_method_48_code (7 : Nat) (Option.some Jvm.ClassFile.FieldType.boolean)) ∈ lw_all := lw_g (lw_at lw_m5 162 rfl) rfl
theorem q1184 : (Jvm.Cond.instanceMethod ({ cls := "LeftBehindModel", name := "tell", desc := "(I)I" } : Jvm.MethodName)) ∈ lw_all := lw_g (lw_at lw_m5 164 rfl) rfl
theorem q1185 : (Jvm.Cond.selects "LeftBehindModel" ({ cls := "LeftBehindModel", name := "tell", desc := "(I)I" } : Jvm.MethodName) ({ cls := "LeftBehindModel", name := "tell", desc := "(I)I" } : Jvm.MethodName)) ∈ lw_all := lw_g (lw_at lw_m5 165 rfl) rfl
theorem q1186 : (Jvm.Cond.code ({ cls := "LeftBehindModel", name := "tell", desc := "(I)I" } : Jvm.MethodName) prog_21_method_50_code (10 : Nat) (Option.some Jvm.ClassFile.FieldType.int)) ∈ lw_all := lw_g (lw_at lw_m5 166 rfl) rfl
theorem q1188 : (Jvm.Cond.instanceMethod ({ cls := "LeftBehindModel", name := "note", desc := "(IIII)I" } : Jvm.MethodName)) ∈ lw_all := lw_g (lw_at lw_m5 168 rfl) rfl
theorem q1189 : (Jvm.Cond.selects "LeftBehindModel" ({ cls := "LeftBehindModel", name := "note", desc := "(IIII)I" } : Jvm.MethodName) ({ cls := "LeftBehindModel", name := "note", desc := "(IIII)I" } : Jvm.MethodName)) ∈ lw_all := lw_g (lw_at lw_m5 169 rfl) rfl
theorem q1190 : (Jvm.Cond.code ({ cls := "LeftBehindModel", name := "note", desc := "(IIII)I" } : Jvm.MethodName) prog_21_method_51_code (5 : Nat) (Option.some Jvm.ClassFile.FieldType.int)) ∈ lw_all := lw_g (lw_at lw_m5 170 rfl) rfl
theorem q1192 : (Jvm.Cond.instanceMethod ({ cls := "LeftBehindModel", name := "mark", desc := "(IIII)I" } : Jvm.MethodName)) ∈ lw_all := lw_g (lw_at lw_m5 172 rfl) rfl
theorem q1193 : (Jvm.Cond.selects "LeftBehindModel" ({ cls := "LeftBehindModel", name := "mark", desc := "(IIII)I" } : Jvm.MethodName) ({ cls := "LeftBehindModel", name := "mark", desc := "(IIII)I" } : Jvm.MethodName)) ∈ lw_all := lw_g (lw_at lw_m5 173 rfl) rfl
theorem q1194 : (Jvm.Cond.code ({ cls := "LeftBehindModel", name := "mark", desc := "(IIII)I" } : Jvm.MethodName) prog_21_method_52_code (5 : Nat) (Option.some Jvm.ClassFile.FieldType.int)) ∈ lw_all := lw_g (lw_at lw_m5 174 rfl) rfl
theorem q1195 : (Jvm.Cond.constantLong "LeftBehindModel" (166 : Nat) (40 : Int64)) ∈ lw_all := lw_g (lw_at lw_m5 175 rfl) rfl
theorem q1197 : (Jvm.Cond.instanceMethod ({ cls := "LeftBehindModel", name := "forget", desc := "(I)I" } : Jvm.MethodName)) ∈ lw_all := lw_g (lw_at lw_m5 177 rfl) rfl
theorem q1198 : (Jvm.Cond.selects "LeftBehindModel" ({ cls := "LeftBehindModel", name := "forget", desc := "(I)I" } : Jvm.MethodName) ({ cls := "LeftBehindModel", name := "forget", desc := "(I)I" } : Jvm.MethodName)) ∈ lw_all := lw_g (lw_at lw_m5 178 rfl) rfl
theorem q1199 : (Jvm.Cond.code ({ cls := "LeftBehindModel", name := "forget", desc := "(I)I" } : Jvm.MethodName) prog_21_method_53_code (3 : Nat) (Option.some Jvm.ClassFile.FieldType.int)) ∈ lw_all := lw_g (lw_at lw_m5 179 rfl) rfl
theorem q1201 : (Jvm.Cond.instanceMethod ({ cls := "LeftBehindModel", name := "is", desc := "(I)I" } : Jvm.MethodName)) ∈ lw_all := lw_g (lw_at lw_m5 181 rfl) rfl
theorem q1202 : (Jvm.Cond.selects "LeftBehindModel" ({ cls := "LeftBehindModel", name := "is", desc := "(I)I" } : Jvm.MethodName) ({ cls := "LeftBehindModel", name := "is", desc := "(I)I" } : Jvm.MethodName)) ∈ lw_all := lw_g (lw_at lw_m5 182 rfl) rfl
theorem q1203 : (Jvm.Cond.code ({ cls := "LeftBehindModel", name := "is", desc := "(I)I" } : Jvm.MethodName) prog_21_method_58_code (2 : Nat) (Option.some Jvm.ClassFile.FieldType.int)) ∈ lw_all := lw_g (lw_at lw_m5 183 rfl) rfl
theorem q1204 : (Jvm.Cond.methodLink "LeftBehindModel" (175 : Nat) ({ cls := "LeftBehindModel", name := "kindsOfShip", desc := "(I)I" } : Jvm.MethodName)) ∈ lw_all := lw_g (lw_at lw_m5 184 rfl) rfl
theorem q1205 : (Jvm.Cond.privateMethod ({ cls := "LeftBehindModel", name := "kindsOfShip", desc := "(I)I" } : Jvm.MethodName)) ∈ lw_tbl := lw_at lw_m5 185 rfl
theorem q1206 : (Jvm.Cond.instanceMethod ({ cls := "LeftBehindModel", name := "kindsOfShip", desc := "(I)I" } : Jvm.MethodName)) ∈ lw_all := lw_g (lw_at lw_m5 186 rfl) rfl
theorem q1207 : (Jvm.Cond.code ({ cls := "LeftBehindModel", name := "kindsOfShip", desc := "(I)I" } : Jvm.MethodName) prog_21_method_55_code (2 : Nat) (Option.some Jvm.ClassFile.FieldType.int)) ∈ lw_all := lw_g (lw_at lw_m5 187 rfl) rfl
theorem q1208 : (Jvm.Cond.methodLink "LeftBehindModel" (168 : Nat) ({ cls := "LeftBehindModel", name := "kindsBy", desc := "(IIIZ)I" } : Jvm.MethodName)) ∈ lw_all := lw_g (lw_at lw_m5 188 rfl) rfl
theorem q1209 : (Jvm.Cond.privateMethod ({ cls := "LeftBehindModel", name := "kindsBy", desc := "(IIIZ)I" } : Jvm.MethodName)) ∈ lw_tbl := lw_at lw_m5 189 rfl
theorem q1210 : (Jvm.Cond.instanceMethod ({ cls := "LeftBehindModel", name := "kindsBy", desc := "(IIIZ)I" } : Jvm.MethodName)) ∈ lw_all := lw_g (lw_at lw_m5 190 rfl) rfl
theorem q1211 : (Jvm.Cond.code ({ cls := "LeftBehindModel", name := "kindsBy", desc := "(IIIZ)I" } : Jvm.MethodName) prog_21_method_54_code (11 : Nat) (Option.some Jvm.ClassFile.FieldType.int)) ∈ lw_all := lw_g (lw_at lw_m5 191 rfl) rfl
theorem q1213 : (Jvm.Cond.instanceMethod ({ cls := "LeftBehindModel", name := "look", desc := "(I)I" } : Jvm.MethodName)) ∈ lw_all := lw_g (lw_at lw_m5 193 rfl) rfl
theorem q1214 : (Jvm.Cond.selects "LeftBehindModel" ({ cls := "LeftBehindModel", name := "look", desc := "(I)I" } : Jvm.MethodName) ({ cls := "LeftBehindModel", name := "look", desc := "(I)I" } : Jvm.MethodName)) ∈ lw_all := lw_g (lw_at lw_m5 194 rfl) rfl
theorem q1215 : (Jvm.Cond.code ({ cls := "LeftBehindModel", name := "look", desc := "(I)I" } : Jvm.MethodName) prog_21_method_59_code (8 : Nat) (Option.some Jvm.ClassFile.FieldType.int)) ∈ lw_all := lw_g (lw_at lw_m5 195 rfl) rfl
theorem q1216 : (Jvm.Cond.methodLink "LeftBehindModel" (178 : Nat) ({ cls := "LeftBehindModel", name := "mostAlike", desc := "(I)I" } : Jvm.MethodName)) ∈ lw_all := lw_g (lw_at lw_m5 196 rfl) rfl
theorem q1217 : (Jvm.Cond.privateMethod ({ cls := "LeftBehindModel", name := "mostAlike", desc := "(I)I" } : Jvm.MethodName)) ∈ lw_tbl := lw_at lw_m5 197 rfl
theorem q1218 : (Jvm.Cond.instanceMethod ({ cls := "LeftBehindModel", name := "mostAlike", desc := "(I)I" } : Jvm.MethodName)) ∈ lw_all := lw_g (lw_at lw_m5 198 rfl) rfl
theorem q1219 : (Jvm.Cond.code ({ cls := "LeftBehindModel", name := "mostAlike", desc := "(I)I" } : Jvm.MethodName) prog_21_method_57_code (6 : Nat) (Option.some Jvm.ClassFile.FieldType.int)) ∈ lw_all := lw_g (lw_at lw_m5 199 rfl) rfl
theorem q1220 : (Jvm.Cond.methodLink "LeftBehindModel" (172 : Nat) ({ cls := "LeftBehindModel", name := "has", desc := "(II)Z" } : Jvm.MethodName)) ∈ lw_all := lw_g (lw_at lw_m5 200 rfl) rfl
theorem q1221 : (Jvm.Cond.static ({ cls := "LeftBehindModel", name := "has", desc := "(II)Z" } : Jvm.MethodName)) ∈ lw_all := lw_g (lw_at lw_m5 201 rfl) rfl
theorem q1222 : (Jvm.Cond.code ({ cls := "LeftBehindModel", name := "has", desc := "(II)Z" } : Jvm.MethodName) prog_21_method_7_code (2 : Nat) (Option.some Jvm.ClassFile.FieldType.boolean)) ∈ lw_all := lw_g (lw_at lw_m5 202 rfl) rfl
theorem q1224 : (Jvm.Cond.instanceMethod ({ cls := "LeftBehindModel", name := "kinds", desc := "(I)I" } : Jvm.MethodName)) ∈ lw_all := lw_g (lw_at lw_m5 204 rfl) rfl
theorem q1225 : (Jvm.Cond.selects "LeftBehindModel" ({ cls := "LeftBehindModel", name := "kinds", desc := "(I)I" } : Jvm.MethodName) ({ cls := "LeftBehindModel", name := "kinds", desc := "(I)I" } : Jvm.MethodName)) ∈ lw_all := lw_g (lw_at lw_m5 205 rfl) rfl
theorem q1226 : (Jvm.Cond.code ({ cls := "LeftBehindModel", name := "kinds", desc := "(I)I" } : Jvm.MethodName) prog_21_method_60_code (2 : Nat) (Option.some Jvm.ClassFile.FieldType.int)) ∈ lw_all := lw_g (lw_at lw_m5 206 rfl) rfl
theorem q1227 : (Jvm.Cond.methodLink "LeftBehindModel" (181 : Nat) ({ cls := "LeftBehindModel", name := "kindsOfMan", desc := "(I)I" } : Jvm.MethodName)) ∈ lw_all := lw_g (lw_at lw_m5 207 rfl) rfl
theorem q1228 : (Jvm.Cond.privateMethod ({ cls := "LeftBehindModel", name := "kindsOfMan", desc := "(I)I" } : Jvm.MethodName)) ∈ lw_tbl := lw_at lw_m5 208 rfl
theorem q1229 : (Jvm.Cond.instanceMethod ({ cls := "LeftBehindModel", name := "kindsOfMan", desc := "(I)I" } : Jvm.MethodName)) ∈ lw_all := lw_g (lw_at lw_m5 209 rfl) rfl
theorem q1230 : (Jvm.Cond.code ({ cls := "LeftBehindModel", name := "kindsOfMan", desc := "(I)I" } : Jvm.MethodName) prog_21_method_56_code (2 : Nat) (Option.some Jvm.ClassFile.FieldType.int)) ∈ lw_all := lw_g (lw_at lw_m5 210 rfl) rfl
theorem q1232 : (Jvm.Cond.instanceMethod ({ cls := "LeftBehindModel", name := "ask", desc := "(I)I" } : Jvm.MethodName)) ∈ lw_all := lw_g (lw_at lw_m5 212 rfl) rfl
theorem q1233 : (Jvm.Cond.selects "LeftBehindModel" ({ cls := "LeftBehindModel", name := "ask", desc := "(I)I" } : Jvm.MethodName) ({ cls := "LeftBehindModel", name := "ask", desc := "(I)I" } : Jvm.MethodName)) ∈ lw_all := lw_g (lw_at lw_m5 213 rfl) rfl
theorem q1234 : (Jvm.Cond.code ({ cls := "LeftBehindModel", name := "ask", desc := "(I)I" } : Jvm.MethodName) prog_21_method_61_code (7 : Nat) (Option.some Jvm.ClassFile.FieldType.int)) ∈ lw_all := lw_g (lw_at lw_m5 214 rfl) rfl
theorem q1236 : (Jvm.Cond.instanceMethod ({ cls := "LeftBehindModel", name := "water", desc := "(III)I" } : Jvm.MethodName)) ∈ lw_all := lw_g (lw_at lw_m5 216 rfl) rfl
theorem q1237 : (Jvm.Cond.selects "LeftBehindModel" ({ cls := "LeftBehindModel", name := "water", desc := "(III)I" } : Jvm.MethodName) ({ cls := "LeftBehindModel", name := "water", desc := "(III)I" } : Jvm.MethodName)) ∈ lw_all := lw_g (lw_at lw_m5 217 rfl) rfl
theorem q1238 : (Jvm.Cond.code ({ cls := "LeftBehindModel", name := "water", desc := "(III)I" } : Jvm.MethodName) prog_21_method_64_code (13 : Nat) (Option.some Jvm.ClassFile.FieldType.int)) ∈ lw_all := lw_g (lw_at lw_m5 218 rfl) rfl
theorem q1239 : (Jvm.Cond.methodLink "LeftBehindModel" (184 : Nat) ({ cls := "LeftBehindModel", name := "canBehind", desc := "(II)Z" } : Jvm.MethodName)) ∈ lw_all := lw_g (lw_at lw_m5 219 rfl) rfl
theorem q1240 : (Jvm.Cond.privateMethod ({ cls := "LeftBehindModel", name := "canBehind", desc := "(II)Z" } : Jvm.MethodName)) ∈ lw_tbl := lw_at lw_m5 220 rfl
theorem q1241 : (Jvm.Cond.instanceMethod ({ cls := "LeftBehindModel", name := "canBehind", desc := "(II)Z" } : Jvm.MethodName)) ∈ lw_all := lw_g (lw_at lw_m5 221 rfl) rfl
theorem q1242 : (Jvm.Cond.code ({ cls := "LeftBehindModel", name := "canBehind", desc := "(II)Z" } : Jvm.MethodName) prog_21_method_62_code (4 : Nat) (Option.some Jvm.ClassFile.FieldType.boolean)) ∈ lw_all := lw_g (lw_at lw_m5 222 rfl) rfl
theorem q1243 : (Jvm.Cond.methodLink "LeftBehindModel" (187 : Nat) ({ cls := "LeftBehindModel", name := "getsBy", desc := "(IIZZ)I" } : Jvm.MethodName)) ∈ lw_all := lw_g (lw_at lw_m5 223 rfl) rfl
theorem q1244 : (Jvm.Cond.static ({ cls := "LeftBehindModel", name := "getsBy", desc := "(IIZZ)I" } : Jvm.MethodName)) ∈ lw_all := lw_g (lw_at lw_m5 224 rfl) rfl
theorem q1245 : (Jvm.Cond.code ({ cls := "LeftBehindModel", name := "getsBy", desc := "(IIZZ)I" } : Jvm.MethodName) prog_21_method_63_code (5 : Nat) (Option.some Jvm.ClassFile.FieldType.int)) ∈ lw_all := lw_g (lw_at lw_m5 225 rfl) rfl
theorem q1247 : (Jvm.Cond.instanceMethod ({ cls := "LeftBehindModel", name := "lots", desc := "(II)I" } : Jvm.MethodName)) ∈ lw_all := lw_g (lw_at lw_m5 227 rfl) rfl
theorem q1248 : (Jvm.Cond.selects "LeftBehindModel" ({ cls := "LeftBehindModel", name := "lots", desc := "(II)I" } : Jvm.MethodName) ({ cls := "LeftBehindModel", name := "lots", desc := "(II)I" } : Jvm.MethodName)) ∈ lw_all := lw_g (lw_at lw_m5 228 rfl) rfl
theorem q1249 : (Jvm.Cond.code ({ cls := "LeftBehindModel", name := "lots", desc := "(II)I" } : Jvm.MethodName) prog_21_method_66_code (5 : Nat) (Option.some Jvm.ClassFile.FieldType.int)) ∈ lw_all := lw_g (lw_at lw_m5 229 rfl) rfl
theorem q1250 : (Jvm.Cond.methodLink "LeftBehindModel" (194 : Nat) ({ cls := "LeftBehindModel", name := "fraction", desc := "(JJ)V" } : Jvm.MethodName)) ∈ lw_all := lw_g (lw_at lw_m5 230 rfl) rfl
theorem q1251 : (Jvm.Cond.privateMethod ({ cls := "LeftBehindModel", name := "fraction", desc := "(JJ)V" } : Jvm.MethodName)) ∈ lw_tbl := lw_at lw_m5 231 rfl
theorem q1252 : (Jvm.Cond.instanceMethod ({ cls := "LeftBehindModel", name := "fraction", desc := "(JJ)V" } : Jvm.MethodName)) ∈ lw_all := lw_g (lw_at lw_m5 232 rfl) rfl
theorem q1253 : (Jvm.Cond.code ({ cls := "LeftBehindModel", name := "fraction", desc := "(JJ)V" } : Jvm.MethodName) prog_21_method_65_code (11 : Nat) (Option.none : Option Jvm.ClassFile.FieldType)) ∈ lw_all := lw_g (lw_at lw_m5 233 rfl) rfl
theorem q1255 : (Jvm.Cond.instanceMethod ({ cls := "LeftBehindModel", name := "centuries", desc := "(II)I" } : Jvm.MethodName)) ∈ lw_all := lw_g (lw_at lw_m5 235 rfl) rfl
theorem q1256 : (Jvm.Cond.selects "LeftBehindModel" ({ cls := "LeftBehindModel", name := "centuries", desc := "(II)I" } : Jvm.MethodName) ({ cls := "LeftBehindModel", name := "centuries", desc := "(II)I" } : Jvm.MethodName)) ∈ lw_all := lw_g (lw_at lw_m5 236 rfl) rfl
theorem q1257 : (Jvm.Cond.code ({ cls := "LeftBehindModel", name := "centuries", desc := "(II)I" } : Jvm.MethodName) prog_21_method_67_code (9 : Nat) (Option.some Jvm.ClassFile.FieldType.int)) ∈ lw_all := lw_g (lw_at lw_m5 237 rfl) rfl
theorem q1258 : (Jvm.Cond.constantLong "LeftBehindModel" (198 : Nat) (999999 : Int64)) ∈ lw_all := lw_g (lw_at lw_m5 238 rfl) rfl
theorem q1259 : (Jvm.Cond.constantLong "LeftBehindModel" (200 : Nat) (60 : Int64)) ∈ lw_all := lw_g (lw_at lw_m5 239 rfl) rfl
theorem q1260 : (Jvm.Cond.constantLong "LeftBehindModel" (202 : Nat) (1103515245 : Int64)) ∈ lw_all := lw_g (lw_at lw_m6 0 rfl) rfl
theorem q1261 : (Jvm.Cond.constantLong "LeftBehindModel" (204 : Nat) (12345 : Int64)) ∈ lw_all := lw_g (lw_at lw_m6 1 rfl) rfl
theorem q1262 : (Jvm.Cond.constantLong "LeftBehindModel" (206 : Nat) (2147483648 : Int64)) ∈ lw_all := lw_g (lw_at lw_m6 2 rfl) rfl
theorem q1263 : (Jvm.Cond.constantLong "LeftBehindModel" (208 : Nat) (65536 : Int64)) ∈ lw_all := lw_g (lw_at lw_m6 3 rfl) rfl
theorem q1264 : (Jvm.Cond.constantLong "LeftBehindModel" (210 : Nat) (1048576 : Int64)) ∈ lw_all := lw_g (lw_at lw_m6 4 rfl) rfl
theorem q1265 : (Jvm.Cond.constantLong "LeftBehindModel" (212 : Nat) (16 : Int64)) ∈ lw_all := lw_g (lw_at lw_m6 5 rfl) rfl
theorem q1267 : (Jvm.Cond.instanceMethod ({ cls := "LeftBehindModel", name := "type", desc := "(I)I" } : Jvm.MethodName)) ∈ lw_all := lw_g (lw_at lw_m6 7 rfl) rfl
theorem q1268 : (Jvm.Cond.selects "LeftBehindModel" ({ cls := "LeftBehindModel", name := "type", desc := "(I)I" } : Jvm.MethodName) ({ cls := "LeftBehindModel", name := "type", desc := "(I)I" } : Jvm.MethodName)) ∈ lw_all := lw_g (lw_at lw_m6 8 rfl) rfl
theorem q1269 : (Jvm.Cond.code ({ cls := "LeftBehindModel", name := "type", desc := "(I)I" } : Jvm.MethodName) prog_21_method_68_code (2 : Nat) (Option.some Jvm.ClassFile.FieldType.int)) ∈ lw_all := lw_g (lw_at lw_m6 9 rfl) rfl
theorem q1270 : (Jvm.Cond.constantLong "LeftBehindModel" (214 : Nat) (127 : Int64)) ∈ lw_all := lw_g (lw_at lw_m6 10 rfl) rfl
theorem q1272 : (Jvm.Cond.instanceMethod ({ cls := "LeftBehindModel", name := "clear", desc := "()I" } : Jvm.MethodName)) ∈ lw_all := lw_g (lw_at lw_m6 12 rfl) rfl
theorem q1273 : (Jvm.Cond.selects "LeftBehindModel" ({ cls := "LeftBehindModel", name := "clear", desc := "()I" } : Jvm.MethodName) ({ cls := "LeftBehindModel", name := "clear", desc := "()I" } : Jvm.MethodName)) ∈ lw_all := lw_g (lw_at lw_m6 13 rfl) rfl
theorem q1274 : (Jvm.Cond.code ({ cls := "LeftBehindModel", name := "clear", desc := "()I" } : Jvm.MethodName) prog_21_method_69_code (2 : Nat) (Option.some Jvm.ClassFile.FieldType.int)) ∈ lw_all := lw_g (lw_at lw_m6 14 rfl) rfl
theorem q1276 : (Jvm.Cond.instanceMethod ({ cls := "LeftBehindModel", name := "read", desc := "()I" } : Jvm.MethodName)) ∈ lw_all := lw_g (lw_at lw_m6 16 rfl) rfl
theorem q1277 : (Jvm.Cond.selects "LeftBehindModel" ({ cls := "LeftBehindModel", name := "read", desc := "()I" } : Jvm.MethodName) ({ cls := "LeftBehindModel", name := "read", desc := "()I" } : Jvm.MethodName)) ∈ lw_all := lw_g (lw_at lw_m6 17 rfl) rfl
theorem q1278 : (Jvm.Cond.code ({ cls := "LeftBehindModel", name := "read", desc := "()I" } : Jvm.MethodName) prog_21_method_81_code (3 : Nat) (Option.some Jvm.ClassFile.FieldType.int)) ∈ lw_all := lw_g (lw_at lw_m6 18 rfl) rfl
theorem q1279 : (Jvm.Cond.methodLink "LeftBehindModel" (246 : Nat) ({ cls := "LeftBehindModel", name := "lookAt", desc := "(I)V" } : Jvm.MethodName)) ∈ lw_all := lw_g (lw_at lw_m6 19 rfl) rfl
theorem q1280 : (Jvm.Cond.privateMethod ({ cls := "LeftBehindModel", name := "lookAt", desc := "(I)V" } : Jvm.MethodName)) ∈ lw_tbl := lw_at lw_m6 20 rfl
theorem q1281 : (Jvm.Cond.instanceMethod ({ cls := "LeftBehindModel", name := "lookAt", desc := "(I)V" } : Jvm.MethodName)) ∈ lw_all := lw_g (lw_at lw_m6 21 rfl) rfl
theorem q1282 : (Jvm.Cond.code ({ cls := "LeftBehindModel", name := "lookAt", desc := "(I)V" } : Jvm.MethodName) prog_21_method_72_code (5 : Nat) (Option.none : Option Jvm.ClassFile.FieldType)) ∈ lw_all := lw_g (lw_at lw_m6 22 rfl) rfl
theorem q1283 : (Jvm.Cond.methodLink "LeftBehindModel" (240 : Nat) ({ cls := "LeftBehindModel", name := "isSmall", desc := "(I)Z" } : Jvm.MethodName)) ∈ lw_all := lw_g (lw_at lw_m6 23 rfl) rfl
theorem q1284 : (Jvm.Cond.static ({ cls := "LeftBehindModel", name := "isSmall", desc := "(I)Z" } : Jvm.MethodName)) ∈ lw_all := lw_g (lw_at lw_m6 24 rfl) rfl
theorem q1285 : (Jvm.Cond.code ({ cls := "LeftBehindModel", name := "isSmall", desc := "(I)Z" } : Jvm.MethodName) prog_21_method_70_code (1 : Nat) (Option.some Jvm.ClassFile.FieldType.boolean)) ∈ lw_all := lw_g (lw_at lw_m6 25 rfl) rfl
theorem q1286 : (Jvm.Cond.constantLong "LeftBehindModel" (220 : Nat) (97 : Int64)) ∈ lw_all := lw_g (lw_at lw_m6 26 rfl) rfl
theorem q1287 : (Jvm.Cond.constantLong "LeftBehindModel" (222 : Nat) (122 : Int64)) ∈ lw_all := lw_g (lw_at lw_m6 27 rfl) rfl
theorem q1288 : (Jvm.Cond.methodLink "LeftBehindModel" (243 : Nat) ({ cls := "LeftBehindModel", name := "isFigure", desc := "(I)Z" } : Jvm.MethodName)) ∈ lw_all := lw_g (lw_at lw_m6 28 rfl) rfl
theorem q1289 : (Jvm.Cond.static ({ cls := "LeftBehindModel", name := "isFigure", desc := "(I)Z" } : Jvm.MethodName)) ∈ lw_all := lw_g (lw_at lw_m6 29 rfl) rfl
theorem q1290 : (Jvm.Cond.code ({ cls := "LeftBehindModel", name := "isFigure", desc := "(I)Z" } : Jvm.MethodName) prog_21_method_71_code (1 : Nat) (Option.some Jvm.ClassFile.FieldType.boolean)) ∈ lw_all := lw_g (lw_at lw_m6 30 rfl) rfl
theorem q1291 : (Jvm.Cond.constantLong "LeftBehindModel" (224 : Nat) (48 : Int64)) ∈ lw_all := lw_g (lw_at lw_m6 31 rfl) rfl
theorem q1292 : (Jvm.Cond.constantLong "LeftBehindModel" (226 : Nat) (57 : Int64)) ∈ lw_all := lw_g (lw_at lw_m6 32 rfl) rfl
theorem q1293 : (Jvm.Cond.methodLink "LeftBehindModel" (257 : Nat) ({ cls := "LeftBehindModel", name := "spells", desc := "(IIIIIII)Z" } : Jvm.MethodName)) ∈ lw_all := lw_g (lw_at lw_m6 33 rfl) rfl
theorem q1294 : (Jvm.Cond.privateMethod ({ cls := "LeftBehindModel", name := "spells", desc := "(IIIIIII)Z" } : Jvm.MethodName)) ∈ lw_tbl := lw_at lw_m6 34 rfl
theorem q1295 : (Jvm.Cond.instanceMethod ({ cls := "LeftBehindModel", name := "spells", desc := "(IIIIIII)Z" } : Jvm.MethodName)) ∈ lw_all := lw_g (lw_at lw_m6 35 rfl) rfl
theorem q1296 : (Jvm.Cond.code ({ cls := "LeftBehindModel", name := "spells", desc := "(IIIIIII)Z" } : Jvm.MethodName) prog_21_method_74_code (10 : Nat) (Option.some Jvm.ClassFile.FieldType.boolean)) ∈ lw_all := lw_g (lw_at lw_m6 36 rfl) rfl
theorem q1297 : (Jvm.Cond.methodLink "LeftBehindModel" (250 : Nat) ({ cls := "LeftBehindModel", name := "goBehind", desc := "()V" } : Jvm.MethodName)) ∈ lw_all := lw_g (lw_at lw_m6 37 rfl) rfl
theorem q1298 : (Jvm.Cond.privateMethod ({ cls := "LeftBehindModel", name := "goBehind", desc := "()V" } : Jvm.MethodName)) ∈ lw_tbl := lw_at lw_m6 38 rfl
theorem q1299 : (Jvm.Cond.instanceMethod ({ cls := "LeftBehindModel", name := "goBehind", desc := "()V" } : Jvm.MethodName)) ∈ lw_all := lw_g (lw_at lw_m6 39 rfl) rfl
theorem q1300 : (Jvm.Cond.code ({ cls := "LeftBehindModel", name := "goBehind", desc := "()V" } : Jvm.MethodName) prog_21_method_73_code (1 : Nat) (Option.none : Option Jvm.ClassFile.FieldType)) ∈ lw_all := lw_g (lw_at lw_m6 40 rfl) rfl
theorem q1301 : (Jvm.Cond.methodLink "LeftBehindModel" (274 : Nat) ({ cls := "LeftBehindModel", name := "takesItem", desc := "()Z" } : Jvm.MethodName)) ∈ lw_all := lw_g (lw_at lw_m6 41 rfl) rfl
theorem q1302 : (Jvm.Cond.privateMethod ({ cls := "LeftBehindModel", name := "takesItem", desc := "()Z" } : Jvm.MethodName)) ∈ lw_tbl := lw_at lw_m6 42 rfl
theorem q1303 : (Jvm.Cond.instanceMethod ({ cls := "LeftBehindModel", name := "takesItem", desc := "()Z" } : Jvm.MethodName)) ∈ lw_all := lw_g (lw_at lw_m6 43 rfl) rfl
theorem q1304 : (Jvm.Cond.code ({ cls := "LeftBehindModel", name := "takesItem", desc := "()Z" } : Jvm.MethodName) prog_21_method_80_code (1 : Nat) (Option.some Jvm.ClassFile.FieldType.boolean)) ∈ lw_all := lw_g (lw_at lw_m6 44 rfl) rfl
theorem q1305 : (Jvm.Cond.methodLink "LeftBehindModel" (261 : Nat) ({ cls := "LeftBehindModel", name := "takesShip", desc := "()Z" } : Jvm.MethodName)) ∈ lw_all := lw_g (lw_at lw_m6 45 rfl) rfl
theorem q1306 : (Jvm.Cond.privateMethod ({ cls := "LeftBehindModel", name := "takesShip", desc := "()Z" } : Jvm.MethodName)) ∈ lw_tbl := lw_at lw_m6 46 rfl
theorem q1307 : (Jvm.Cond.instanceMethod ({ cls := "LeftBehindModel", name := "takesShip", desc := "()Z" } : Jvm.MethodName)) ∈ lw_all := lw_g (lw_at lw_m6 47 rfl) rfl
theorem q1308 : (Jvm.Cond.code ({ cls := "LeftBehindModel", name := "takesShip", desc := "()Z" } : Jvm.MethodName) prog_21_method_76_code (1 : Nat) (Option.some Jvm.ClassFile.FieldType.boolean)) ∈ lw_all := lw_g (lw_at lw_m6 48 rfl) rfl
theorem q1309 : (Jvm.Cond.methodLink "LeftBehindModel" (253 : Nat) ({ cls := "LeftBehindModel", name := "takes", desc := "(III)Z" } : Jvm.MethodName)) ∈ lw_all := lw_g (lw_at lw_m6 49 rfl) rfl
theorem q1310 : (Jvm.Cond.privateMethod ({ cls := "LeftBehindModel", name := "takes", desc := "(III)Z" } : Jvm.MethodName)) ∈ lw_tbl := lw_at lw_m6 50 rfl
theorem q1311 : (Jvm.Cond.instanceMethod ({ cls := "LeftBehindModel", name := "takes", desc := "(III)Z" } : Jvm.MethodName)) ∈ lw_all := lw_g (lw_at lw_m6 51 rfl) rfl
theorem q1312 : (Jvm.Cond.code ({ cls := "LeftBehindModel", name := "takes", desc := "(III)Z" } : Jvm.MethodName) prog_21_method_75_code (4 : Nat) (Option.some Jvm.ClassFile.FieldType.boolean)) ∈ lw_all := lw_g (lw_at lw_m6 52 rfl) rfl
theorem q1313 : (Jvm.Cond.methodLink "LeftBehindModel" (265 : Nat) ({ cls := "LeftBehindModel", name := "takesMan", desc := "()Z" } : Jvm.MethodName)) ∈ lw_all := lw_g (lw_at lw_m6 53 rfl) rfl
theorem q1314 : (Jvm.Cond.privateMethod ({ cls := "LeftBehindModel", name := "takesMan", desc := "()Z" } : Jvm.MethodName)) ∈ lw_tbl := lw_at lw_m6 54 rfl
theorem q1315 : (Jvm.Cond.instanceMethod ({ cls := "LeftBehindModel", name := "takesMan", desc := "()Z" } : Jvm.MethodName)) ∈ lw_all := lw_g (lw_at lw_m6 55 rfl) rfl
theorem q1316 : (Jvm.Cond.code ({ cls := "LeftBehindModel", name := "takesMan", desc := "()Z" } : Jvm.MethodName) prog_21_method_77_code (1 : Nat) (Option.some Jvm.ClassFile.FieldType.boolean)) ∈ lw_all := lw_g (lw_at lw_m6 56 rfl) rfl
theorem q1317 : (Jvm.Cond.methodLink "LeftBehindModel" (268 : Nat) ({ cls := "LeftBehindModel", name := "takesCall", desc := "()Z" } : Jvm.MethodName)) ∈ lw_all := lw_g (lw_at lw_m6 57 rfl) rfl
theorem q1318 : (Jvm.Cond.privateMethod ({ cls := "LeftBehindModel", name := "takesCall", desc := "()Z" } : Jvm.MethodName)) ∈ lw_tbl := lw_at lw_m6 58 rfl
theorem q1319 : (Jvm.Cond.instanceMethod ({ cls := "LeftBehindModel", name := "takesCall", desc := "()Z" } : Jvm.MethodName)) ∈ lw_all := lw_g (lw_at lw_m6 59 rfl) rfl
theorem q1320 : (Jvm.Cond.code ({ cls := "LeftBehindModel", name := "takesCall", desc := "()Z" } : Jvm.MethodName) prog_21_method_78_code (2 : Nat) (Option.some Jvm.ClassFile.FieldType.boolean)) ∈ lw_all := lw_g (lw_at lw_m6 60 rfl) rfl
theorem q1321 : (Jvm.Cond.methodLink "LeftBehindModel" (271 : Nat) ({ cls := "LeftBehindModel", name := "takesBoard", desc := "()Z" } : Jvm.MethodName)) ∈ lw_all := lw_g (lw_at lw_m6 61 rfl) rfl
theorem q1322 : (Jvm.Cond.privateMethod ({ cls := "LeftBehindModel", name := "takesBoard", desc := "()Z" } : Jvm.MethodName)) ∈ lw_tbl := lw_at lw_m6 62 rfl
theorem q1323 : (Jvm.Cond.instanceMethod ({ cls := "LeftBehindModel", name := "takesBoard", desc := "()Z" } : Jvm.MethodName)) ∈ lw_all := lw_g (lw_at lw_m6 63 rfl) rfl
theorem q1324 : (Jvm.Cond.code ({ cls := "LeftBehindModel", name := "takesBoard", desc := "()Z" } : Jvm.MethodName) prog_21_method_79_code (1 : Nat) (Option.some Jvm.ClassFile.FieldType.boolean)) ∈ lw_all := lw_g (lw_at lw_m6 64 rfl) rfl
theorem q1326 : (Jvm.Cond.instanceMethod ({ cls := "LeftBehindModel", name := "part", desc := "(I)J" } : Jvm.MethodName)) ∈ lw_all := lw_g (lw_at lw_m6 66 rfl) rfl
theorem q1327 : (Jvm.Cond.selects "LeftBehindModel" ({ cls := "LeftBehindModel", name := "part", desc := "(I)J" } : Jvm.MethodName) ({ cls := "LeftBehindModel", name := "part", desc := "(I)J" } : Jvm.MethodName)) ∈ lw_all := lw_g (lw_at lw_m6 67 rfl) rfl
theorem q1328 : (Jvm.Cond.code ({ cls := "LeftBehindModel", name := "part", desc := "(I)J" } : Jvm.MethodName) prog_21_method_82_code (2 : Nat) (Option.some Jvm.ClassFile.FieldType.long)) ∈ lw_all := lw_g (lw_at lw_m6 68 rfl) rfl
theorem q1330 : (Jvm.Cond.instanceMethod ({ cls := "LeftBehindModel", name := "image", desc := "(I)I" } : Jvm.MethodName)) ∈ lw_all := lw_g (lw_at lw_m6 70 rfl) rfl
theorem q1331 : (Jvm.Cond.selects "LeftBehindModel" ({ cls := "LeftBehindModel", name := "image", desc := "(I)I" } : Jvm.MethodName) ({ cls := "LeftBehindModel", name := "image", desc := "(I)I" } : Jvm.MethodName)) ∈ lw_all := lw_g (lw_at lw_m6 71 rfl) rfl
theorem q1332 : (Jvm.Cond.code ({ cls := "LeftBehindModel", name := "image", desc := "(I)I" } : Jvm.MethodName) prog_21_method_83_code (3 : Nat) (Option.some Jvm.ClassFile.FieldType.int)) ∈ lw_all := lw_g (lw_at lw_m6 72 rfl) rfl
theorem q1334 : (Jvm.Cond.instanceMethod ({ cls := "LeftBehindModel", name := "from", desc := "(I)I" } : Jvm.MethodName)) ∈ lw_all := lw_g (lw_at lw_m6 74 rfl) rfl
theorem q1335 : (Jvm.Cond.selects "LeftBehindModel" ({ cls := "LeftBehindModel", name := "from", desc := "(I)I" } : Jvm.MethodName) ({ cls := "LeftBehindModel", name := "from", desc := "(I)I" } : Jvm.MethodName)) ∈ lw_all := lw_g (lw_at lw_m6 75 rfl) rfl
theorem q1336 : (Jvm.Cond.code ({ cls := "LeftBehindModel", name := "from", desc := "(I)I" } : Jvm.MethodName) prog_21_method_84_code (3 : Nat) (Option.some Jvm.ClassFile.FieldType.int)) ∈ lw_all := lw_g (lw_at lw_m6 76 rfl) rfl
theorem q1338 : (Jvm.Cond.instanceMethod ({ cls := "LeftBehindModel", name := "status", desc := "(I)I" } : Jvm.MethodName)) ∈ lw_all := lw_g (lw_at lw_m6 78 rfl) rfl
theorem q1339 : (Jvm.Cond.selects "LeftBehindModel" ({ cls := "LeftBehindModel", name := "status", desc := "(I)I" } : Jvm.MethodName) ({ cls := "LeftBehindModel", name := "status", desc := "(I)I" } : Jvm.MethodName)) ∈ lw_all := lw_g (lw_at lw_m6 79 rfl) rfl
theorem q1340 : (Jvm.Cond.code ({ cls := "LeftBehindModel", name := "status", desc := "(I)I" } : Jvm.MethodName) prog_21_method_85_code (2 : Nat) (Option.some Jvm.ClassFile.FieldType.int)) ∈ lw_all := lw_g (lw_at lw_m6 80 rfl) rfl
theorem q1342 : (Jvm.Cond.instanceMethod ({ cls := "LeftBehindModel", name := "count", desc := "(I)I" } : Jvm.MethodName)) ∈ lw_all := lw_g (lw_at lw_m6 82 rfl) rfl
theorem q1343 : (Jvm.Cond.selects "LeftBehindModel" ({ cls := "LeftBehindModel", name := "count", desc := "(I)I" } : Jvm.MethodName) ({ cls := "LeftBehindModel", name := "count", desc := "(I)I" } : Jvm.MethodName)) ∈ lw_all := lw_g (lw_at lw_m6 83 rfl) rfl
theorem q1344 : (Jvm.Cond.code ({ cls := "LeftBehindModel", name := "count", desc := "(I)I" } : Jvm.MethodName) prog_21_method_87_code (2 : Nat) (Option.some Jvm.ClassFile.FieldType.int)) ∈ lw_all := lw_g (lw_at lw_m6 84 rfl) rfl
theorem q1345 : (Jvm.Cond.methodLink "LeftBehindModel" (277 : Nat) ({ cls := "LeftBehindModel", name := "counted", desc := "(I)I" } : Jvm.MethodName)) ∈ lw_all := lw_g (lw_at lw_m6 85 rfl) rfl
theorem q1346 : (Jvm.Cond.privateMethod ({ cls := "LeftBehindModel", name := "counted", desc := "(I)I" } : Jvm.MethodName)) ∈ lw_tbl := lw_at lw_m6 86 rfl
theorem q1347 : (Jvm.Cond.instanceMethod ({ cls := "LeftBehindModel", name := "counted", desc := "(I)I" } : Jvm.MethodName)) ∈ lw_all := lw_g (lw_at lw_m6 87 rfl) rfl
theorem q1348 : (Jvm.Cond.code ({ cls := "LeftBehindModel", name := "counted", desc := "(I)I" } : Jvm.MethodName) prog_21_method_86_code (2 : Nat) (Option.some Jvm.ClassFile.FieldType.int)) ∈ lw_all := lw_g (lw_at lw_m6 88 rfl) rfl
theorem q1350 : (Jvm.Cond.instanceMethod ({ cls := "LeftBehindModel", name := "digest", desc := "()J" } : Jvm.MethodName)) ∈ lw_all := lw_g (lw_at lw_m6 90 rfl) rfl
theorem q1351 : (Jvm.Cond.selects "LeftBehindModel" ({ cls := "LeftBehindModel", name := "digest", desc := "()J" } : Jvm.MethodName) ({ cls := "LeftBehindModel", name := "digest", desc := "()J" } : Jvm.MethodName)) ∈ lw_all := lw_g (lw_at lw_m6 91 rfl) rfl
theorem q1352 : (Jvm.Cond.code ({ cls := "LeftBehindModel", name := "digest", desc := "()J" } : Jvm.MethodName) prog_21_method_89_code (4 : Nat) (Option.some Jvm.ClassFile.FieldType.long)) ∈ lw_all := lw_g (lw_at lw_m6 92 rfl) rfl
theorem q1353 : (Jvm.Cond.constantLong "LeftBehindModel" (282 : Nat) (1721 : Int64)) ∈ lw_all := lw_g (lw_at lw_m6 93 rfl) rfl
theorem q1354 : (Jvm.Cond.constantLong "LeftBehindModel" (280 : Nat) (31 : Int64)) ∈ lw_all := lw_g (lw_at lw_m6 94 rfl) rfl
theorem q1355 : (Jvm.Cond.methodLink "LeftBehindModel" (284 : Nat) ({ cls := "LeftBehindModel", name := "sums", desc := "(JII)J" } : Jvm.MethodName)) ∈ lw_all := lw_g (lw_at lw_m6 95 rfl) rfl
theorem q1356 : (Jvm.Cond.privateMethod ({ cls := "LeftBehindModel", name := "sums", desc := "(JII)J" } : Jvm.MethodName)) ∈ lw_tbl := lw_at lw_m6 96 rfl
theorem q1357 : (Jvm.Cond.instanceMethod ({ cls := "LeftBehindModel", name := "sums", desc := "(JII)J" } : Jvm.MethodName)) ∈ lw_all := lw_g (lw_at lw_m6 97 rfl) rfl
theorem q1358 : (Jvm.Cond.code ({ cls := "LeftBehindModel", name := "sums", desc := "(JII)J" } : Jvm.MethodName) prog_21_method_88_code (8 : Nat) (Option.some Jvm.ClassFile.FieldType.long)) ∈ lw_all := lw_g (lw_at lw_m6 98 rfl) rfl
theorem in_X6 : ∀ w ∈ wsX60, w ∈ lw_all := lw_in wsX60 [972, 974, 976, 978, 980, 982, 984, 986, 988, 990, 992, 994, 996, 998, 1000, 1002, 1004, 1006, 1008] (by decide +kernel) (by decide +kernel)
