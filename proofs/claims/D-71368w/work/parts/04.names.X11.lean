/-! KindStreetsModel -/
set_option maxRecDepth 100000
def RX11 : String := "KindStreetsModel"
def TX11 : u_T := fun k => match k with
  | 0 => ("KindStreetsModel", "text", "[B", true)
  | 1 => ("KindStreetsModel", "typed", "I", false)
  | 2 => ("KindStreetsModel", "yards", "[I", true)
  | 3 => ("KindStreetsModel", "streets", "[I", true)
  | 4 => ("KindStreetsModel", "from", "[I", true)
  | 5 => ("KindStreetsModel", "to", "[I", true)
  | 6 => ("KindStreetsModel", "old", "[I", true)
  | 7 => ("KindStreetsModel", "people", "[I", true)
  | 8 => ("KindStreetsModel", "home", "[I", true)
  | 9 => ("KindStreetsModel", "wants", "[I", true)
  | 10 => ("KindStreetsModel", "at", "I", false)
  | 11 => ("KindStreetsModel", "place", "I", false)
  | 12 => ("KindStreetsModel", "sort", "I", false)
  | 13 => ("KindStreetsModel", "value", "I", false)
  | 14 => ("KindStreetsModel", "isWrong", "Z", false)
  | 15 => ("KindStreetsModel", "items", "I", false)
  | 16 => ("KindStreetsModel", "now", "[I", true)
  | 17 => ("KindStreetsModel", "known", "[I", true)
  | 18 => ("KindStreetsModel", "before", "[I", true)
  | 19 => ("KindStreetsModel", "store", "[I", true)
  | 20 => ("KindStreetsModel", "isKept", "[Z", true)
  | 21 => ("KindStreetsModel", "most", "[I", true)
  | 22 => ("KindStreetsModel", "factWidth", "[I", true)
  | 23 => ("KindStreetsModel", "factNight", "[I", true)
  | 24 => ("KindStreetsModel", "facts", "I", false)
  | _ => ("KindStreetsModel", "trace", "J", false)
def tyX11 : Nat → FieldType := fun k => match k with
  | 0 => .array .byte
  | 1 => .int
  | 2 => .array .int
  | 3 => .array .int
  | 4 => .array .int
  | 5 => .array .int
  | 6 => .array .int
  | 7 => .array .int
  | 8 => .array .int
  | 9 => .array .int
  | 10 => .int
  | 11 => .int
  | 12 => .int
  | 13 => .int
  | 14 => .boolean
  | 15 => .int
  | 16 => .array .int
  | 17 => .array .int
  | 18 => .array .int
  | 19 => .array .int
  | 20 => .array .boolean
  | 21 => .array .int
  | 22 => .array .int
  | 23 => .array .int
  | 24 => .int
  | _ => .long
abbrev wsX110 : List Cond := u_ws RX11 TX11 26
set_option maxRecDepth 100000 in
theorem nmX11 : ∀ a, a < 26 → ∀ b, b < 26 → a ≠ b → (TX11 a).2.1 ≠ (TX11 b).2.1 := by decide +kernel
set_option maxRecDepth 100000 in
theorem tyX11_ok : ∀ k, k < 26 → parseFieldDescriptor (TX11 k).2.2.1 = some (tyX11 k) := by decide +kernel
abbrev cX11_init : ByteArray := prog_14_method_1_code
def yX11_init : MethodName := ⟨RX11, "<init>", "()V"⟩
def dkwX11_init_6 : List UInt8 := [177]
abbrev dktX11_init_6 : List UInt8 := dkwX11_init_6 ++ []
def dkwX11_init_5 : List UInt8 := [181, 0, 54, 42, 7, 188, 10, 181, 0, 57, 42, 7, 188, 10, 181, 0, 60, 42, 180, 0, 13, 3, 7, 79]
abbrev dktX11_init_5 : List UInt8 := dkwX11_init_5 ++ dktX11_init_6
def dkwX11_init_4 : List UInt8 := [181, 0, 44, 42, 16, 68, 188, 10, 181, 0, 47, 42, 5, 188, 4, 181, 0, 50, 42, 17, 14, 0, 188, 10]
abbrev dktX11_init_4 : List UInt8 := dkwX11_init_4 ++ dktX11_init_5
def dkwX11_init_3 : List UInt8 := [181, 0, 35, 42, 16, 34, 188, 10, 181, 0, 38, 42, 6, 188, 10, 181, 0, 41, 42, 17, 3, 252, 188, 10]
abbrev dktX11_init_3 : List UInt8 := dkwX11_init_3 ++ dktX11_init_4
def dkwX11_init_2 : List UInt8 := [181, 0, 26, 42, 5, 188, 10, 181, 0, 29, 42, 16, 12, 188, 10, 181, 0, 32, 42, 16, 12, 188, 10]
abbrev dktX11_init_2 : List UInt8 := dkwX11_init_2 ++ dktX11_init_3
def dkwX11_init_1 : List UInt8 := [181, 0, 17, 42, 16, 18, 188, 10, 181, 0, 20, 42, 16, 18, 188, 10, 181, 0, 23, 42, 16, 18, 188, 10]
abbrev dktX11_init_1 : List UInt8 := dkwX11_init_1 ++ dktX11_init_2
def dkwX11_init_0 : List UInt8 := [42, 183, 0, 1, 42, 16, 120, 188, 8, 181, 0, 7, 42, 5, 188, 10, 181, 0, 13, 42, 5, 188, 10]
abbrev dktX11_init_0 : List UInt8 := dkwX11_init_0 ++ dktX11_init_1
theorem dksX11_init_0 : cX11_init.data.toList.drop 0 = dktX11_init_0 := by decide +kernel
theorem dksX11_init_1 : cX11_init.data.toList.drop 23 = dktX11_init_1 := dk_seg dksX11_init_0 23 rfl rfl
theorem dksX11_init_2 : cX11_init.data.toList.drop 47 = dktX11_init_2 := dk_seg dksX11_init_1 24 rfl rfl
theorem dksX11_init_3 : cX11_init.data.toList.drop 70 = dktX11_init_3 := dk_seg dksX11_init_2 23 rfl rfl
theorem dksX11_init_4 : cX11_init.data.toList.drop 94 = dktX11_init_4 := dk_seg dksX11_init_3 24 rfl rfl
theorem dksX11_init_5 : cX11_init.data.toList.drop 118 = dktX11_init_5 := dk_seg dksX11_init_4 24 rfl rfl
theorem dksX11_init_6 : cX11_init.data.toList.drop 142 = dktX11_init_6 := dk_seg dksX11_init_5 24 rfl rfl
theorem dX11_init_0 : decode cX11_init 0 = .ok (.aload_n 0, 1) := dk_42 (dk_at dksX11_init_0 0 rfl rfl)
theorem dX11_init_1 : decode cX11_init 1 = .ok (.invokespecial 1, 3) := dk_183 0 1 (dk_at dksX11_init_0 1 rfl rfl)
theorem dX11_init_4 : decode cX11_init 4 = .ok (.aload_n 0, 1) := dk_42 (dk_at dksX11_init_0 4 rfl rfl)
theorem dX11_init_5 : decode cX11_init 5 = .ok (.bipush 120, 2) := dk_16 120 (dk_at dksX11_init_0 5 rfl rfl)
theorem dX11_init_7 : decode cX11_init 7 = .ok (.newarray .byte, 2) := dk_188_8 (dk_at dksX11_init_0 7 rfl rfl)
theorem dX11_init_9 : decode cX11_init 9 = .ok (.putfield 7, 3) := dk_181 0 7 (dk_at dksX11_init_0 9 rfl rfl)
theorem dX11_init_12 : decode cX11_init 12 = .ok (.aload_n 0, 1) := dk_42 (dk_at dksX11_init_0 12 rfl rfl)
theorem dX11_init_13 : decode cX11_init 13 = .ok (.iconst 2, 1) := dk_5 (dk_at dksX11_init_0 13 rfl rfl)
theorem dX11_init_14 : decode cX11_init 14 = .ok (.newarray .int, 2) := dk_188_10 (dk_at dksX11_init_0 14 rfl rfl)
theorem dX11_init_16 : decode cX11_init 16 = .ok (.putfield 13, 3) := dk_181 0 13 (dk_at dksX11_init_0 16 rfl rfl)
theorem dX11_init_19 : decode cX11_init 19 = .ok (.aload_n 0, 1) := dk_42 (dk_at dksX11_init_0 19 rfl rfl)
theorem dX11_init_20 : decode cX11_init 20 = .ok (.iconst 2, 1) := dk_5 (dk_at dksX11_init_0 20 rfl rfl)
theorem dX11_init_21 : decode cX11_init 21 = .ok (.newarray .int, 2) := dk_188_10 (dk_at dksX11_init_0 21 rfl rfl)
theorem dX11_init_23 : decode cX11_init 23 = .ok (.putfield 17, 3) := dk_181 0 17 (dk_at dksX11_init_1 0 rfl rfl)
theorem dX11_init_26 : decode cX11_init 26 = .ok (.aload_n 0, 1) := dk_42 (dk_at dksX11_init_1 3 rfl rfl)
theorem dX11_init_27 : decode cX11_init 27 = .ok (.bipush 18, 2) := dk_16 18 (dk_at dksX11_init_1 4 rfl rfl)
theorem dX11_init_29 : decode cX11_init 29 = .ok (.newarray .int, 2) := dk_188_10 (dk_at dksX11_init_1 6 rfl rfl)
theorem dX11_init_31 : decode cX11_init 31 = .ok (.putfield 20, 3) := dk_181 0 20 (dk_at dksX11_init_1 8 rfl rfl)
theorem dX11_init_34 : decode cX11_init 34 = .ok (.aload_n 0, 1) := dk_42 (dk_at dksX11_init_1 11 rfl rfl)
theorem dX11_init_35 : decode cX11_init 35 = .ok (.bipush 18, 2) := dk_16 18 (dk_at dksX11_init_1 12 rfl rfl)
theorem dX11_init_37 : decode cX11_init 37 = .ok (.newarray .int, 2) := dk_188_10 (dk_at dksX11_init_1 14 rfl rfl)
theorem dX11_init_39 : decode cX11_init 39 = .ok (.putfield 23, 3) := dk_181 0 23 (dk_at dksX11_init_1 16 rfl rfl)
theorem dX11_init_42 : decode cX11_init 42 = .ok (.aload_n 0, 1) := dk_42 (dk_at dksX11_init_1 19 rfl rfl)
theorem dX11_init_43 : decode cX11_init 43 = .ok (.bipush 18, 2) := dk_16 18 (dk_at dksX11_init_1 20 rfl rfl)
theorem dX11_init_45 : decode cX11_init 45 = .ok (.newarray .int, 2) := dk_188_10 (dk_at dksX11_init_1 22 rfl rfl)
theorem dX11_init_47 : decode cX11_init 47 = .ok (.putfield 26, 3) := dk_181 0 26 (dk_at dksX11_init_2 0 rfl rfl)
theorem dX11_init_50 : decode cX11_init 50 = .ok (.aload_n 0, 1) := dk_42 (dk_at dksX11_init_2 3 rfl rfl)
theorem dX11_init_51 : decode cX11_init 51 = .ok (.iconst 2, 1) := dk_5 (dk_at dksX11_init_2 4 rfl rfl)
theorem dX11_init_52 : decode cX11_init 52 = .ok (.newarray .int, 2) := dk_188_10 (dk_at dksX11_init_2 5 rfl rfl)
theorem dX11_init_54 : decode cX11_init 54 = .ok (.putfield 29, 3) := dk_181 0 29 (dk_at dksX11_init_2 7 rfl rfl)
theorem dX11_init_57 : decode cX11_init 57 = .ok (.aload_n 0, 1) := dk_42 (dk_at dksX11_init_2 10 rfl rfl)
theorem dX11_init_58 : decode cX11_init 58 = .ok (.bipush 12, 2) := dk_16 12 (dk_at dksX11_init_2 11 rfl rfl)
theorem dX11_init_60 : decode cX11_init 60 = .ok (.newarray .int, 2) := dk_188_10 (dk_at dksX11_init_2 13 rfl rfl)
theorem dX11_init_62 : decode cX11_init 62 = .ok (.putfield 32, 3) := dk_181 0 32 (dk_at dksX11_init_2 15 rfl rfl)
theorem dX11_init_65 : decode cX11_init 65 = .ok (.aload_n 0, 1) := dk_42 (dk_at dksX11_init_2 18 rfl rfl)
theorem dX11_init_66 : decode cX11_init 66 = .ok (.bipush 12, 2) := dk_16 12 (dk_at dksX11_init_2 19 rfl rfl)
theorem dX11_init_68 : decode cX11_init 68 = .ok (.newarray .int, 2) := dk_188_10 (dk_at dksX11_init_2 21 rfl rfl)
theorem dX11_init_70 : decode cX11_init 70 = .ok (.putfield 35, 3) := dk_181 0 35 (dk_at dksX11_init_3 0 rfl rfl)
theorem dX11_init_73 : decode cX11_init 73 = .ok (.aload_n 0, 1) := dk_42 (dk_at dksX11_init_3 3 rfl rfl)
theorem dX11_init_74 : decode cX11_init 74 = .ok (.bipush 34, 2) := dk_16 34 (dk_at dksX11_init_3 4 rfl rfl)
theorem dX11_init_76 : decode cX11_init 76 = .ok (.newarray .int, 2) := dk_188_10 (dk_at dksX11_init_3 6 rfl rfl)
theorem dX11_init_78 : decode cX11_init 78 = .ok (.putfield 38, 3) := dk_181 0 38 (dk_at dksX11_init_3 8 rfl rfl)
theorem dX11_init_81 : decode cX11_init 81 = .ok (.aload_n 0, 1) := dk_42 (dk_at dksX11_init_3 11 rfl rfl)
theorem dX11_init_82 : decode cX11_init 82 = .ok (.iconst 3, 1) := dk_6 (dk_at dksX11_init_3 12 rfl rfl)
theorem dX11_init_83 : decode cX11_init 83 = .ok (.newarray .int, 2) := dk_188_10 (dk_at dksX11_init_3 13 rfl rfl)
theorem dX11_init_85 : decode cX11_init 85 = .ok (.putfield 41, 3) := dk_181 0 41 (dk_at dksX11_init_3 15 rfl rfl)
theorem dX11_init_88 : decode cX11_init 88 = .ok (.aload_n 0, 1) := dk_42 (dk_at dksX11_init_3 18 rfl rfl)
theorem dX11_init_89 : decode cX11_init 89 = .ok (.sipush 1020, 3) := dk_17 3 252 (dk_at dksX11_init_3 19 rfl rfl)
theorem dX11_init_92 : decode cX11_init 92 = .ok (.newarray .int, 2) := dk_188_10 (dk_at dksX11_init_3 22 rfl rfl)
theorem dX11_init_94 : decode cX11_init 94 = .ok (.putfield 44, 3) := dk_181 0 44 (dk_at dksX11_init_4 0 rfl rfl)
theorem dX11_init_97 : decode cX11_init 97 = .ok (.aload_n 0, 1) := dk_42 (dk_at dksX11_init_4 3 rfl rfl)
theorem dX11_init_98 : decode cX11_init 98 = .ok (.bipush 68, 2) := dk_16 68 (dk_at dksX11_init_4 4 rfl rfl)
theorem dX11_init_100 : decode cX11_init 100 = .ok (.newarray .int, 2) := dk_188_10 (dk_at dksX11_init_4 6 rfl rfl)
theorem dX11_init_102 : decode cX11_init 102 = .ok (.putfield 47, 3) := dk_181 0 47 (dk_at dksX11_init_4 8 rfl rfl)
theorem dX11_init_105 : decode cX11_init 105 = .ok (.aload_n 0, 1) := dk_42 (dk_at dksX11_init_4 11 rfl rfl)
theorem dX11_init_106 : decode cX11_init 106 = .ok (.iconst 2, 1) := dk_5 (dk_at dksX11_init_4 12 rfl rfl)
theorem dX11_init_107 : decode cX11_init 107 = .ok (.newarray .boolean, 2) := dk_188_4 (dk_at dksX11_init_4 13 rfl rfl)
theorem dX11_init_109 : decode cX11_init 109 = .ok (.putfield 50, 3) := dk_181 0 50 (dk_at dksX11_init_4 15 rfl rfl)
theorem dX11_init_112 : decode cX11_init 112 = .ok (.aload_n 0, 1) := dk_42 (dk_at dksX11_init_4 18 rfl rfl)
theorem dX11_init_113 : decode cX11_init 113 = .ok (.sipush 3584, 3) := dk_17 14 0 (dk_at dksX11_init_4 19 rfl rfl)
theorem dX11_init_116 : decode cX11_init 116 = .ok (.newarray .int, 2) := dk_188_10 (dk_at dksX11_init_4 22 rfl rfl)
theorem dX11_init_118 : decode cX11_init 118 = .ok (.putfield 54, 3) := dk_181 0 54 (dk_at dksX11_init_5 0 rfl rfl)
theorem dX11_init_121 : decode cX11_init 121 = .ok (.aload_n 0, 1) := dk_42 (dk_at dksX11_init_5 3 rfl rfl)
theorem dX11_init_122 : decode cX11_init 122 = .ok (.iconst 4, 1) := dk_7 (dk_at dksX11_init_5 4 rfl rfl)
theorem dX11_init_123 : decode cX11_init 123 = .ok (.newarray .int, 2) := dk_188_10 (dk_at dksX11_init_5 5 rfl rfl)
theorem dX11_init_125 : decode cX11_init 125 = .ok (.putfield 57, 3) := dk_181 0 57 (dk_at dksX11_init_5 7 rfl rfl)
theorem dX11_init_128 : decode cX11_init 128 = .ok (.aload_n 0, 1) := dk_42 (dk_at dksX11_init_5 10 rfl rfl)
theorem dX11_init_129 : decode cX11_init 129 = .ok (.iconst 4, 1) := dk_7 (dk_at dksX11_init_5 11 rfl rfl)
theorem dX11_init_130 : decode cX11_init 130 = .ok (.newarray .int, 2) := dk_188_10 (dk_at dksX11_init_5 12 rfl rfl)
theorem dX11_init_132 : decode cX11_init 132 = .ok (.putfield 60, 3) := dk_181 0 60 (dk_at dksX11_init_5 14 rfl rfl)
theorem dX11_init_135 : decode cX11_init 135 = .ok (.aload_n 0, 1) := dk_42 (dk_at dksX11_init_5 17 rfl rfl)
theorem dX11_init_136 : decode cX11_init 136 = .ok (.getfield 13, 3) := dk_180 0 13 (dk_at dksX11_init_5 18 rfl rfl)
theorem dX11_init_139 : decode cX11_init 139 = .ok (.iconst 0, 1) := dk_3 (dk_at dksX11_init_5 21 rfl rfl)
theorem dX11_init_140 : decode cX11_init 140 = .ok (.iconst 4, 1) := dk_7 (dk_at dksX11_init_5 22 rfl rfl)
theorem dX11_init_141 : decode cX11_init 141 = .ok (.iastore, 1) := dk_79 (dk_at dksX11_init_5 23 rfl rfl)
theorem dX11_init_142 : decode cX11_init 142 = .ok (.return_, 1) := dk_177 (dk_at dksX11_init_6 0 rfl rfl)
abbrev cX11_type : ByteArray := prog_14_method_6_code
def yX11_type : MethodName := ⟨RX11, "type", "(I)I"⟩
def dkwX11_type_2 : List UInt8 := [180, 0, 67, 172]
abbrev dktX11_type_2 : List UInt8 := dkwX11_type_2 ++ []
def dkwX11_type_1 : List UInt8 := [172, 42, 180, 0, 7, 42, 180, 0, 67, 27, 145, 84, 42, 89, 180, 0, 67, 4, 96, 181, 0, 67, 42]
abbrev dktX11_type_1 : List UInt8 := dkwX11_type_1 ++ dktX11_type_2
def dkwX11_type_0 : List UInt8 := [27, 3, 17, 0, 255, 184, 0, 63, 154, 0, 5, 2, 172, 42, 180, 0, 67, 16, 120, 160, 0, 6, 16, 253]
abbrev dktX11_type_0 : List UInt8 := dkwX11_type_0 ++ dktX11_type_1
theorem dksX11_type_0 : cX11_type.data.toList.drop 0 = dktX11_type_0 := by decide +kernel
theorem dksX11_type_1 : cX11_type.data.toList.drop 24 = dktX11_type_1 := dk_seg dksX11_type_0 24 rfl rfl
theorem dksX11_type_2 : cX11_type.data.toList.drop 47 = dktX11_type_2 := dk_seg dksX11_type_1 23 rfl rfl
theorem dX11_type_0 : decode cX11_type 0 = .ok (.iload_n 1, 1) := dk_27 (dk_at dksX11_type_0 0 rfl rfl)
theorem dX11_type_1 : decode cX11_type 1 = .ok (.iconst 0, 1) := dk_3 (dk_at dksX11_type_0 1 rfl rfl)
theorem dX11_type_2 : decode cX11_type 2 = .ok (.sipush 255, 3) := dk_17 0 255 (dk_at dksX11_type_0 2 rfl rfl)
theorem dX11_type_5 : decode cX11_type 5 = .ok (.invokestatic 63, 3) := dk_184 0 63 (dk_at dksX11_type_0 5 rfl rfl)
theorem dX11_type_8 : decode cX11_type 8 = .ok (.ifCond .ne 5, 3) := dk_154 0 5 (dk_at dksX11_type_0 8 rfl rfl)
theorem dX11_type_11 : decode cX11_type 11 = .ok (.iconst (-1), 1) := dk_2 (dk_at dksX11_type_0 11 rfl rfl)
theorem dX11_type_12 : decode cX11_type 12 = .ok (.ireturn, 1) := dk_172 (dk_at dksX11_type_0 12 rfl rfl)
theorem dX11_type_13 : decode cX11_type 13 = .ok (.aload_n 0, 1) := dk_42 (dk_at dksX11_type_0 13 rfl rfl)
theorem dX11_type_14 : decode cX11_type 14 = .ok (.getfield 67, 3) := dk_180 0 67 (dk_at dksX11_type_0 14 rfl rfl)
theorem dX11_type_17 : decode cX11_type 17 = .ok (.bipush 120, 2) := dk_16 120 (dk_at dksX11_type_0 17 rfl rfl)
theorem dX11_type_19 : decode cX11_type 19 = .ok (.if_icmp .ne 6, 3) := dk_160 0 6 (dk_at dksX11_type_0 19 rfl rfl)
theorem dX11_type_22 : decode cX11_type 22 = .ok (.bipush (-3), 2) := dk_16 253 (dk_at dksX11_type_0 22 rfl rfl)
theorem dX11_type_24 : decode cX11_type 24 = .ok (.ireturn, 1) := dk_172 (dk_at dksX11_type_1 0 rfl rfl)
theorem dX11_type_25 : decode cX11_type 25 = .ok (.aload_n 0, 1) := dk_42 (dk_at dksX11_type_1 1 rfl rfl)
theorem dX11_type_26 : decode cX11_type 26 = .ok (.getfield 7, 3) := dk_180 0 7 (dk_at dksX11_type_1 2 rfl rfl)
theorem dX11_type_29 : decode cX11_type 29 = .ok (.aload_n 0, 1) := dk_42 (dk_at dksX11_type_1 5 rfl rfl)
theorem dX11_type_30 : decode cX11_type 30 = .ok (.getfield 67, 3) := dk_180 0 67 (dk_at dksX11_type_1 6 rfl rfl)
theorem dX11_type_33 : decode cX11_type 33 = .ok (.iload_n 1, 1) := dk_27 (dk_at dksX11_type_1 9 rfl rfl)
theorem dX11_type_34 : decode cX11_type 34 = .ok (.i2b, 1) := dk_145 (dk_at dksX11_type_1 10 rfl rfl)
theorem dX11_type_35 : decode cX11_type 35 = .ok (.bastore, 1) := dk_84 (dk_at dksX11_type_1 11 rfl rfl)
theorem dX11_type_36 : decode cX11_type 36 = .ok (.aload_n 0, 1) := dk_42 (dk_at dksX11_type_1 12 rfl rfl)
theorem dX11_type_37 : decode cX11_type 37 = .ok (.dup, 1) := dk_89 (dk_at dksX11_type_1 13 rfl rfl)
theorem dX11_type_38 : decode cX11_type 38 = .ok (.getfield 67, 3) := dk_180 0 67 (dk_at dksX11_type_1 14 rfl rfl)
theorem dX11_type_41 : decode cX11_type 41 = .ok (.iconst 1, 1) := dk_4 (dk_at dksX11_type_1 17 rfl rfl)
theorem dX11_type_42 : decode cX11_type 42 = .ok (.iadd, 1) := dk_96 (dk_at dksX11_type_1 18 rfl rfl)
theorem dX11_type_43 : decode cX11_type 43 = .ok (.putfield 67, 3) := dk_181 0 67 (dk_at dksX11_type_1 19 rfl rfl)
theorem dX11_type_46 : decode cX11_type 46 = .ok (.aload_n 0, 1) := dk_42 (dk_at dksX11_type_1 22 rfl rfl)
theorem dX11_type_47 : decode cX11_type 47 = .ok (.getfield 67, 3) := dk_180 0 67 (dk_at dksX11_type_2 0 rfl rfl)
theorem dX11_type_50 : decode cX11_type 50 = .ok (.ireturn, 1) := dk_172 (dk_at dksX11_type_2 3 rfl rfl)
abbrev cX11_in : ByteArray := prog_14_method_3_code
def yX11_in : MethodName := ⟨RX11, "in", "(III)Z"⟩
def dkwX11_in_0 : List UInt8 := [26, 27, 161, 0, 12, 26, 28, 163, 0, 7, 4, 167, 0, 4, 3, 172]
abbrev dktX11_in_0 : List UInt8 := dkwX11_in_0 ++ []
theorem dksX11_in_0 : cX11_in.data.toList.drop 0 = dktX11_in_0 := by decide +kernel
theorem dX11_in_0 : decode cX11_in 0 = .ok (.iload_n 0, 1) := dk_26 (dk_at dksX11_in_0 0 rfl rfl)
theorem dX11_in_1 : decode cX11_in 1 = .ok (.iload_n 1, 1) := dk_27 (dk_at dksX11_in_0 1 rfl rfl)
theorem dX11_in_2 : decode cX11_in 2 = .ok (.if_icmp .lt 12, 3) := dk_161 0 12 (dk_at dksX11_in_0 2 rfl rfl)
theorem dX11_in_5 : decode cX11_in 5 = .ok (.iload_n 0, 1) := dk_26 (dk_at dksX11_in_0 5 rfl rfl)
theorem dX11_in_6 : decode cX11_in 6 = .ok (.iload_n 2, 1) := dk_28 (dk_at dksX11_in_0 6 rfl rfl)
theorem dX11_in_7 : decode cX11_in 7 = .ok (.if_icmp .gt 7, 3) := dk_163 0 7 (dk_at dksX11_in_0 7 rfl rfl)
theorem dX11_in_10 : decode cX11_in 10 = .ok (.iconst 1, 1) := dk_4 (dk_at dksX11_in_0 10 rfl rfl)
theorem dX11_in_11 : decode cX11_in 11 = .ok (.goto 4, 3) := dk_167 0 4 (dk_at dksX11_in_0 11 rfl rfl)
theorem dX11_in_14 : decode cX11_in 14 = .ok (.iconst 0, 1) := dk_3 (dk_at dksX11_in_0 14 rfl rfl)
theorem dX11_in_15 : decode cX11_in 15 = .ok (.ireturn, 1) := dk_172 (dk_at dksX11_in_0 15 rfl rfl)
abbrev cX11_clear : ByteArray := prog_14_method_7_code
def yX11_clear : MethodName := ⟨RX11, "clear", "()I"⟩
def dkwX11_clear_0 : List UInt8 := [42, 180, 0, 67, 60, 42, 3, 181, 0, 67, 27, 172]
abbrev dktX11_clear_0 : List UInt8 := dkwX11_clear_0 ++ []
theorem dksX11_clear_0 : cX11_clear.data.toList.drop 0 = dktX11_clear_0 := by decide +kernel
theorem dX11_clear_0 : decode cX11_clear 0 = .ok (.aload_n 0, 1) := dk_42 (dk_at dksX11_clear_0 0 rfl rfl)
theorem dX11_clear_1 : decode cX11_clear 1 = .ok (.getfield 67, 3) := dk_180 0 67 (dk_at dksX11_clear_0 1 rfl rfl)
theorem dX11_clear_4 : decode cX11_clear 4 = .ok (.istore_n 1, 1) := dk_60 (dk_at dksX11_clear_0 4 rfl rfl)
theorem dX11_clear_5 : decode cX11_clear 5 = .ok (.aload_n 0, 1) := dk_42 (dk_at dksX11_clear_0 5 rfl rfl)
theorem dX11_clear_6 : decode cX11_clear 6 = .ok (.iconst 0, 1) := dk_3 (dk_at dksX11_clear_0 6 rfl rfl)
theorem dX11_clear_7 : decode cX11_clear 7 = .ok (.putfield 67, 3) := dk_181 0 67 (dk_at dksX11_clear_0 7 rfl rfl)
theorem dX11_clear_10 : decode cX11_clear 10 = .ok (.iload_n 1, 1) := dk_27 (dk_at dksX11_clear_0 10 rfl rfl)
theorem dX11_clear_11 : decode cX11_clear 11 = .ok (.ireturn, 1) := dk_172 (dk_at dksX11_clear_0 11 rfl rfl)
abbrev cX11_town : ByteArray := prog_14_method_15_code
def yX11_town : MethodName := ⟨RX11, "town", "()I"⟩
def dkwX11_town_10 : List UInt8 := [42, 3, 181, 0, 116, 42, 3, 181, 0, 67, 42, 180, 0, 102, 172]
abbrev dktX11_town_10 : List UInt8 := dkwX11_town_10 ++ []
def dkwX11_town_9 : List UInt8 := [167, 255, 200, 42, 180, 0, 41, 3, 3, 79, 42, 180, 0, 50, 3, 3, 84, 42, 180, 0, 50, 4, 3, 84]
abbrev dktX11_town_9 : List UInt8 := dkwX11_town_9 ++ dktX11_town_10
def dkwX11_town_8 : List UInt8 := [167, 0, 4, 3, 79, 42, 180, 0, 35, 27, 42, 180, 0, 35, 16, 6, 27, 96, 46, 79, 132, 1, 1]
abbrev dktX11_town_8 : List UInt8 := dkwX11_town_8 ++ dktX11_town_9
def dkwX11_town_7 : List UInt8 := [16, 28, 27, 96, 27, 42, 180, 0, 29, 3, 46, 162, 0, 15, 42, 180, 0, 32, 16, 6, 27, 96, 46]
abbrev dktX11_town_7 : List UInt8 := dkwX11_town_7 ++ dktX11_town_8
def dkwX11_town_6 : List UInt8 := [46, 167, 0, 4, 3, 79, 132, 1, 1, 167, 255, 186, 3, 60, 27, 16, 6, 162, 0, 56, 42, 180, 0, 38]
abbrev dktX11_town_6 : List UInt8 := dkwX11_town_6 ++ dktX11_town_7
def dkwX11_town_5 : List UInt8 := [180, 0, 38, 4, 27, 96, 27, 42, 180, 0, 17, 3, 46, 162, 0, 15, 42, 180, 0, 26, 16, 9, 27, 96]
abbrev dktX11_town_5 : List UInt8 := dkwX11_town_5 ++ dktX11_town_6
def dkwX11_town_4 : List UInt8 := [16, 9, 27, 96, 46, 79, 42, 180, 0, 23, 27, 42, 180, 0, 23, 16, 9, 27, 96, 46, 79, 42]
abbrev dktX11_town_4 : List UInt8 := dkwX11_town_4 ++ dktX11_town_5
def dkwX11_town_3 : List UInt8 := [132, 1, 1, 167, 255, 240, 3, 60, 27, 16, 9, 162, 0, 70, 42, 180, 0, 20, 27, 42, 180, 0, 20]
abbrev dktX11_town_3 : List UInt8 := dkwX11_town_3 ++ dktX11_town_4
def dkwX11_town_2 : List UInt8 := [42, 180, 0, 29, 4, 46, 79, 3, 60, 27, 16, 34, 162, 0, 16, 42, 180, 0, 38, 27, 3, 79]
abbrev dktX11_town_2 : List UInt8 := dkwX11_town_2 ++ dktX11_town_3
def dkwX11_town_1 : List UInt8 := [42, 180, 0, 13, 4, 46, 79, 42, 180, 0, 17, 3, 42, 180, 0, 17, 4, 46, 79, 42, 180, 0, 29, 3]
abbrev dktX11_town_1 : List UInt8 := dkwX11_town_1 ++ dktX11_town_2
def dkwX11_town_0 : List UInt8 := [42, 182, 0, 113, 42, 180, 0, 87, 153, 0, 11, 16, 246, 42, 180, 0, 78, 100, 172, 42, 180, 0, 13, 3]
abbrev dktX11_town_0 : List UInt8 := dkwX11_town_0 ++ dktX11_town_1
theorem dksX11_town_0 : cX11_town.data.toList.drop 0 = dktX11_town_0 := by decide +kernel
theorem dksX11_town_1 : cX11_town.data.toList.drop 24 = dktX11_town_1 := dk_seg dksX11_town_0 24 rfl rfl
theorem dksX11_town_2 : cX11_town.data.toList.drop 48 = dktX11_town_2 := dk_seg dksX11_town_1 24 rfl rfl
theorem dksX11_town_3 : cX11_town.data.toList.drop 70 = dktX11_town_3 := dk_seg dksX11_town_2 22 rfl rfl
theorem dksX11_town_4 : cX11_town.data.toList.drop 93 = dktX11_town_4 := dk_seg dksX11_town_3 23 rfl rfl
theorem dksX11_town_5 : cX11_town.data.toList.drop 115 = dktX11_town_5 := dk_seg dksX11_town_4 22 rfl rfl
theorem dksX11_town_6 : cX11_town.data.toList.drop 139 = dktX11_town_6 := dk_seg dksX11_town_5 24 rfl rfl
theorem dksX11_town_7 : cX11_town.data.toList.drop 163 = dktX11_town_7 := dk_seg dksX11_town_6 24 rfl rfl
theorem dksX11_town_8 : cX11_town.data.toList.drop 186 = dktX11_town_8 := dk_seg dksX11_town_7 23 rfl rfl
theorem dksX11_town_9 : cX11_town.data.toList.drop 209 = dktX11_town_9 := dk_seg dksX11_town_8 23 rfl rfl
theorem dksX11_town_10 : cX11_town.data.toList.drop 233 = dktX11_town_10 := dk_seg dksX11_town_9 24 rfl rfl
theorem dX11_town_0 : decode cX11_town 0 = .ok (.aload_n 0, 1) := dk_42 (dk_at dksX11_town_0 0 rfl rfl)
theorem dX11_town_1 : decode cX11_town 1 = .ok (.invokevirtual 113, 3) := dk_182 0 113 (dk_at dksX11_town_0 1 rfl rfl)
theorem dX11_town_4 : decode cX11_town 4 = .ok (.aload_n 0, 1) := dk_42 (dk_at dksX11_town_0 4 rfl rfl)
theorem dX11_town_5 : decode cX11_town 5 = .ok (.getfield 87, 3) := dk_180 0 87 (dk_at dksX11_town_0 5 rfl rfl)
theorem dX11_town_8 : decode cX11_town 8 = .ok (.ifCond .eq 11, 3) := dk_153 0 11 (dk_at dksX11_town_0 8 rfl rfl)
theorem dX11_town_11 : decode cX11_town 11 = .ok (.bipush (-10), 2) := dk_16 246 (dk_at dksX11_town_0 11 rfl rfl)
theorem dX11_town_13 : decode cX11_town 13 = .ok (.aload_n 0, 1) := dk_42 (dk_at dksX11_town_0 13 rfl rfl)
theorem dX11_town_14 : decode cX11_town 14 = .ok (.getfield 78, 3) := dk_180 0 78 (dk_at dksX11_town_0 14 rfl rfl)
theorem dX11_town_17 : decode cX11_town 17 = .ok (.isub, 1) := dk_100 (dk_at dksX11_town_0 17 rfl rfl)
theorem dX11_town_18 : decode cX11_town 18 = .ok (.ireturn, 1) := dk_172 (dk_at dksX11_town_0 18 rfl rfl)
theorem dX11_town_19 : decode cX11_town 19 = .ok (.aload_n 0, 1) := dk_42 (dk_at dksX11_town_0 19 rfl rfl)
theorem dX11_town_20 : decode cX11_town 20 = .ok (.getfield 13, 3) := dk_180 0 13 (dk_at dksX11_town_0 20 rfl rfl)
theorem dX11_town_23 : decode cX11_town 23 = .ok (.iconst 0, 1) := dk_3 (dk_at dksX11_town_0 23 rfl rfl)
theorem dX11_town_24 : decode cX11_town 24 = .ok (.aload_n 0, 1) := dk_42 (dk_at dksX11_town_1 0 rfl rfl)
theorem dX11_town_25 : decode cX11_town 25 = .ok (.getfield 13, 3) := dk_180 0 13 (dk_at dksX11_town_1 1 rfl rfl)
theorem dX11_town_28 : decode cX11_town 28 = .ok (.iconst 1, 1) := dk_4 (dk_at dksX11_town_1 4 rfl rfl)
theorem dX11_town_29 : decode cX11_town 29 = .ok (.iaload, 1) := dk_46 (dk_at dksX11_town_1 5 rfl rfl)
theorem dX11_town_30 : decode cX11_town 30 = .ok (.iastore, 1) := dk_79 (dk_at dksX11_town_1 6 rfl rfl)
theorem dX11_town_31 : decode cX11_town 31 = .ok (.aload_n 0, 1) := dk_42 (dk_at dksX11_town_1 7 rfl rfl)
theorem dX11_town_32 : decode cX11_town 32 = .ok (.getfield 17, 3) := dk_180 0 17 (dk_at dksX11_town_1 8 rfl rfl)
theorem dX11_town_35 : decode cX11_town 35 = .ok (.iconst 0, 1) := dk_3 (dk_at dksX11_town_1 11 rfl rfl)
theorem dX11_town_36 : decode cX11_town 36 = .ok (.aload_n 0, 1) := dk_42 (dk_at dksX11_town_1 12 rfl rfl)
theorem dX11_town_37 : decode cX11_town 37 = .ok (.getfield 17, 3) := dk_180 0 17 (dk_at dksX11_town_1 13 rfl rfl)
theorem dX11_town_40 : decode cX11_town 40 = .ok (.iconst 1, 1) := dk_4 (dk_at dksX11_town_1 16 rfl rfl)
theorem dX11_town_41 : decode cX11_town 41 = .ok (.iaload, 1) := dk_46 (dk_at dksX11_town_1 17 rfl rfl)
theorem dX11_town_42 : decode cX11_town 42 = .ok (.iastore, 1) := dk_79 (dk_at dksX11_town_1 18 rfl rfl)
theorem dX11_town_43 : decode cX11_town 43 = .ok (.aload_n 0, 1) := dk_42 (dk_at dksX11_town_1 19 rfl rfl)
theorem dX11_town_44 : decode cX11_town 44 = .ok (.getfield 29, 3) := dk_180 0 29 (dk_at dksX11_town_1 20 rfl rfl)
theorem dX11_town_47 : decode cX11_town 47 = .ok (.iconst 0, 1) := dk_3 (dk_at dksX11_town_1 23 rfl rfl)
theorem dX11_town_48 : decode cX11_town 48 = .ok (.aload_n 0, 1) := dk_42 (dk_at dksX11_town_2 0 rfl rfl)
theorem dX11_town_49 : decode cX11_town 49 = .ok (.getfield 29, 3) := dk_180 0 29 (dk_at dksX11_town_2 1 rfl rfl)
theorem dX11_town_52 : decode cX11_town 52 = .ok (.iconst 1, 1) := dk_4 (dk_at dksX11_town_2 4 rfl rfl)
theorem dX11_town_53 : decode cX11_town 53 = .ok (.iaload, 1) := dk_46 (dk_at dksX11_town_2 5 rfl rfl)
theorem dX11_town_54 : decode cX11_town 54 = .ok (.iastore, 1) := dk_79 (dk_at dksX11_town_2 6 rfl rfl)
theorem dX11_town_55 : decode cX11_town 55 = .ok (.iconst 0, 1) := dk_3 (dk_at dksX11_town_2 7 rfl rfl)
theorem dX11_town_56 : decode cX11_town 56 = .ok (.istore_n 1, 1) := dk_60 (dk_at dksX11_town_2 8 rfl rfl)
theorem dX11_town_57 : decode cX11_town 57 = .ok (.iload_n 1, 1) := dk_27 (dk_at dksX11_town_2 9 rfl rfl)
theorem dX11_town_58 : decode cX11_town 58 = .ok (.bipush 34, 2) := dk_16 34 (dk_at dksX11_town_2 10 rfl rfl)
theorem dX11_town_60 : decode cX11_town 60 = .ok (.if_icmp .ge 16, 3) := dk_162 0 16 (dk_at dksX11_town_2 12 rfl rfl)
theorem dX11_town_63 : decode cX11_town 63 = .ok (.aload_n 0, 1) := dk_42 (dk_at dksX11_town_2 15 rfl rfl)
theorem dX11_town_64 : decode cX11_town 64 = .ok (.getfield 38, 3) := dk_180 0 38 (dk_at dksX11_town_2 16 rfl rfl)
theorem dX11_town_67 : decode cX11_town 67 = .ok (.iload_n 1, 1) := dk_27 (dk_at dksX11_town_2 19 rfl rfl)
theorem dX11_town_68 : decode cX11_town 68 = .ok (.iconst 0, 1) := dk_3 (dk_at dksX11_town_2 20 rfl rfl)
theorem dX11_town_69 : decode cX11_town 69 = .ok (.iastore, 1) := dk_79 (dk_at dksX11_town_2 21 rfl rfl)
theorem dX11_town_70 : decode cX11_town 70 = .ok (.iinc 1 1, 3) := dk_132 1 1 (dk_at dksX11_town_3 0 rfl rfl)
theorem dX11_town_73 : decode cX11_town 73 = .ok (.goto (-16), 3) := dk_167 255 240 (dk_at dksX11_town_3 3 rfl rfl)
theorem dX11_town_76 : decode cX11_town 76 = .ok (.iconst 0, 1) := dk_3 (dk_at dksX11_town_3 6 rfl rfl)
theorem dX11_town_77 : decode cX11_town 77 = .ok (.istore_n 1, 1) := dk_60 (dk_at dksX11_town_3 7 rfl rfl)
theorem dX11_town_78 : decode cX11_town 78 = .ok (.iload_n 1, 1) := dk_27 (dk_at dksX11_town_3 8 rfl rfl)
theorem dX11_town_79 : decode cX11_town 79 = .ok (.bipush 9, 2) := dk_16 9 (dk_at dksX11_town_3 9 rfl rfl)
theorem dX11_town_81 : decode cX11_town 81 = .ok (.if_icmp .ge 70, 3) := dk_162 0 70 (dk_at dksX11_town_3 11 rfl rfl)
theorem dX11_town_84 : decode cX11_town 84 = .ok (.aload_n 0, 1) := dk_42 (dk_at dksX11_town_3 14 rfl rfl)
theorem dX11_town_85 : decode cX11_town 85 = .ok (.getfield 20, 3) := dk_180 0 20 (dk_at dksX11_town_3 15 rfl rfl)
theorem dX11_town_88 : decode cX11_town 88 = .ok (.iload_n 1, 1) := dk_27 (dk_at dksX11_town_3 18 rfl rfl)
theorem dX11_town_89 : decode cX11_town 89 = .ok (.aload_n 0, 1) := dk_42 (dk_at dksX11_town_3 19 rfl rfl)
theorem dX11_town_90 : decode cX11_town 90 = .ok (.getfield 20, 3) := dk_180 0 20 (dk_at dksX11_town_3 20 rfl rfl)
theorem dX11_town_93 : decode cX11_town 93 = .ok (.bipush 9, 2) := dk_16 9 (dk_at dksX11_town_4 0 rfl rfl)
theorem dX11_town_95 : decode cX11_town 95 = .ok (.iload_n 1, 1) := dk_27 (dk_at dksX11_town_4 2 rfl rfl)
theorem dX11_town_96 : decode cX11_town 96 = .ok (.iadd, 1) := dk_96 (dk_at dksX11_town_4 3 rfl rfl)
theorem dX11_town_97 : decode cX11_town 97 = .ok (.iaload, 1) := dk_46 (dk_at dksX11_town_4 4 rfl rfl)
theorem dX11_town_98 : decode cX11_town 98 = .ok (.iastore, 1) := dk_79 (dk_at dksX11_town_4 5 rfl rfl)
theorem dX11_town_99 : decode cX11_town 99 = .ok (.aload_n 0, 1) := dk_42 (dk_at dksX11_town_4 6 rfl rfl)
theorem dX11_town_100 : decode cX11_town 100 = .ok (.getfield 23, 3) := dk_180 0 23 (dk_at dksX11_town_4 7 rfl rfl)
theorem dX11_town_103 : decode cX11_town 103 = .ok (.iload_n 1, 1) := dk_27 (dk_at dksX11_town_4 10 rfl rfl)
theorem dX11_town_104 : decode cX11_town 104 = .ok (.aload_n 0, 1) := dk_42 (dk_at dksX11_town_4 11 rfl rfl)
theorem dX11_town_105 : decode cX11_town 105 = .ok (.getfield 23, 3) := dk_180 0 23 (dk_at dksX11_town_4 12 rfl rfl)
theorem dX11_town_108 : decode cX11_town 108 = .ok (.bipush 9, 2) := dk_16 9 (dk_at dksX11_town_4 15 rfl rfl)
theorem dX11_town_110 : decode cX11_town 110 = .ok (.iload_n 1, 1) := dk_27 (dk_at dksX11_town_4 17 rfl rfl)
theorem dX11_town_111 : decode cX11_town 111 = .ok (.iadd, 1) := dk_96 (dk_at dksX11_town_4 18 rfl rfl)
theorem dX11_town_112 : decode cX11_town 112 = .ok (.iaload, 1) := dk_46 (dk_at dksX11_town_4 19 rfl rfl)
theorem dX11_town_113 : decode cX11_town 113 = .ok (.iastore, 1) := dk_79 (dk_at dksX11_town_4 20 rfl rfl)
theorem dX11_town_114 : decode cX11_town 114 = .ok (.aload_n 0, 1) := dk_42 (dk_at dksX11_town_4 21 rfl rfl)
theorem dX11_town_115 : decode cX11_town 115 = .ok (.getfield 38, 3) := dk_180 0 38 (dk_at dksX11_town_5 0 rfl rfl)
theorem dX11_town_118 : decode cX11_town 118 = .ok (.iconst 1, 1) := dk_4 (dk_at dksX11_town_5 3 rfl rfl)
theorem dX11_town_119 : decode cX11_town 119 = .ok (.iload_n 1, 1) := dk_27 (dk_at dksX11_town_5 4 rfl rfl)
theorem dX11_town_120 : decode cX11_town 120 = .ok (.iadd, 1) := dk_96 (dk_at dksX11_town_5 5 rfl rfl)
theorem dX11_town_121 : decode cX11_town 121 = .ok (.iload_n 1, 1) := dk_27 (dk_at dksX11_town_5 6 rfl rfl)
theorem dX11_town_122 : decode cX11_town 122 = .ok (.aload_n 0, 1) := dk_42 (dk_at dksX11_town_5 7 rfl rfl)
theorem dX11_town_123 : decode cX11_town 123 = .ok (.getfield 17, 3) := dk_180 0 17 (dk_at dksX11_town_5 8 rfl rfl)
theorem dX11_town_126 : decode cX11_town 126 = .ok (.iconst 0, 1) := dk_3 (dk_at dksX11_town_5 11 rfl rfl)
theorem dX11_town_127 : decode cX11_town 127 = .ok (.iaload, 1) := dk_46 (dk_at dksX11_town_5 12 rfl rfl)
theorem dX11_town_128 : decode cX11_town 128 = .ok (.if_icmp .ge 15, 3) := dk_162 0 15 (dk_at dksX11_town_5 13 rfl rfl)
theorem dX11_town_131 : decode cX11_town 131 = .ok (.aload_n 0, 1) := dk_42 (dk_at dksX11_town_5 16 rfl rfl)
theorem dX11_town_132 : decode cX11_town 132 = .ok (.getfield 26, 3) := dk_180 0 26 (dk_at dksX11_town_5 17 rfl rfl)
theorem dX11_town_135 : decode cX11_town 135 = .ok (.bipush 9, 2) := dk_16 9 (dk_at dksX11_town_5 20 rfl rfl)
theorem dX11_town_137 : decode cX11_town 137 = .ok (.iload_n 1, 1) := dk_27 (dk_at dksX11_town_5 22 rfl rfl)
theorem dX11_town_138 : decode cX11_town 138 = .ok (.iadd, 1) := dk_96 (dk_at dksX11_town_5 23 rfl rfl)
theorem dX11_town_139 : decode cX11_town 139 = .ok (.iaload, 1) := dk_46 (dk_at dksX11_town_6 0 rfl rfl)
theorem dX11_town_140 : decode cX11_town 140 = .ok (.goto 4, 3) := dk_167 0 4 (dk_at dksX11_town_6 1 rfl rfl)
theorem dX11_town_143 : decode cX11_town 143 = .ok (.iconst 0, 1) := dk_3 (dk_at dksX11_town_6 4 rfl rfl)
theorem dX11_town_144 : decode cX11_town 144 = .ok (.iastore, 1) := dk_79 (dk_at dksX11_town_6 5 rfl rfl)
theorem dX11_town_145 : decode cX11_town 145 = .ok (.iinc 1 1, 3) := dk_132 1 1 (dk_at dksX11_town_6 6 rfl rfl)
theorem dX11_town_148 : decode cX11_town 148 = .ok (.goto (-70), 3) := dk_167 255 186 (dk_at dksX11_town_6 9 rfl rfl)
theorem dX11_town_151 : decode cX11_town 151 = .ok (.iconst 0, 1) := dk_3 (dk_at dksX11_town_6 12 rfl rfl)
theorem dX11_town_152 : decode cX11_town 152 = .ok (.istore_n 1, 1) := dk_60 (dk_at dksX11_town_6 13 rfl rfl)
theorem dX11_town_153 : decode cX11_town 153 = .ok (.iload_n 1, 1) := dk_27 (dk_at dksX11_town_6 14 rfl rfl)
theorem dX11_town_154 : decode cX11_town 154 = .ok (.bipush 6, 2) := dk_16 6 (dk_at dksX11_town_6 15 rfl rfl)
theorem dX11_town_156 : decode cX11_town 156 = .ok (.if_icmp .ge 56, 3) := dk_162 0 56 (dk_at dksX11_town_6 17 rfl rfl)
theorem dX11_town_159 : decode cX11_town 159 = .ok (.aload_n 0, 1) := dk_42 (dk_at dksX11_town_6 20 rfl rfl)
theorem dX11_town_160 : decode cX11_town 160 = .ok (.getfield 38, 3) := dk_180 0 38 (dk_at dksX11_town_6 21 rfl rfl)
theorem dX11_town_163 : decode cX11_town 163 = .ok (.bipush 28, 2) := dk_16 28 (dk_at dksX11_town_7 0 rfl rfl)
theorem dX11_town_165 : decode cX11_town 165 = .ok (.iload_n 1, 1) := dk_27 (dk_at dksX11_town_7 2 rfl rfl)
theorem dX11_town_166 : decode cX11_town 166 = .ok (.iadd, 1) := dk_96 (dk_at dksX11_town_7 3 rfl rfl)
theorem dX11_town_167 : decode cX11_town 167 = .ok (.iload_n 1, 1) := dk_27 (dk_at dksX11_town_7 4 rfl rfl)
theorem dX11_town_168 : decode cX11_town 168 = .ok (.aload_n 0, 1) := dk_42 (dk_at dksX11_town_7 5 rfl rfl)
theorem dX11_town_169 : decode cX11_town 169 = .ok (.getfield 29, 3) := dk_180 0 29 (dk_at dksX11_town_7 6 rfl rfl)
theorem dX11_town_172 : decode cX11_town 172 = .ok (.iconst 0, 1) := dk_3 (dk_at dksX11_town_7 9 rfl rfl)
theorem dX11_town_173 : decode cX11_town 173 = .ok (.iaload, 1) := dk_46 (dk_at dksX11_town_7 10 rfl rfl)
theorem dX11_town_174 : decode cX11_town 174 = .ok (.if_icmp .ge 15, 3) := dk_162 0 15 (dk_at dksX11_town_7 11 rfl rfl)
theorem dX11_town_177 : decode cX11_town 177 = .ok (.aload_n 0, 1) := dk_42 (dk_at dksX11_town_7 14 rfl rfl)
theorem dX11_town_178 : decode cX11_town 178 = .ok (.getfield 32, 3) := dk_180 0 32 (dk_at dksX11_town_7 15 rfl rfl)
theorem dX11_town_181 : decode cX11_town 181 = .ok (.bipush 6, 2) := dk_16 6 (dk_at dksX11_town_7 18 rfl rfl)
theorem dX11_town_183 : decode cX11_town 183 = .ok (.iload_n 1, 1) := dk_27 (dk_at dksX11_town_7 20 rfl rfl)
theorem dX11_town_184 : decode cX11_town 184 = .ok (.iadd, 1) := dk_96 (dk_at dksX11_town_7 21 rfl rfl)
theorem dX11_town_185 : decode cX11_town 185 = .ok (.iaload, 1) := dk_46 (dk_at dksX11_town_7 22 rfl rfl)
theorem dX11_town_186 : decode cX11_town 186 = .ok (.goto 4, 3) := dk_167 0 4 (dk_at dksX11_town_8 0 rfl rfl)
theorem dX11_town_189 : decode cX11_town 189 = .ok (.iconst 0, 1) := dk_3 (dk_at dksX11_town_8 3 rfl rfl)
theorem dX11_town_190 : decode cX11_town 190 = .ok (.iastore, 1) := dk_79 (dk_at dksX11_town_8 4 rfl rfl)
theorem dX11_town_191 : decode cX11_town 191 = .ok (.aload_n 0, 1) := dk_42 (dk_at dksX11_town_8 5 rfl rfl)
theorem dX11_town_192 : decode cX11_town 192 = .ok (.getfield 35, 3) := dk_180 0 35 (dk_at dksX11_town_8 6 rfl rfl)
theorem dX11_town_195 : decode cX11_town 195 = .ok (.iload_n 1, 1) := dk_27 (dk_at dksX11_town_8 9 rfl rfl)
theorem dX11_town_196 : decode cX11_town 196 = .ok (.aload_n 0, 1) := dk_42 (dk_at dksX11_town_8 10 rfl rfl)
theorem dX11_town_197 : decode cX11_town 197 = .ok (.getfield 35, 3) := dk_180 0 35 (dk_at dksX11_town_8 11 rfl rfl)
theorem dX11_town_200 : decode cX11_town 200 = .ok (.bipush 6, 2) := dk_16 6 (dk_at dksX11_town_8 14 rfl rfl)
theorem dX11_town_202 : decode cX11_town 202 = .ok (.iload_n 1, 1) := dk_27 (dk_at dksX11_town_8 16 rfl rfl)
theorem dX11_town_203 : decode cX11_town 203 = .ok (.iadd, 1) := dk_96 (dk_at dksX11_town_8 17 rfl rfl)
theorem dX11_town_204 : decode cX11_town 204 = .ok (.iaload, 1) := dk_46 (dk_at dksX11_town_8 18 rfl rfl)
theorem dX11_town_205 : decode cX11_town 205 = .ok (.iastore, 1) := dk_79 (dk_at dksX11_town_8 19 rfl rfl)
theorem dX11_town_206 : decode cX11_town 206 = .ok (.iinc 1 1, 3) := dk_132 1 1 (dk_at dksX11_town_8 20 rfl rfl)
theorem dX11_town_209 : decode cX11_town 209 = .ok (.goto (-56), 3) := dk_167 255 200 (dk_at dksX11_town_9 0 rfl rfl)
theorem dX11_town_212 : decode cX11_town 212 = .ok (.aload_n 0, 1) := dk_42 (dk_at dksX11_town_9 3 rfl rfl)
theorem dX11_town_213 : decode cX11_town 213 = .ok (.getfield 41, 3) := dk_180 0 41 (dk_at dksX11_town_9 4 rfl rfl)
theorem dX11_town_216 : decode cX11_town 216 = .ok (.iconst 0, 1) := dk_3 (dk_at dksX11_town_9 7 rfl rfl)
theorem dX11_town_217 : decode cX11_town 217 = .ok (.iconst 0, 1) := dk_3 (dk_at dksX11_town_9 8 rfl rfl)
theorem dX11_town_218 : decode cX11_town 218 = .ok (.iastore, 1) := dk_79 (dk_at dksX11_town_9 9 rfl rfl)
theorem dX11_town_219 : decode cX11_town 219 = .ok (.aload_n 0, 1) := dk_42 (dk_at dksX11_town_9 10 rfl rfl)
theorem dX11_town_220 : decode cX11_town 220 = .ok (.getfield 50, 3) := dk_180 0 50 (dk_at dksX11_town_9 11 rfl rfl)
theorem dX11_town_223 : decode cX11_town 223 = .ok (.iconst 0, 1) := dk_3 (dk_at dksX11_town_9 14 rfl rfl)
theorem dX11_town_224 : decode cX11_town 224 = .ok (.iconst 0, 1) := dk_3 (dk_at dksX11_town_9 15 rfl rfl)
theorem dX11_town_225 : decode cX11_town 225 = .ok (.bastore, 1) := dk_84 (dk_at dksX11_town_9 16 rfl rfl)
theorem dX11_town_226 : decode cX11_town 226 = .ok (.aload_n 0, 1) := dk_42 (dk_at dksX11_town_9 17 rfl rfl)
theorem dX11_town_227 : decode cX11_town 227 = .ok (.getfield 50, 3) := dk_180 0 50 (dk_at dksX11_town_9 18 rfl rfl)
theorem dX11_town_230 : decode cX11_town 230 = .ok (.iconst 1, 1) := dk_4 (dk_at dksX11_town_9 21 rfl rfl)
theorem dX11_town_231 : decode cX11_town 231 = .ok (.iconst 0, 1) := dk_3 (dk_at dksX11_town_9 22 rfl rfl)
theorem dX11_town_232 : decode cX11_town 232 = .ok (.bastore, 1) := dk_84 (dk_at dksX11_town_9 23 rfl rfl)
theorem dX11_town_233 : decode cX11_town 233 = .ok (.aload_n 0, 1) := dk_42 (dk_at dksX11_town_10 0 rfl rfl)
theorem dX11_town_234 : decode cX11_town 234 = .ok (.iconst 0, 1) := dk_3 (dk_at dksX11_town_10 1 rfl rfl)
theorem dX11_town_235 : decode cX11_town 235 = .ok (.putfield 116, 3) := dk_181 0 116 (dk_at dksX11_town_10 2 rfl rfl)
theorem dX11_town_238 : decode cX11_town 238 = .ok (.aload_n 0, 1) := dk_42 (dk_at dksX11_town_10 5 rfl rfl)
theorem dX11_town_239 : decode cX11_town 239 = .ok (.iconst 0, 1) := dk_3 (dk_at dksX11_town_10 6 rfl rfl)
theorem dX11_town_240 : decode cX11_town 240 = .ok (.putfield 67, 3) := dk_181 0 67 (dk_at dksX11_town_10 7 rfl rfl)
theorem dX11_town_243 : decode cX11_town 243 = .ok (.aload_n 0, 1) := dk_42 (dk_at dksX11_town_10 10 rfl rfl)
theorem dX11_town_244 : decode cX11_town 244 = .ok (.getfield 102, 3) := dk_180 0 102 (dk_at dksX11_town_10 11 rfl rfl)
theorem dX11_town_247 : decode cX11_town 247 = .ok (.ireturn, 1) := dk_172 (dk_at dksX11_town_10 14 rfl rfl)
abbrev cX11_read : ByteArray := prog_14_method_14_code
def yX11_read : MethodName := ⟨RX11, "read", "()V"⟩
def dkwX11_read_6 : List UInt8 := [167, 255, 160, 177]
abbrev dktX11_read_6 : List UInt8 := dkwX11_read_6 ++ []
def dkwX11_read_5 : List UInt8 := [6, 160, 0, 7, 4, 167, 0, 4, 3, 182, 0, 94, 42, 89, 180, 0, 102, 4, 96, 181, 0, 102]
abbrev dktX11_read_5 : List UInt8 := dkwX11_read_5 ++ dktX11_read_6
def dkwX11_read_4 : List UInt8 := [167, 0, 4, 3, 182, 0, 94, 42, 180, 0, 87, 154, 0, 35, 42, 27, 182, 0, 109, 42, 42, 180, 0, 84]
abbrev dktX11_read_4 : List UInt8 := dkwX11_read_4 ++ dktX11_read_5
def dkwX11_read_3 : List UInt8 := [167, 0, 4, 3, 60, 42, 42, 180, 0, 84, 4, 160, 0, 15, 42, 27, 182, 0, 105, 153, 0, 7, 4]
abbrev dktX11_read_3 : List UInt8 := dkwX11_read_3 ++ dktX11_read_4
def dkwX11_read_2 : List UInt8 := [159, 0, 94, 42, 180, 0, 87, 154, 0, 87, 42, 180, 0, 84, 4, 160, 0, 10, 42, 180, 0, 81]
abbrev dktX11_read_2 : List UInt8 := dkwX11_read_2 ++ dktX11_read_3
def dkwX11_read_1 : List UInt8 := [180, 0, 17, 4, 3, 79, 42, 180, 0, 29, 4, 3, 79, 42, 182, 0, 91, 42, 180, 0, 84, 7]
abbrev dktX11_read_1 : List UInt8 := dkwX11_read_1 ++ dktX11_read_2
def dkwX11_read_0 : List UInt8 := [42, 3, 181, 0, 71, 42, 3, 181, 0, 87, 42, 3, 181, 0, 102, 42, 180, 0, 13, 4, 7, 79, 42]
abbrev dktX11_read_0 : List UInt8 := dkwX11_read_0 ++ dktX11_read_1
theorem dksX11_read_0 : cX11_read.data.toList.drop 0 = dktX11_read_0 := by decide +kernel
theorem dksX11_read_1 : cX11_read.data.toList.drop 23 = dktX11_read_1 := dk_seg dksX11_read_0 23 rfl rfl
theorem dksX11_read_2 : cX11_read.data.toList.drop 45 = dktX11_read_2 := dk_seg dksX11_read_1 22 rfl rfl
theorem dksX11_read_3 : cX11_read.data.toList.drop 67 = dktX11_read_3 := dk_seg dksX11_read_2 22 rfl rfl
theorem dksX11_read_4 : cX11_read.data.toList.drop 90 = dktX11_read_4 := dk_seg dksX11_read_3 23 rfl rfl
theorem dksX11_read_5 : cX11_read.data.toList.drop 114 = dktX11_read_5 := dk_seg dksX11_read_4 24 rfl rfl
theorem dksX11_read_6 : cX11_read.data.toList.drop 136 = dktX11_read_6 := dk_seg dksX11_read_5 22 rfl rfl
theorem dX11_read_0 : decode cX11_read 0 = .ok (.aload_n 0, 1) := dk_42 (dk_at dksX11_read_0 0 rfl rfl)
theorem dX11_read_1 : decode cX11_read 1 = .ok (.iconst 0, 1) := dk_3 (dk_at dksX11_read_0 1 rfl rfl)
theorem dX11_read_2 : decode cX11_read 2 = .ok (.putfield 71, 3) := dk_181 0 71 (dk_at dksX11_read_0 2 rfl rfl)
theorem dX11_read_5 : decode cX11_read 5 = .ok (.aload_n 0, 1) := dk_42 (dk_at dksX11_read_0 5 rfl rfl)
theorem dX11_read_6 : decode cX11_read 6 = .ok (.iconst 0, 1) := dk_3 (dk_at dksX11_read_0 6 rfl rfl)
theorem dX11_read_7 : decode cX11_read 7 = .ok (.putfield 87, 3) := dk_181 0 87 (dk_at dksX11_read_0 7 rfl rfl)
theorem dX11_read_10 : decode cX11_read 10 = .ok (.aload_n 0, 1) := dk_42 (dk_at dksX11_read_0 10 rfl rfl)
theorem dX11_read_11 : decode cX11_read 11 = .ok (.iconst 0, 1) := dk_3 (dk_at dksX11_read_0 11 rfl rfl)
theorem dX11_read_12 : decode cX11_read 12 = .ok (.putfield 102, 3) := dk_181 0 102 (dk_at dksX11_read_0 12 rfl rfl)
theorem dX11_read_15 : decode cX11_read 15 = .ok (.aload_n 0, 1) := dk_42 (dk_at dksX11_read_0 15 rfl rfl)
theorem dX11_read_16 : decode cX11_read 16 = .ok (.getfield 13, 3) := dk_180 0 13 (dk_at dksX11_read_0 16 rfl rfl)
theorem dX11_read_19 : decode cX11_read 19 = .ok (.iconst 1, 1) := dk_4 (dk_at dksX11_read_0 19 rfl rfl)
theorem dX11_read_20 : decode cX11_read 20 = .ok (.iconst 4, 1) := dk_7 (dk_at dksX11_read_0 20 rfl rfl)
theorem dX11_read_21 : decode cX11_read 21 = .ok (.iastore, 1) := dk_79 (dk_at dksX11_read_0 21 rfl rfl)
theorem dX11_read_22 : decode cX11_read 22 = .ok (.aload_n 0, 1) := dk_42 (dk_at dksX11_read_0 22 rfl rfl)
theorem dX11_read_23 : decode cX11_read 23 = .ok (.getfield 17, 3) := dk_180 0 17 (dk_at dksX11_read_1 0 rfl rfl)
theorem dX11_read_26 : decode cX11_read 26 = .ok (.iconst 1, 1) := dk_4 (dk_at dksX11_read_1 3 rfl rfl)
theorem dX11_read_27 : decode cX11_read 27 = .ok (.iconst 0, 1) := dk_3 (dk_at dksX11_read_1 4 rfl rfl)
theorem dX11_read_28 : decode cX11_read 28 = .ok (.iastore, 1) := dk_79 (dk_at dksX11_read_1 5 rfl rfl)
theorem dX11_read_29 : decode cX11_read 29 = .ok (.aload_n 0, 1) := dk_42 (dk_at dksX11_read_1 6 rfl rfl)
theorem dX11_read_30 : decode cX11_read 30 = .ok (.getfield 29, 3) := dk_180 0 29 (dk_at dksX11_read_1 7 rfl rfl)
theorem dX11_read_33 : decode cX11_read 33 = .ok (.iconst 1, 1) := dk_4 (dk_at dksX11_read_1 10 rfl rfl)
theorem dX11_read_34 : decode cX11_read 34 = .ok (.iconst 0, 1) := dk_3 (dk_at dksX11_read_1 11 rfl rfl)
theorem dX11_read_35 : decode cX11_read 35 = .ok (.iastore, 1) := dk_79 (dk_at dksX11_read_1 12 rfl rfl)
theorem dX11_read_36 : decode cX11_read 36 = .ok (.aload_n 0, 1) := dk_42 (dk_at dksX11_read_1 13 rfl rfl)
theorem dX11_read_37 : decode cX11_read 37 = .ok (.invokevirtual 91, 3) := dk_182 0 91 (dk_at dksX11_read_1 14 rfl rfl)
theorem dX11_read_40 : decode cX11_read 40 = .ok (.aload_n 0, 1) := dk_42 (dk_at dksX11_read_1 17 rfl rfl)
theorem dX11_read_41 : decode cX11_read 41 = .ok (.getfield 84, 3) := dk_180 0 84 (dk_at dksX11_read_1 18 rfl rfl)
theorem dX11_read_44 : decode cX11_read 44 = .ok (.iconst 4, 1) := dk_7 (dk_at dksX11_read_1 21 rfl rfl)
theorem dX11_read_45 : decode cX11_read 45 = .ok (.if_icmp .eq 94, 3) := dk_159 0 94 (dk_at dksX11_read_2 0 rfl rfl)
theorem dX11_read_48 : decode cX11_read 48 = .ok (.aload_n 0, 1) := dk_42 (dk_at dksX11_read_2 3 rfl rfl)
theorem dX11_read_49 : decode cX11_read 49 = .ok (.getfield 87, 3) := dk_180 0 87 (dk_at dksX11_read_2 4 rfl rfl)
theorem dX11_read_52 : decode cX11_read 52 = .ok (.ifCond .ne 87, 3) := dk_154 0 87 (dk_at dksX11_read_2 7 rfl rfl)
theorem dX11_read_55 : decode cX11_read 55 = .ok (.aload_n 0, 1) := dk_42 (dk_at dksX11_read_2 10 rfl rfl)
theorem dX11_read_56 : decode cX11_read 56 = .ok (.getfield 84, 3) := dk_180 0 84 (dk_at dksX11_read_2 11 rfl rfl)
theorem dX11_read_59 : decode cX11_read 59 = .ok (.iconst 1, 1) := dk_4 (dk_at dksX11_read_2 14 rfl rfl)
theorem dX11_read_60 : decode cX11_read 60 = .ok (.if_icmp .ne 10, 3) := dk_160 0 10 (dk_at dksX11_read_2 15 rfl rfl)
theorem dX11_read_63 : decode cX11_read 63 = .ok (.aload_n 0, 1) := dk_42 (dk_at dksX11_read_2 18 rfl rfl)
theorem dX11_read_64 : decode cX11_read 64 = .ok (.getfield 81, 3) := dk_180 0 81 (dk_at dksX11_read_2 19 rfl rfl)
theorem dX11_read_67 : decode cX11_read 67 = .ok (.goto 4, 3) := dk_167 0 4 (dk_at dksX11_read_3 0 rfl rfl)
theorem dX11_read_70 : decode cX11_read 70 = .ok (.iconst 0, 1) := dk_3 (dk_at dksX11_read_3 3 rfl rfl)
theorem dX11_read_71 : decode cX11_read 71 = .ok (.istore_n 1, 1) := dk_60 (dk_at dksX11_read_3 4 rfl rfl)
theorem dX11_read_72 : decode cX11_read 72 = .ok (.aload_n 0, 1) := dk_42 (dk_at dksX11_read_3 5 rfl rfl)
theorem dX11_read_73 : decode cX11_read 73 = .ok (.aload_n 0, 1) := dk_42 (dk_at dksX11_read_3 6 rfl rfl)
theorem dX11_read_74 : decode cX11_read 74 = .ok (.getfield 84, 3) := dk_180 0 84 (dk_at dksX11_read_3 7 rfl rfl)
theorem dX11_read_77 : decode cX11_read 77 = .ok (.iconst 1, 1) := dk_4 (dk_at dksX11_read_3 10 rfl rfl)
theorem dX11_read_78 : decode cX11_read 78 = .ok (.if_icmp .ne 15, 3) := dk_160 0 15 (dk_at dksX11_read_3 11 rfl rfl)
theorem dX11_read_81 : decode cX11_read 81 = .ok (.aload_n 0, 1) := dk_42 (dk_at dksX11_read_3 14 rfl rfl)
theorem dX11_read_82 : decode cX11_read 82 = .ok (.iload_n 1, 1) := dk_27 (dk_at dksX11_read_3 15 rfl rfl)
theorem dX11_read_83 : decode cX11_read 83 = .ok (.invokevirtual 105, 3) := dk_182 0 105 (dk_at dksX11_read_3 16 rfl rfl)
theorem dX11_read_86 : decode cX11_read 86 = .ok (.ifCond .eq 7, 3) := dk_153 0 7 (dk_at dksX11_read_3 19 rfl rfl)
theorem dX11_read_89 : decode cX11_read 89 = .ok (.iconst 1, 1) := dk_4 (dk_at dksX11_read_3 22 rfl rfl)
theorem dX11_read_90 : decode cX11_read 90 = .ok (.goto 4, 3) := dk_167 0 4 (dk_at dksX11_read_4 0 rfl rfl)
theorem dX11_read_93 : decode cX11_read 93 = .ok (.iconst 0, 1) := dk_3 (dk_at dksX11_read_4 3 rfl rfl)
theorem dX11_read_94 : decode cX11_read 94 = .ok (.invokevirtual 94, 3) := dk_182 0 94 (dk_at dksX11_read_4 4 rfl rfl)
theorem dX11_read_97 : decode cX11_read 97 = .ok (.aload_n 0, 1) := dk_42 (dk_at dksX11_read_4 7 rfl rfl)
theorem dX11_read_98 : decode cX11_read 98 = .ok (.getfield 87, 3) := dk_180 0 87 (dk_at dksX11_read_4 8 rfl rfl)
theorem dX11_read_101 : decode cX11_read 101 = .ok (.ifCond .ne 35, 3) := dk_154 0 35 (dk_at dksX11_read_4 11 rfl rfl)
theorem dX11_read_104 : decode cX11_read 104 = .ok (.aload_n 0, 1) := dk_42 (dk_at dksX11_read_4 14 rfl rfl)
theorem dX11_read_105 : decode cX11_read 105 = .ok (.iload_n 1, 1) := dk_27 (dk_at dksX11_read_4 15 rfl rfl)
theorem dX11_read_106 : decode cX11_read 106 = .ok (.invokevirtual 109, 3) := dk_182 0 109 (dk_at dksX11_read_4 16 rfl rfl)
theorem dX11_read_109 : decode cX11_read 109 = .ok (.aload_n 0, 1) := dk_42 (dk_at dksX11_read_4 19 rfl rfl)
theorem dX11_read_110 : decode cX11_read 110 = .ok (.aload_n 0, 1) := dk_42 (dk_at dksX11_read_4 20 rfl rfl)
theorem dX11_read_111 : decode cX11_read 111 = .ok (.getfield 84, 3) := dk_180 0 84 (dk_at dksX11_read_4 21 rfl rfl)
theorem dX11_read_114 : decode cX11_read 114 = .ok (.iconst 3, 1) := dk_6 (dk_at dksX11_read_5 0 rfl rfl)
theorem dX11_read_115 : decode cX11_read 115 = .ok (.if_icmp .ne 7, 3) := dk_160 0 7 (dk_at dksX11_read_5 1 rfl rfl)
theorem dX11_read_118 : decode cX11_read 118 = .ok (.iconst 1, 1) := dk_4 (dk_at dksX11_read_5 4 rfl rfl)
theorem dX11_read_119 : decode cX11_read 119 = .ok (.goto 4, 3) := dk_167 0 4 (dk_at dksX11_read_5 5 rfl rfl)
theorem dX11_read_122 : decode cX11_read 122 = .ok (.iconst 0, 1) := dk_3 (dk_at dksX11_read_5 8 rfl rfl)
theorem dX11_read_123 : decode cX11_read 123 = .ok (.invokevirtual 94, 3) := dk_182 0 94 (dk_at dksX11_read_5 9 rfl rfl)
theorem dX11_read_126 : decode cX11_read 126 = .ok (.aload_n 0, 1) := dk_42 (dk_at dksX11_read_5 12 rfl rfl)
theorem dX11_read_127 : decode cX11_read 127 = .ok (.dup, 1) := dk_89 (dk_at dksX11_read_5 13 rfl rfl)
theorem dX11_read_128 : decode cX11_read 128 = .ok (.getfield 102, 3) := dk_180 0 102 (dk_at dksX11_read_5 14 rfl rfl)
theorem dX11_read_131 : decode cX11_read 131 = .ok (.iconst 1, 1) := dk_4 (dk_at dksX11_read_5 17 rfl rfl)
theorem dX11_read_132 : decode cX11_read 132 = .ok (.iadd, 1) := dk_96 (dk_at dksX11_read_5 18 rfl rfl)
theorem dX11_read_133 : decode cX11_read 133 = .ok (.putfield 102, 3) := dk_181 0 102 (dk_at dksX11_read_5 19 rfl rfl)
theorem dX11_read_136 : decode cX11_read 136 = .ok (.goto (-96), 3) := dk_167 255 160 (dk_at dksX11_read_6 0 rfl rfl)
theorem dX11_read_139 : decode cX11_read 139 = .ok (.return_, 1) := dk_177 (dk_at dksX11_read_6 3 rfl rfl)
abbrev cX11_step : ByteArray := prog_14_method_9_code
def yX11_step : MethodName := ⟨RX11, "step", "()V"⟩
def dkwX11_step_11 : List UInt8 := [8, 181, 0, 84, 177]
abbrev dktX11_step_11 : List UInt8 := dkwX11_step_11 ++ []
def dkwX11_step_10 : List UInt8 := [167, 0, 28, 42, 89, 180, 0, 71, 4, 96, 181, 0, 71, 42, 27, 16, 59, 160, 0, 7, 6, 167, 0, 4]
abbrev dktX11_step_10 : List UInt8 := dkwX11_step_10 ++ dktX11_step_11
def dkwX11_step_9 : List UInt8 := [42, 180, 0, 78, 100, 4, 160, 0, 7, 27, 167, 0, 4, 3, 181, 0, 81, 42, 4, 181, 0, 84]
abbrev dktX11_step_9 : List UInt8 := dkwX11_step_9 ++ dktX11_step_10
def dkwX11_step_8 : List UInt8 := [184, 0, 63, 153, 0, 16, 42, 89, 180, 0, 71, 4, 96, 181, 0, 71, 167, 255, 232, 42, 42, 180, 0, 71]
abbrev dktX11_step_8 : List UInt8 := dkwX11_step_8 ++ dktX11_step_9
def dkwX11_step_7 : List UInt8 := [167, 0, 96, 27, 16, 97, 16, 122, 184, 0, 63, 153, 0, 60, 42, 182, 0, 74, 16, 97, 16, 122]
abbrev dktX11_step_7 : List UInt8 := dkwX11_step_7 ++ dktX11_step_8
def dkwX11_step_6 : List UInt8 := [160, 0, 20, 42, 180, 0, 71, 42, 180, 0, 78, 100, 4, 164, 0, 7, 8, 167, 0, 4, 5, 181, 0, 84]
abbrev dktX11_step_6 : List UInt8 := dkwX11_step_6 ++ dktX11_step_7
def dkwX11_step_5 : List UInt8 := [180, 0, 71, 4, 96, 181, 0, 71, 167, 255, 197, 42, 42, 180, 0, 81, 16, 99, 163, 0, 22, 27, 16, 48]
abbrev dktX11_step_5 : List UInt8 := dkwX11_step_5 ++ dktX11_step_6
def dkwX11_step_4 : List UInt8 := [167, 0, 18, 16, 10, 42, 180, 0, 81, 104, 42, 182, 0, 74, 96, 16, 48, 100, 181, 0, 81, 42, 89]
abbrev dktX11_step_4 : List UInt8 := dkwX11_step_4 ++ dktX11_step_5
def dkwX11_step_3 : List UInt8 := [16, 57, 184, 0, 63, 153, 0, 51, 42, 42, 180, 0, 81, 16, 99, 164, 0, 10, 42, 180, 0, 81]
abbrev dktX11_step_3 : List UInt8 := dkwX11_step_3 ++ dktX11_step_4
def dkwX11_step_2 : List UInt8 := [181, 0, 84, 167, 0, 209, 27, 16, 48, 16, 57, 184, 0, 63, 153, 0, 105, 42, 182, 0, 74, 16, 48]
abbrev dktX11_step_2 : List UInt8 := dkwX11_step_2 ++ dktX11_step_3
def dkwX11_step_1 : List UInt8 := [180, 0, 71, 181, 0, 78, 42, 3, 181, 0, 81, 42, 182, 0, 74, 60, 27, 16, 247, 160, 0, 11, 42, 7]
abbrev dktX11_step_1 : List UInt8 := dkwX11_step_1 ++ dktX11_step_2
def dkwX11_step_0 : List UInt8 := [42, 182, 0, 74, 16, 32, 160, 0, 16, 42, 89, 180, 0, 71, 4, 96, 181, 0, 71, 167, 255, 237, 42, 42]
abbrev dktX11_step_0 : List UInt8 := dkwX11_step_0 ++ dktX11_step_1
theorem dksX11_step_0 : cX11_step.data.toList.drop 0 = dktX11_step_0 := by decide +kernel
theorem dksX11_step_1 : cX11_step.data.toList.drop 24 = dktX11_step_1 := dk_seg dksX11_step_0 24 rfl rfl
theorem dksX11_step_2 : cX11_step.data.toList.drop 48 = dktX11_step_2 := dk_seg dksX11_step_1 24 rfl rfl
theorem dksX11_step_3 : cX11_step.data.toList.drop 71 = dktX11_step_3 := dk_seg dksX11_step_2 23 rfl rfl
theorem dksX11_step_4 : cX11_step.data.toList.drop 93 = dktX11_step_4 := dk_seg dksX11_step_3 22 rfl rfl
theorem dksX11_step_5 : cX11_step.data.toList.drop 116 = dktX11_step_5 := dk_seg dksX11_step_4 23 rfl rfl
theorem dksX11_step_6 : cX11_step.data.toList.drop 140 = dktX11_step_6 := dk_seg dksX11_step_5 24 rfl rfl
theorem dksX11_step_7 : cX11_step.data.toList.drop 164 = dktX11_step_7 := dk_seg dksX11_step_6 24 rfl rfl
theorem dksX11_step_8 : cX11_step.data.toList.drop 186 = dktX11_step_8 := dk_seg dksX11_step_7 22 rfl rfl
theorem dksX11_step_9 : cX11_step.data.toList.drop 210 = dktX11_step_9 := dk_seg dksX11_step_8 24 rfl rfl
theorem dksX11_step_10 : cX11_step.data.toList.drop 232 = dktX11_step_10 := dk_seg dksX11_step_9 22 rfl rfl
theorem dksX11_step_11 : cX11_step.data.toList.drop 256 = dktX11_step_11 := dk_seg dksX11_step_10 24 rfl rfl
theorem dX11_step_0 : decode cX11_step 0 = .ok (.aload_n 0, 1) := dk_42 (dk_at dksX11_step_0 0 rfl rfl)
theorem dX11_step_1 : decode cX11_step 1 = .ok (.invokevirtual 74, 3) := dk_182 0 74 (dk_at dksX11_step_0 1 rfl rfl)
theorem dX11_step_4 : decode cX11_step 4 = .ok (.bipush 32, 2) := dk_16 32 (dk_at dksX11_step_0 4 rfl rfl)
theorem dX11_step_6 : decode cX11_step 6 = .ok (.if_icmp .ne 16, 3) := dk_160 0 16 (dk_at dksX11_step_0 6 rfl rfl)
theorem dX11_step_9 : decode cX11_step 9 = .ok (.aload_n 0, 1) := dk_42 (dk_at dksX11_step_0 9 rfl rfl)
theorem dX11_step_10 : decode cX11_step 10 = .ok (.dup, 1) := dk_89 (dk_at dksX11_step_0 10 rfl rfl)
theorem dX11_step_11 : decode cX11_step 11 = .ok (.getfield 71, 3) := dk_180 0 71 (dk_at dksX11_step_0 11 rfl rfl)
theorem dX11_step_14 : decode cX11_step 14 = .ok (.iconst 1, 1) := dk_4 (dk_at dksX11_step_0 14 rfl rfl)
theorem dX11_step_15 : decode cX11_step 15 = .ok (.iadd, 1) := dk_96 (dk_at dksX11_step_0 15 rfl rfl)
theorem dX11_step_16 : decode cX11_step 16 = .ok (.putfield 71, 3) := dk_181 0 71 (dk_at dksX11_step_0 16 rfl rfl)
theorem dX11_step_19 : decode cX11_step 19 = .ok (.goto (-19), 3) := dk_167 255 237 (dk_at dksX11_step_0 19 rfl rfl)
theorem dX11_step_22 : decode cX11_step 22 = .ok (.aload_n 0, 1) := dk_42 (dk_at dksX11_step_0 22 rfl rfl)
theorem dX11_step_23 : decode cX11_step 23 = .ok (.aload_n 0, 1) := dk_42 (dk_at dksX11_step_0 23 rfl rfl)
theorem dX11_step_24 : decode cX11_step 24 = .ok (.getfield 71, 3) := dk_180 0 71 (dk_at dksX11_step_1 0 rfl rfl)
theorem dX11_step_27 : decode cX11_step 27 = .ok (.putfield 78, 3) := dk_181 0 78 (dk_at dksX11_step_1 3 rfl rfl)
theorem dX11_step_30 : decode cX11_step 30 = .ok (.aload_n 0, 1) := dk_42 (dk_at dksX11_step_1 6 rfl rfl)
theorem dX11_step_31 : decode cX11_step 31 = .ok (.iconst 0, 1) := dk_3 (dk_at dksX11_step_1 7 rfl rfl)
theorem dX11_step_32 : decode cX11_step 32 = .ok (.putfield 81, 3) := dk_181 0 81 (dk_at dksX11_step_1 8 rfl rfl)
theorem dX11_step_35 : decode cX11_step 35 = .ok (.aload_n 0, 1) := dk_42 (dk_at dksX11_step_1 11 rfl rfl)
theorem dX11_step_36 : decode cX11_step 36 = .ok (.invokevirtual 74, 3) := dk_182 0 74 (dk_at dksX11_step_1 12 rfl rfl)
theorem dX11_step_39 : decode cX11_step 39 = .ok (.istore_n 1, 1) := dk_60 (dk_at dksX11_step_1 15 rfl rfl)
theorem dX11_step_40 : decode cX11_step 40 = .ok (.iload_n 1, 1) := dk_27 (dk_at dksX11_step_1 16 rfl rfl)
theorem dX11_step_41 : decode cX11_step 41 = .ok (.bipush (-9), 2) := dk_16 247 (dk_at dksX11_step_1 17 rfl rfl)
theorem dX11_step_43 : decode cX11_step 43 = .ok (.if_icmp .ne 11, 3) := dk_160 0 11 (dk_at dksX11_step_1 19 rfl rfl)
theorem dX11_step_46 : decode cX11_step 46 = .ok (.aload_n 0, 1) := dk_42 (dk_at dksX11_step_1 22 rfl rfl)
theorem dX11_step_47 : decode cX11_step 47 = .ok (.iconst 4, 1) := dk_7 (dk_at dksX11_step_1 23 rfl rfl)
theorem dX11_step_48 : decode cX11_step 48 = .ok (.putfield 84, 3) := dk_181 0 84 (dk_at dksX11_step_2 0 rfl rfl)
theorem dX11_step_51 : decode cX11_step 51 = .ok (.goto 209, 3) := dk_167 0 209 (dk_at dksX11_step_2 3 rfl rfl)
theorem dX11_step_54 : decode cX11_step 54 = .ok (.iload_n 1, 1) := dk_27 (dk_at dksX11_step_2 6 rfl rfl)
theorem dX11_step_55 : decode cX11_step 55 = .ok (.bipush 48, 2) := dk_16 48 (dk_at dksX11_step_2 7 rfl rfl)
theorem dX11_step_57 : decode cX11_step 57 = .ok (.bipush 57, 2) := dk_16 57 (dk_at dksX11_step_2 9 rfl rfl)
theorem dX11_step_59 : decode cX11_step 59 = .ok (.invokestatic 63, 3) := dk_184 0 63 (dk_at dksX11_step_2 11 rfl rfl)
theorem dX11_step_62 : decode cX11_step 62 = .ok (.ifCond .eq 105, 3) := dk_153 0 105 (dk_at dksX11_step_2 14 rfl rfl)
theorem dX11_step_65 : decode cX11_step 65 = .ok (.aload_n 0, 1) := dk_42 (dk_at dksX11_step_2 17 rfl rfl)
theorem dX11_step_66 : decode cX11_step 66 = .ok (.invokevirtual 74, 3) := dk_182 0 74 (dk_at dksX11_step_2 18 rfl rfl)
theorem dX11_step_69 : decode cX11_step 69 = .ok (.bipush 48, 2) := dk_16 48 (dk_at dksX11_step_2 21 rfl rfl)
theorem dX11_step_71 : decode cX11_step 71 = .ok (.bipush 57, 2) := dk_16 57 (dk_at dksX11_step_3 0 rfl rfl)
theorem dX11_step_73 : decode cX11_step 73 = .ok (.invokestatic 63, 3) := dk_184 0 63 (dk_at dksX11_step_3 2 rfl rfl)
theorem dX11_step_76 : decode cX11_step 76 = .ok (.ifCond .eq 51, 3) := dk_153 0 51 (dk_at dksX11_step_3 5 rfl rfl)
theorem dX11_step_79 : decode cX11_step 79 = .ok (.aload_n 0, 1) := dk_42 (dk_at dksX11_step_3 8 rfl rfl)
theorem dX11_step_80 : decode cX11_step 80 = .ok (.aload_n 0, 1) := dk_42 (dk_at dksX11_step_3 9 rfl rfl)
theorem dX11_step_81 : decode cX11_step 81 = .ok (.getfield 81, 3) := dk_180 0 81 (dk_at dksX11_step_3 10 rfl rfl)
theorem dX11_step_84 : decode cX11_step 84 = .ok (.bipush 99, 2) := dk_16 99 (dk_at dksX11_step_3 13 rfl rfl)
theorem dX11_step_86 : decode cX11_step 86 = .ok (.if_icmp .le 10, 3) := dk_164 0 10 (dk_at dksX11_step_3 15 rfl rfl)
theorem dX11_step_89 : decode cX11_step 89 = .ok (.aload_n 0, 1) := dk_42 (dk_at dksX11_step_3 18 rfl rfl)
theorem dX11_step_90 : decode cX11_step 90 = .ok (.getfield 81, 3) := dk_180 0 81 (dk_at dksX11_step_3 19 rfl rfl)
theorem dX11_step_93 : decode cX11_step 93 = .ok (.goto 18, 3) := dk_167 0 18 (dk_at dksX11_step_4 0 rfl rfl)
theorem dX11_step_96 : decode cX11_step 96 = .ok (.bipush 10, 2) := dk_16 10 (dk_at dksX11_step_4 3 rfl rfl)
theorem dX11_step_98 : decode cX11_step 98 = .ok (.aload_n 0, 1) := dk_42 (dk_at dksX11_step_4 5 rfl rfl)
theorem dX11_step_99 : decode cX11_step 99 = .ok (.getfield 81, 3) := dk_180 0 81 (dk_at dksX11_step_4 6 rfl rfl)
theorem dX11_step_102 : decode cX11_step 102 = .ok (.imul, 1) := dk_104 (dk_at dksX11_step_4 9 rfl rfl)
theorem dX11_step_103 : decode cX11_step 103 = .ok (.aload_n 0, 1) := dk_42 (dk_at dksX11_step_4 10 rfl rfl)
theorem dX11_step_104 : decode cX11_step 104 = .ok (.invokevirtual 74, 3) := dk_182 0 74 (dk_at dksX11_step_4 11 rfl rfl)
theorem dX11_step_107 : decode cX11_step 107 = .ok (.iadd, 1) := dk_96 (dk_at dksX11_step_4 14 rfl rfl)
theorem dX11_step_108 : decode cX11_step 108 = .ok (.bipush 48, 2) := dk_16 48 (dk_at dksX11_step_4 15 rfl rfl)
theorem dX11_step_110 : decode cX11_step 110 = .ok (.isub, 1) := dk_100 (dk_at dksX11_step_4 17 rfl rfl)
theorem dX11_step_111 : decode cX11_step 111 = .ok (.putfield 81, 3) := dk_181 0 81 (dk_at dksX11_step_4 18 rfl rfl)
theorem dX11_step_114 : decode cX11_step 114 = .ok (.aload_n 0, 1) := dk_42 (dk_at dksX11_step_4 21 rfl rfl)
theorem dX11_step_115 : decode cX11_step 115 = .ok (.dup, 1) := dk_89 (dk_at dksX11_step_4 22 rfl rfl)
theorem dX11_step_116 : decode cX11_step 116 = .ok (.getfield 71, 3) := dk_180 0 71 (dk_at dksX11_step_5 0 rfl rfl)
theorem dX11_step_119 : decode cX11_step 119 = .ok (.iconst 1, 1) := dk_4 (dk_at dksX11_step_5 3 rfl rfl)
theorem dX11_step_120 : decode cX11_step 120 = .ok (.iadd, 1) := dk_96 (dk_at dksX11_step_5 4 rfl rfl)
theorem dX11_step_121 : decode cX11_step 121 = .ok (.putfield 71, 3) := dk_181 0 71 (dk_at dksX11_step_5 5 rfl rfl)
theorem dX11_step_124 : decode cX11_step 124 = .ok (.goto (-59), 3) := dk_167 255 197 (dk_at dksX11_step_5 8 rfl rfl)
theorem dX11_step_127 : decode cX11_step 127 = .ok (.aload_n 0, 1) := dk_42 (dk_at dksX11_step_5 11 rfl rfl)
theorem dX11_step_128 : decode cX11_step 128 = .ok (.aload_n 0, 1) := dk_42 (dk_at dksX11_step_5 12 rfl rfl)
theorem dX11_step_129 : decode cX11_step 129 = .ok (.getfield 81, 3) := dk_180 0 81 (dk_at dksX11_step_5 13 rfl rfl)
theorem dX11_step_132 : decode cX11_step 132 = .ok (.bipush 99, 2) := dk_16 99 (dk_at dksX11_step_5 16 rfl rfl)
theorem dX11_step_134 : decode cX11_step 134 = .ok (.if_icmp .gt 22, 3) := dk_163 0 22 (dk_at dksX11_step_5 18 rfl rfl)
theorem dX11_step_137 : decode cX11_step 137 = .ok (.iload_n 1, 1) := dk_27 (dk_at dksX11_step_5 21 rfl rfl)
theorem dX11_step_138 : decode cX11_step 138 = .ok (.bipush 48, 2) := dk_16 48 (dk_at dksX11_step_5 22 rfl rfl)
theorem dX11_step_140 : decode cX11_step 140 = .ok (.if_icmp .ne 20, 3) := dk_160 0 20 (dk_at dksX11_step_6 0 rfl rfl)
theorem dX11_step_143 : decode cX11_step 143 = .ok (.aload_n 0, 1) := dk_42 (dk_at dksX11_step_6 3 rfl rfl)
theorem dX11_step_144 : decode cX11_step 144 = .ok (.getfield 71, 3) := dk_180 0 71 (dk_at dksX11_step_6 4 rfl rfl)
theorem dX11_step_147 : decode cX11_step 147 = .ok (.aload_n 0, 1) := dk_42 (dk_at dksX11_step_6 7 rfl rfl)
theorem dX11_step_148 : decode cX11_step 148 = .ok (.getfield 78, 3) := dk_180 0 78 (dk_at dksX11_step_6 8 rfl rfl)
theorem dX11_step_151 : decode cX11_step 151 = .ok (.isub, 1) := dk_100 (dk_at dksX11_step_6 11 rfl rfl)
theorem dX11_step_152 : decode cX11_step 152 = .ok (.iconst 1, 1) := dk_4 (dk_at dksX11_step_6 12 rfl rfl)
theorem dX11_step_153 : decode cX11_step 153 = .ok (.if_icmp .le 7, 3) := dk_164 0 7 (dk_at dksX11_step_6 13 rfl rfl)
theorem dX11_step_156 : decode cX11_step 156 = .ok (.iconst 5, 1) := dk_8 (dk_at dksX11_step_6 16 rfl rfl)
theorem dX11_step_157 : decode cX11_step 157 = .ok (.goto 4, 3) := dk_167 0 4 (dk_at dksX11_step_6 17 rfl rfl)
theorem dX11_step_160 : decode cX11_step 160 = .ok (.iconst 2, 1) := dk_5 (dk_at dksX11_step_6 20 rfl rfl)
theorem dX11_step_161 : decode cX11_step 161 = .ok (.putfield 84, 3) := dk_181 0 84 (dk_at dksX11_step_6 21 rfl rfl)
theorem dX11_step_164 : decode cX11_step 164 = .ok (.goto 96, 3) := dk_167 0 96 (dk_at dksX11_step_7 0 rfl rfl)
theorem dX11_step_167 : decode cX11_step 167 = .ok (.iload_n 1, 1) := dk_27 (dk_at dksX11_step_7 3 rfl rfl)
theorem dX11_step_168 : decode cX11_step 168 = .ok (.bipush 97, 2) := dk_16 97 (dk_at dksX11_step_7 4 rfl rfl)
theorem dX11_step_170 : decode cX11_step 170 = .ok (.bipush 122, 2) := dk_16 122 (dk_at dksX11_step_7 6 rfl rfl)
theorem dX11_step_172 : decode cX11_step 172 = .ok (.invokestatic 63, 3) := dk_184 0 63 (dk_at dksX11_step_7 8 rfl rfl)
theorem dX11_step_175 : decode cX11_step 175 = .ok (.ifCond .eq 60, 3) := dk_153 0 60 (dk_at dksX11_step_7 11 rfl rfl)
theorem dX11_step_178 : decode cX11_step 178 = .ok (.aload_n 0, 1) := dk_42 (dk_at dksX11_step_7 14 rfl rfl)
theorem dX11_step_179 : decode cX11_step 179 = .ok (.invokevirtual 74, 3) := dk_182 0 74 (dk_at dksX11_step_7 15 rfl rfl)
theorem dX11_step_182 : decode cX11_step 182 = .ok (.bipush 97, 2) := dk_16 97 (dk_at dksX11_step_7 18 rfl rfl)
theorem dX11_step_184 : decode cX11_step 184 = .ok (.bipush 122, 2) := dk_16 122 (dk_at dksX11_step_7 20 rfl rfl)
theorem dX11_step_186 : decode cX11_step 186 = .ok (.invokestatic 63, 3) := dk_184 0 63 (dk_at dksX11_step_8 0 rfl rfl)
theorem dX11_step_189 : decode cX11_step 189 = .ok (.ifCond .eq 16, 3) := dk_153 0 16 (dk_at dksX11_step_8 3 rfl rfl)
theorem dX11_step_192 : decode cX11_step 192 = .ok (.aload_n 0, 1) := dk_42 (dk_at dksX11_step_8 6 rfl rfl)
theorem dX11_step_193 : decode cX11_step 193 = .ok (.dup, 1) := dk_89 (dk_at dksX11_step_8 7 rfl rfl)
theorem dX11_step_194 : decode cX11_step 194 = .ok (.getfield 71, 3) := dk_180 0 71 (dk_at dksX11_step_8 8 rfl rfl)
theorem dX11_step_197 : decode cX11_step 197 = .ok (.iconst 1, 1) := dk_4 (dk_at dksX11_step_8 11 rfl rfl)
theorem dX11_step_198 : decode cX11_step 198 = .ok (.iadd, 1) := dk_96 (dk_at dksX11_step_8 12 rfl rfl)
theorem dX11_step_199 : decode cX11_step 199 = .ok (.putfield 71, 3) := dk_181 0 71 (dk_at dksX11_step_8 13 rfl rfl)
theorem dX11_step_202 : decode cX11_step 202 = .ok (.goto (-24), 3) := dk_167 255 232 (dk_at dksX11_step_8 16 rfl rfl)
theorem dX11_step_205 : decode cX11_step 205 = .ok (.aload_n 0, 1) := dk_42 (dk_at dksX11_step_8 19 rfl rfl)
theorem dX11_step_206 : decode cX11_step 206 = .ok (.aload_n 0, 1) := dk_42 (dk_at dksX11_step_8 20 rfl rfl)
theorem dX11_step_207 : decode cX11_step 207 = .ok (.getfield 71, 3) := dk_180 0 71 (dk_at dksX11_step_8 21 rfl rfl)
theorem dX11_step_210 : decode cX11_step 210 = .ok (.aload_n 0, 1) := dk_42 (dk_at dksX11_step_9 0 rfl rfl)
theorem dX11_step_211 : decode cX11_step 211 = .ok (.getfield 78, 3) := dk_180 0 78 (dk_at dksX11_step_9 1 rfl rfl)
theorem dX11_step_214 : decode cX11_step 214 = .ok (.isub, 1) := dk_100 (dk_at dksX11_step_9 4 rfl rfl)
theorem dX11_step_215 : decode cX11_step 215 = .ok (.iconst 1, 1) := dk_4 (dk_at dksX11_step_9 5 rfl rfl)
theorem dX11_step_216 : decode cX11_step 216 = .ok (.if_icmp .ne 7, 3) := dk_160 0 7 (dk_at dksX11_step_9 6 rfl rfl)
theorem dX11_step_219 : decode cX11_step 219 = .ok (.iload_n 1, 1) := dk_27 (dk_at dksX11_step_9 9 rfl rfl)
theorem dX11_step_220 : decode cX11_step 220 = .ok (.goto 4, 3) := dk_167 0 4 (dk_at dksX11_step_9 10 rfl rfl)
theorem dX11_step_223 : decode cX11_step 223 = .ok (.iconst 0, 1) := dk_3 (dk_at dksX11_step_9 13 rfl rfl)
theorem dX11_step_224 : decode cX11_step 224 = .ok (.putfield 81, 3) := dk_181 0 81 (dk_at dksX11_step_9 14 rfl rfl)
theorem dX11_step_227 : decode cX11_step 227 = .ok (.aload_n 0, 1) := dk_42 (dk_at dksX11_step_9 17 rfl rfl)
theorem dX11_step_228 : decode cX11_step 228 = .ok (.iconst 1, 1) := dk_4 (dk_at dksX11_step_9 18 rfl rfl)
theorem dX11_step_229 : decode cX11_step 229 = .ok (.putfield 84, 3) := dk_181 0 84 (dk_at dksX11_step_9 19 rfl rfl)
theorem dX11_step_232 : decode cX11_step 232 = .ok (.goto 28, 3) := dk_167 0 28 (dk_at dksX11_step_10 0 rfl rfl)
theorem dX11_step_235 : decode cX11_step 235 = .ok (.aload_n 0, 1) := dk_42 (dk_at dksX11_step_10 3 rfl rfl)
theorem dX11_step_236 : decode cX11_step 236 = .ok (.dup, 1) := dk_89 (dk_at dksX11_step_10 4 rfl rfl)
theorem dX11_step_237 : decode cX11_step 237 = .ok (.getfield 71, 3) := dk_180 0 71 (dk_at dksX11_step_10 5 rfl rfl)
theorem dX11_step_240 : decode cX11_step 240 = .ok (.iconst 1, 1) := dk_4 (dk_at dksX11_step_10 8 rfl rfl)
theorem dX11_step_241 : decode cX11_step 241 = .ok (.iadd, 1) := dk_96 (dk_at dksX11_step_10 9 rfl rfl)
theorem dX11_step_242 : decode cX11_step 242 = .ok (.putfield 71, 3) := dk_181 0 71 (dk_at dksX11_step_10 10 rfl rfl)
theorem dX11_step_245 : decode cX11_step 245 = .ok (.aload_n 0, 1) := dk_42 (dk_at dksX11_step_10 13 rfl rfl)
theorem dX11_step_246 : decode cX11_step 246 = .ok (.iload_n 1, 1) := dk_27 (dk_at dksX11_step_10 14 rfl rfl)
theorem dX11_step_247 : decode cX11_step 247 = .ok (.bipush 59, 2) := dk_16 59 (dk_at dksX11_step_10 15 rfl rfl)
theorem dX11_step_249 : decode cX11_step 249 = .ok (.if_icmp .ne 7, 3) := dk_160 0 7 (dk_at dksX11_step_10 17 rfl rfl)
theorem dX11_step_252 : decode cX11_step 252 = .ok (.iconst 3, 1) := dk_6 (dk_at dksX11_step_10 20 rfl rfl)
theorem dX11_step_253 : decode cX11_step 253 = .ok (.goto 4, 3) := dk_167 0 4 (dk_at dksX11_step_10 21 rfl rfl)
theorem dX11_step_256 : decode cX11_step 256 = .ok (.iconst 5, 1) := dk_8 (dk_at dksX11_step_11 0 rfl rfl)
theorem dX11_step_257 : decode cX11_step 257 = .ok (.putfield 84, 3) := dk_181 0 84 (dk_at dksX11_step_11 1 rfl rfl)
theorem dX11_step_260 : decode cX11_step 260 = .ok (.return_, 1) := dk_177 (dk_at dksX11_step_11 4 rfl rfl)
abbrev cX11_here : ByteArray := prog_14_method_8_code
def yX11_here : MethodName := ⟨RX11, "here", "()I"⟩
def dkwX11_here_1 : List UInt8 := [167, 0, 5, 16, 247, 172]
abbrev dktX11_here_1 : List UInt8 := dkwX11_here_1 ++ []
def dkwX11_here_0 : List UInt8 := [42, 180, 0, 71, 42, 180, 0, 67, 162, 0, 19, 42, 180, 0, 7, 42, 180, 0, 71, 51, 17, 0, 255, 126]
abbrev dktX11_here_0 : List UInt8 := dkwX11_here_0 ++ dktX11_here_1
theorem dksX11_here_0 : cX11_here.data.toList.drop 0 = dktX11_here_0 := by decide +kernel
theorem dksX11_here_1 : cX11_here.data.toList.drop 24 = dktX11_here_1 := dk_seg dksX11_here_0 24 rfl rfl
theorem dX11_here_0 : decode cX11_here 0 = .ok (.aload_n 0, 1) := dk_42 (dk_at dksX11_here_0 0 rfl rfl)
theorem dX11_here_1 : decode cX11_here 1 = .ok (.getfield 71, 3) := dk_180 0 71 (dk_at dksX11_here_0 1 rfl rfl)
theorem dX11_here_4 : decode cX11_here 4 = .ok (.aload_n 0, 1) := dk_42 (dk_at dksX11_here_0 4 rfl rfl)
theorem dX11_here_5 : decode cX11_here 5 = .ok (.getfield 67, 3) := dk_180 0 67 (dk_at dksX11_here_0 5 rfl rfl)
theorem dX11_here_8 : decode cX11_here 8 = .ok (.if_icmp .ge 19, 3) := dk_162 0 19 (dk_at dksX11_here_0 8 rfl rfl)
theorem dX11_here_11 : decode cX11_here 11 = .ok (.aload_n 0, 1) := dk_42 (dk_at dksX11_here_0 11 rfl rfl)
theorem dX11_here_12 : decode cX11_here 12 = .ok (.getfield 7, 3) := dk_180 0 7 (dk_at dksX11_here_0 12 rfl rfl)
theorem dX11_here_15 : decode cX11_here 15 = .ok (.aload_n 0, 1) := dk_42 (dk_at dksX11_here_0 15 rfl rfl)
theorem dX11_here_16 : decode cX11_here 16 = .ok (.getfield 71, 3) := dk_180 0 71 (dk_at dksX11_here_0 16 rfl rfl)
theorem dX11_here_19 : decode cX11_here 19 = .ok (.baload, 1) := dk_51 (dk_at dksX11_here_0 19 rfl rfl)
theorem dX11_here_20 : decode cX11_here 20 = .ok (.sipush 255, 3) := dk_17 0 255 (dk_at dksX11_here_0 20 rfl rfl)
theorem dX11_here_23 : decode cX11_here 23 = .ok (.iand, 1) := dk_126 (dk_at dksX11_here_0 23 rfl rfl)
theorem dX11_here_24 : decode cX11_here 24 = .ok (.goto 5, 3) := dk_167 0 5 (dk_at dksX11_here_1 0 rfl rfl)
theorem dX11_here_27 : decode cX11_here 27 = .ok (.bipush (-9), 2) := dk_16 247 (dk_at dksX11_here_1 3 rfl rfl)
theorem dX11_here_29 : decode cX11_here 29 = .ok (.ireturn, 1) := dk_172 (dk_at dksX11_here_1 5 rfl rfl)
abbrev cX11_may : ByteArray := prog_14_method_13_code
def yX11_may : MethodName := ⟨RX11, "may", "(I)Z"⟩
def dkwX11_may_4 : List UInt8 := [167, 0, 4, 3, 172]
abbrev dktX11_may_4 : List UInt8 := dkwX11_may_4 ++ []
def dkwX11_may_3 : List UInt8 := [4, 167, 0, 4, 3, 172, 27, 16, 99, 160, 0, 18, 42, 180, 0, 29, 4, 46, 16, 6, 162, 0, 7, 4]
abbrev dktX11_may_3 : List UInt8 := dkwX11_may_3 ++ dktX11_may_4
def dkwX11_may_2 : List UInt8 := [42, 180, 0, 102, 154, 0, 7, 4, 167, 0, 4, 3, 172, 42, 180, 0, 17, 4, 46, 16, 9, 162, 0, 7]
abbrev dktX11_may_2 : List UInt8 := dkwX11_may_2 ++ dktX11_may_3
def dkwX11_may_1 : List UInt8 := [171, 0, 0, 0, 0, 0, 57, 0, 0, 0, 2, 0, 0, 0, 115, 0, 0, 0, 40, 0, 0, 0, 121, 0, 0, 0, 27]
abbrev dktX11_may_1 : List UInt8 := dkwX11_may_1 ++ dktX11_may_2
def dkwX11_may_0 : List UInt8 := [27]
abbrev dktX11_may_0 : List UInt8 := dkwX11_may_0 ++ dktX11_may_1
theorem dksX11_may_0 : cX11_may.data.toList.drop 0 = dktX11_may_0 := by decide +kernel
theorem dksX11_may_1 : cX11_may.data.toList.drop 1 = dktX11_may_1 := dk_seg dksX11_may_0 1 rfl rfl
theorem dksX11_may_2 : cX11_may.data.toList.drop 28 = dktX11_may_2 := dk_seg dksX11_may_1 27 rfl rfl
theorem dksX11_may_3 : cX11_may.data.toList.drop 52 = dktX11_may_3 := dk_seg dksX11_may_2 24 rfl rfl
theorem dksX11_may_4 : cX11_may.data.toList.drop 76 = dktX11_may_4 := dk_seg dksX11_may_3 24 rfl rfl
theorem dX11_may_0 : decode cX11_may 0 = .ok (.iload_n 1, 1) := dk_27 (dk_at dksX11_may_0 0 rfl rfl)
theorem dX11_may_1 : decode cX11_may 1 = .ok (.lookupswitch 57 #[(115, 40), (121, 27)], 27) := by decide +kernel
theorem dX11_may_28 : decode cX11_may 28 = .ok (.aload_n 0, 1) := dk_42 (dk_at dksX11_may_2 0 rfl rfl)
theorem dX11_may_29 : decode cX11_may 29 = .ok (.getfield 102, 3) := dk_180 0 102 (dk_at dksX11_may_2 1 rfl rfl)
theorem dX11_may_32 : decode cX11_may 32 = .ok (.ifCond .ne 7, 3) := dk_154 0 7 (dk_at dksX11_may_2 4 rfl rfl)
theorem dX11_may_35 : decode cX11_may 35 = .ok (.iconst 1, 1) := dk_4 (dk_at dksX11_may_2 7 rfl rfl)
theorem dX11_may_36 : decode cX11_may 36 = .ok (.goto 4, 3) := dk_167 0 4 (dk_at dksX11_may_2 8 rfl rfl)
theorem dX11_may_39 : decode cX11_may 39 = .ok (.iconst 0, 1) := dk_3 (dk_at dksX11_may_2 11 rfl rfl)
theorem dX11_may_40 : decode cX11_may 40 = .ok (.ireturn, 1) := dk_172 (dk_at dksX11_may_2 12 rfl rfl)
theorem dX11_may_41 : decode cX11_may 41 = .ok (.aload_n 0, 1) := dk_42 (dk_at dksX11_may_2 13 rfl rfl)
theorem dX11_may_42 : decode cX11_may 42 = .ok (.getfield 17, 3) := dk_180 0 17 (dk_at dksX11_may_2 14 rfl rfl)
theorem dX11_may_45 : decode cX11_may 45 = .ok (.iconst 1, 1) := dk_4 (dk_at dksX11_may_2 17 rfl rfl)
theorem dX11_may_46 : decode cX11_may 46 = .ok (.iaload, 1) := dk_46 (dk_at dksX11_may_2 18 rfl rfl)
theorem dX11_may_47 : decode cX11_may 47 = .ok (.bipush 9, 2) := dk_16 9 (dk_at dksX11_may_2 19 rfl rfl)
theorem dX11_may_49 : decode cX11_may 49 = .ok (.if_icmp .ge 7, 3) := dk_162 0 7 (dk_at dksX11_may_2 21 rfl rfl)
theorem dX11_may_52 : decode cX11_may 52 = .ok (.iconst 1, 1) := dk_4 (dk_at dksX11_may_3 0 rfl rfl)
theorem dX11_may_53 : decode cX11_may 53 = .ok (.goto 4, 3) := dk_167 0 4 (dk_at dksX11_may_3 1 rfl rfl)
theorem dX11_may_56 : decode cX11_may 56 = .ok (.iconst 0, 1) := dk_3 (dk_at dksX11_may_3 4 rfl rfl)
theorem dX11_may_57 : decode cX11_may 57 = .ok (.ireturn, 1) := dk_172 (dk_at dksX11_may_3 5 rfl rfl)
theorem dX11_may_58 : decode cX11_may 58 = .ok (.iload_n 1, 1) := dk_27 (dk_at dksX11_may_3 6 rfl rfl)
theorem dX11_may_59 : decode cX11_may 59 = .ok (.bipush 99, 2) := dk_16 99 (dk_at dksX11_may_3 7 rfl rfl)
theorem dX11_may_61 : decode cX11_may 61 = .ok (.if_icmp .ne 18, 3) := dk_160 0 18 (dk_at dksX11_may_3 9 rfl rfl)
theorem dX11_may_64 : decode cX11_may 64 = .ok (.aload_n 0, 1) := dk_42 (dk_at dksX11_may_3 12 rfl rfl)
theorem dX11_may_65 : decode cX11_may 65 = .ok (.getfield 29, 3) := dk_180 0 29 (dk_at dksX11_may_3 13 rfl rfl)
theorem dX11_may_68 : decode cX11_may 68 = .ok (.iconst 1, 1) := dk_4 (dk_at dksX11_may_3 16 rfl rfl)
theorem dX11_may_69 : decode cX11_may 69 = .ok (.iaload, 1) := dk_46 (dk_at dksX11_may_3 17 rfl rfl)
theorem dX11_may_70 : decode cX11_may 70 = .ok (.bipush 6, 2) := dk_16 6 (dk_at dksX11_may_3 18 rfl rfl)
theorem dX11_may_72 : decode cX11_may 72 = .ok (.if_icmp .ge 7, 3) := dk_162 0 7 (dk_at dksX11_may_3 20 rfl rfl)
theorem dX11_may_75 : decode cX11_may 75 = .ok (.iconst 1, 1) := dk_4 (dk_at dksX11_may_3 23 rfl rfl)
theorem dX11_may_76 : decode cX11_may 76 = .ok (.goto 4, 3) := dk_167 0 4 (dk_at dksX11_may_4 0 rfl rfl)
theorem dX11_may_79 : decode cX11_may 79 = .ok (.iconst 0, 1) := dk_3 (dk_at dksX11_may_4 3 rfl rfl)
theorem dX11_may_80 : decode cX11_may 80 = .ok (.ireturn, 1) := dk_172 (dk_at dksX11_may_4 4 rfl rfl)
abbrev cX11_due : ByteArray := prog_14_method_10_code
def yX11_due : MethodName := ⟨RX11, "due", "(Z)V"⟩
def dkwX11_due_1 : List UInt8 := [177]
abbrev dktX11_due_1 : List UInt8 := dkwX11_due_1 ++ []
def dkwX11_due_0 : List UInt8 := [42, 180, 0, 87, 153, 0, 4, 177, 27, 153, 0, 10, 42, 182, 0, 91, 167, 0, 8, 42, 4, 181, 0, 87]
abbrev dktX11_due_0 : List UInt8 := dkwX11_due_0 ++ dktX11_due_1
theorem dksX11_due_0 : cX11_due.data.toList.drop 0 = dktX11_due_0 := by decide +kernel
theorem dksX11_due_1 : cX11_due.data.toList.drop 24 = dktX11_due_1 := dk_seg dksX11_due_0 24 rfl rfl
theorem dX11_due_0 : decode cX11_due 0 = .ok (.aload_n 0, 1) := dk_42 (dk_at dksX11_due_0 0 rfl rfl)
theorem dX11_due_1 : decode cX11_due 1 = .ok (.getfield 87, 3) := dk_180 0 87 (dk_at dksX11_due_0 1 rfl rfl)
theorem dX11_due_4 : decode cX11_due 4 = .ok (.ifCond .eq 4, 3) := dk_153 0 4 (dk_at dksX11_due_0 4 rfl rfl)
theorem dX11_due_7 : decode cX11_due 7 = .ok (.return_, 1) := dk_177 (dk_at dksX11_due_0 7 rfl rfl)
theorem dX11_due_8 : decode cX11_due 8 = .ok (.iload_n 1, 1) := dk_27 (dk_at dksX11_due_0 8 rfl rfl)
theorem dX11_due_9 : decode cX11_due 9 = .ok (.ifCond .eq 10, 3) := dk_153 0 10 (dk_at dksX11_due_0 9 rfl rfl)
theorem dX11_due_12 : decode cX11_due 12 = .ok (.aload_n 0, 1) := dk_42 (dk_at dksX11_due_0 12 rfl rfl)
theorem dX11_due_13 : decode cX11_due 13 = .ok (.invokevirtual 91, 3) := dk_182 0 91 (dk_at dksX11_due_0 13 rfl rfl)
theorem dX11_due_16 : decode cX11_due 16 = .ok (.goto 8, 3) := dk_167 0 8 (dk_at dksX11_due_0 16 rfl rfl)
theorem dX11_due_19 : decode cX11_due 19 = .ok (.aload_n 0, 1) := dk_42 (dk_at dksX11_due_0 19 rfl rfl)
theorem dX11_due_20 : decode cX11_due 20 = .ok (.iconst 1, 1) := dk_4 (dk_at dksX11_due_0 20 rfl rfl)
theorem dX11_due_21 : decode cX11_due 21 = .ok (.putfield 87, 3) := dk_181 0 87 (dk_at dksX11_due_0 21 rfl rfl)
theorem dX11_due_24 : decode cX11_due 24 = .ok (.return_, 1) := dk_177 (dk_at dksX11_due_1 0 rfl rfl)
abbrev cX11_item : ByteArray := prog_14_method_12_code
def yX11_item : MethodName := ⟨RX11, "item", "(I)V"⟩
def dkwX11_item_10 : List UInt8 := [79, 42, 180, 0, 29, 4, 92, 46, 4, 96, 79, 177]
abbrev dktX11_item_10 : List UInt8 := dkwX11_item_10 ++ []
def dkwX11_item_9 : List UInt8 := [182, 0, 98, 79, 42, 180, 0, 35, 16, 6, 42, 180, 0, 29, 4, 46, 96, 42, 4, 16, 10, 182, 0, 98]
abbrev dktX11_item_9 : List UInt8 := dkwX11_item_9 ++ dktX11_item_10
def dkwX11_item_8 : List UInt8 := [180, 0, 32, 16, 6, 42, 180, 0, 29, 4, 46, 96, 42, 3, 42, 180, 0, 17, 4, 46, 4, 100]
abbrev dktX11_item_8 : List UInt8 := dkwX11_item_8 ++ dktX11_item_9
def dkwX11_item_7 : List UInt8 := [29, 42, 3, 16, 9, 182, 0, 98, 79, 42, 180, 0, 17, 4, 92, 46, 4, 96, 79, 167, 0, 61, 42]
abbrev dktX11_item_7 : List UInt8 := dkwX11_item_7 ++ dktX11_item_8
def dkwX11_item_6 : List UInt8 := [180, 0, 81, 42, 180, 0, 20, 29, 46, 159, 0, 7, 4, 167, 0, 4, 3, 182, 0, 94, 42, 180, 0, 26]
abbrev dktX11_item_6 : List UInt8 := dkwX11_item_6 ++ dktX11_item_7
def dkwX11_item_5 : List UInt8 := [79, 42, 42, 180, 0, 84, 5, 160, 0, 33, 42, 180, 0, 81, 42, 180, 0, 13, 4, 46, 162, 0, 20, 42]
abbrev dktX11_item_5 : List UInt8 := dkwX11_item_5 ++ dktX11_item_6
def dkwX11_item_4 : List UInt8 := [29, 42, 3, 42, 180, 0, 13, 4, 46, 4, 100, 182, 0, 98, 79, 42, 180, 0, 23, 29, 42, 180, 0, 81]
abbrev dktX11_item_4 : List UInt8 := dkwX11_item_4 ++ dktX11_item_5
def dkwX11_item_3 : List UInt8 := [4, 46, 167, 0, 4, 28, 79, 167, 0, 169, 16, 9, 42, 180, 0, 17, 4, 46, 96, 62, 42, 180, 0, 20]
abbrev dktX11_item_3 : List UInt8 := dkwX11_item_3 ++ dktX11_item_4
def dkwX11_item_2 : List UInt8 := [42, 5, 16, 8, 182, 0, 98, 61, 42, 180, 0, 13, 4, 42, 180, 0, 87, 153, 0, 12, 42, 180, 0, 13]
abbrev dktX11_item_2 : List UInt8 := dkwX11_item_2 ++ dktX11_item_3
def dkwX11_item_1 : List UInt8 := [171, 0, 0, 0, 0, 0, 169, 0, 0, 0, 2, 0, 0, 0, 115, 0, 0, 0, 61, 0, 0, 0, 121, 0, 0, 0, 27]
abbrev dktX11_item_1 : List UInt8 := dkwX11_item_1 ++ dktX11_item_2
def dkwX11_item_0 : List UInt8 := [27]
abbrev dktX11_item_0 : List UInt8 := dkwX11_item_0 ++ dktX11_item_1
theorem dksX11_item_0 : cX11_item.data.toList.drop 0 = dktX11_item_0 := by decide +kernel
theorem dksX11_item_1 : cX11_item.data.toList.drop 1 = dktX11_item_1 := dk_seg dksX11_item_0 1 rfl rfl
theorem dksX11_item_2 : cX11_item.data.toList.drop 28 = dktX11_item_2 := dk_seg dksX11_item_1 27 rfl rfl
theorem dksX11_item_3 : cX11_item.data.toList.drop 52 = dktX11_item_3 := dk_seg dksX11_item_2 24 rfl rfl
theorem dksX11_item_4 : cX11_item.data.toList.drop 76 = dktX11_item_4 := dk_seg dksX11_item_3 24 rfl rfl
theorem dksX11_item_5 : cX11_item.data.toList.drop 100 = dktX11_item_5 := dk_seg dksX11_item_4 24 rfl rfl
theorem dksX11_item_6 : cX11_item.data.toList.drop 124 = dktX11_item_6 := dk_seg dksX11_item_5 24 rfl rfl
theorem dksX11_item_7 : cX11_item.data.toList.drop 148 = dktX11_item_7 := dk_seg dksX11_item_6 24 rfl rfl
theorem dksX11_item_8 : cX11_item.data.toList.drop 171 = dktX11_item_8 := dk_seg dksX11_item_7 23 rfl rfl
theorem dksX11_item_9 : cX11_item.data.toList.drop 193 = dktX11_item_9 := dk_seg dksX11_item_8 22 rfl rfl
theorem dksX11_item_10 : cX11_item.data.toList.drop 217 = dktX11_item_10 := dk_seg dksX11_item_9 24 rfl rfl
theorem dX11_item_0 : decode cX11_item 0 = .ok (.iload_n 1, 1) := dk_27 (dk_at dksX11_item_0 0 rfl rfl)
theorem dX11_item_1 : decode cX11_item 1 = .ok (.lookupswitch 169 #[(115, 61), (121, 27)], 27) := by decide +kernel
theorem dX11_item_28 : decode cX11_item 28 = .ok (.aload_n 0, 1) := dk_42 (dk_at dksX11_item_2 0 rfl rfl)
theorem dX11_item_29 : decode cX11_item 29 = .ok (.iconst 2, 1) := dk_5 (dk_at dksX11_item_2 1 rfl rfl)
theorem dX11_item_30 : decode cX11_item 30 = .ok (.bipush 8, 2) := dk_16 8 (dk_at dksX11_item_2 2 rfl rfl)
theorem dX11_item_32 : decode cX11_item 32 = .ok (.invokevirtual 98, 3) := dk_182 0 98 (dk_at dksX11_item_2 4 rfl rfl)
theorem dX11_item_35 : decode cX11_item 35 = .ok (.istore_n 2, 1) := dk_61 (dk_at dksX11_item_2 7 rfl rfl)
theorem dX11_item_36 : decode cX11_item 36 = .ok (.aload_n 0, 1) := dk_42 (dk_at dksX11_item_2 8 rfl rfl)
theorem dX11_item_37 : decode cX11_item 37 = .ok (.getfield 13, 3) := dk_180 0 13 (dk_at dksX11_item_2 9 rfl rfl)
theorem dX11_item_40 : decode cX11_item 40 = .ok (.iconst 1, 1) := dk_4 (dk_at dksX11_item_2 12 rfl rfl)
theorem dX11_item_41 : decode cX11_item 41 = .ok (.aload_n 0, 1) := dk_42 (dk_at dksX11_item_2 13 rfl rfl)
theorem dX11_item_42 : decode cX11_item 42 = .ok (.getfield 87, 3) := dk_180 0 87 (dk_at dksX11_item_2 14 rfl rfl)
theorem dX11_item_45 : decode cX11_item 45 = .ok (.ifCond .eq 12, 3) := dk_153 0 12 (dk_at dksX11_item_2 17 rfl rfl)
theorem dX11_item_48 : decode cX11_item 48 = .ok (.aload_n 0, 1) := dk_42 (dk_at dksX11_item_2 20 rfl rfl)
theorem dX11_item_49 : decode cX11_item 49 = .ok (.getfield 13, 3) := dk_180 0 13 (dk_at dksX11_item_2 21 rfl rfl)
theorem dX11_item_52 : decode cX11_item 52 = .ok (.iconst 1, 1) := dk_4 (dk_at dksX11_item_3 0 rfl rfl)
theorem dX11_item_53 : decode cX11_item 53 = .ok (.iaload, 1) := dk_46 (dk_at dksX11_item_3 1 rfl rfl)
theorem dX11_item_54 : decode cX11_item 54 = .ok (.goto 4, 3) := dk_167 0 4 (dk_at dksX11_item_3 2 rfl rfl)
theorem dX11_item_57 : decode cX11_item 57 = .ok (.iload_n 2, 1) := dk_28 (dk_at dksX11_item_3 5 rfl rfl)
theorem dX11_item_58 : decode cX11_item 58 = .ok (.iastore, 1) := dk_79 (dk_at dksX11_item_3 6 rfl rfl)
theorem dX11_item_59 : decode cX11_item 59 = .ok (.goto 169, 3) := dk_167 0 169 (dk_at dksX11_item_3 7 rfl rfl)
theorem dX11_item_62 : decode cX11_item 62 = .ok (.bipush 9, 2) := dk_16 9 (dk_at dksX11_item_3 10 rfl rfl)
theorem dX11_item_64 : decode cX11_item 64 = .ok (.aload_n 0, 1) := dk_42 (dk_at dksX11_item_3 12 rfl rfl)
theorem dX11_item_65 : decode cX11_item 65 = .ok (.getfield 17, 3) := dk_180 0 17 (dk_at dksX11_item_3 13 rfl rfl)
theorem dX11_item_68 : decode cX11_item 68 = .ok (.iconst 1, 1) := dk_4 (dk_at dksX11_item_3 16 rfl rfl)
theorem dX11_item_69 : decode cX11_item 69 = .ok (.iaload, 1) := dk_46 (dk_at dksX11_item_3 17 rfl rfl)
theorem dX11_item_70 : decode cX11_item 70 = .ok (.iadd, 1) := dk_96 (dk_at dksX11_item_3 18 rfl rfl)
theorem dX11_item_71 : decode cX11_item 71 = .ok (.istore_n 3, 1) := dk_62 (dk_at dksX11_item_3 19 rfl rfl)
theorem dX11_item_72 : decode cX11_item 72 = .ok (.aload_n 0, 1) := dk_42 (dk_at dksX11_item_3 20 rfl rfl)
theorem dX11_item_73 : decode cX11_item 73 = .ok (.getfield 20, 3) := dk_180 0 20 (dk_at dksX11_item_3 21 rfl rfl)
theorem dX11_item_76 : decode cX11_item 76 = .ok (.iload_n 3, 1) := dk_29 (dk_at dksX11_item_4 0 rfl rfl)
theorem dX11_item_77 : decode cX11_item 77 = .ok (.aload_n 0, 1) := dk_42 (dk_at dksX11_item_4 1 rfl rfl)
theorem dX11_item_78 : decode cX11_item 78 = .ok (.iconst 0, 1) := dk_3 (dk_at dksX11_item_4 2 rfl rfl)
theorem dX11_item_79 : decode cX11_item 79 = .ok (.aload_n 0, 1) := dk_42 (dk_at dksX11_item_4 3 rfl rfl)
theorem dX11_item_80 : decode cX11_item 80 = .ok (.getfield 13, 3) := dk_180 0 13 (dk_at dksX11_item_4 4 rfl rfl)
theorem dX11_item_83 : decode cX11_item 83 = .ok (.iconst 1, 1) := dk_4 (dk_at dksX11_item_4 7 rfl rfl)
theorem dX11_item_84 : decode cX11_item 84 = .ok (.iaload, 1) := dk_46 (dk_at dksX11_item_4 8 rfl rfl)
theorem dX11_item_85 : decode cX11_item 85 = .ok (.iconst 1, 1) := dk_4 (dk_at dksX11_item_4 9 rfl rfl)
theorem dX11_item_86 : decode cX11_item 86 = .ok (.isub, 1) := dk_100 (dk_at dksX11_item_4 10 rfl rfl)
theorem dX11_item_87 : decode cX11_item 87 = .ok (.invokevirtual 98, 3) := dk_182 0 98 (dk_at dksX11_item_4 11 rfl rfl)
theorem dX11_item_90 : decode cX11_item 90 = .ok (.iastore, 1) := dk_79 (dk_at dksX11_item_4 14 rfl rfl)
theorem dX11_item_91 : decode cX11_item 91 = .ok (.aload_n 0, 1) := dk_42 (dk_at dksX11_item_4 15 rfl rfl)
theorem dX11_item_92 : decode cX11_item 92 = .ok (.getfield 23, 3) := dk_180 0 23 (dk_at dksX11_item_4 16 rfl rfl)
theorem dX11_item_95 : decode cX11_item 95 = .ok (.iload_n 3, 1) := dk_29 (dk_at dksX11_item_4 19 rfl rfl)
theorem dX11_item_96 : decode cX11_item 96 = .ok (.aload_n 0, 1) := dk_42 (dk_at dksX11_item_4 20 rfl rfl)
theorem dX11_item_97 : decode cX11_item 97 = .ok (.getfield 81, 3) := dk_180 0 81 (dk_at dksX11_item_4 21 rfl rfl)
theorem dX11_item_100 : decode cX11_item 100 = .ok (.iastore, 1) := dk_79 (dk_at dksX11_item_5 0 rfl rfl)
theorem dX11_item_101 : decode cX11_item 101 = .ok (.aload_n 0, 1) := dk_42 (dk_at dksX11_item_5 1 rfl rfl)
theorem dX11_item_102 : decode cX11_item 102 = .ok (.aload_n 0, 1) := dk_42 (dk_at dksX11_item_5 2 rfl rfl)
theorem dX11_item_103 : decode cX11_item 103 = .ok (.getfield 84, 3) := dk_180 0 84 (dk_at dksX11_item_5 3 rfl rfl)
theorem dX11_item_106 : decode cX11_item 106 = .ok (.iconst 2, 1) := dk_5 (dk_at dksX11_item_5 6 rfl rfl)
theorem dX11_item_107 : decode cX11_item 107 = .ok (.if_icmp .ne 33, 3) := dk_160 0 33 (dk_at dksX11_item_5 7 rfl rfl)
theorem dX11_item_110 : decode cX11_item 110 = .ok (.aload_n 0, 1) := dk_42 (dk_at dksX11_item_5 10 rfl rfl)
theorem dX11_item_111 : decode cX11_item 111 = .ok (.getfield 81, 3) := dk_180 0 81 (dk_at dksX11_item_5 11 rfl rfl)
theorem dX11_item_114 : decode cX11_item 114 = .ok (.aload_n 0, 1) := dk_42 (dk_at dksX11_item_5 14 rfl rfl)
theorem dX11_item_115 : decode cX11_item 115 = .ok (.getfield 13, 3) := dk_180 0 13 (dk_at dksX11_item_5 15 rfl rfl)
theorem dX11_item_118 : decode cX11_item 118 = .ok (.iconst 1, 1) := dk_4 (dk_at dksX11_item_5 18 rfl rfl)
theorem dX11_item_119 : decode cX11_item 119 = .ok (.iaload, 1) := dk_46 (dk_at dksX11_item_5 19 rfl rfl)
theorem dX11_item_120 : decode cX11_item 120 = .ok (.if_icmp .ge 20, 3) := dk_162 0 20 (dk_at dksX11_item_5 20 rfl rfl)
theorem dX11_item_123 : decode cX11_item 123 = .ok (.aload_n 0, 1) := dk_42 (dk_at dksX11_item_5 23 rfl rfl)
theorem dX11_item_124 : decode cX11_item 124 = .ok (.getfield 81, 3) := dk_180 0 81 (dk_at dksX11_item_6 0 rfl rfl)
theorem dX11_item_127 : decode cX11_item 127 = .ok (.aload_n 0, 1) := dk_42 (dk_at dksX11_item_6 3 rfl rfl)
theorem dX11_item_128 : decode cX11_item 128 = .ok (.getfield 20, 3) := dk_180 0 20 (dk_at dksX11_item_6 4 rfl rfl)
theorem dX11_item_131 : decode cX11_item 131 = .ok (.iload_n 3, 1) := dk_29 (dk_at dksX11_item_6 7 rfl rfl)
theorem dX11_item_132 : decode cX11_item 132 = .ok (.iaload, 1) := dk_46 (dk_at dksX11_item_6 8 rfl rfl)
theorem dX11_item_133 : decode cX11_item 133 = .ok (.if_icmp .eq 7, 3) := dk_159 0 7 (dk_at dksX11_item_6 9 rfl rfl)
theorem dX11_item_136 : decode cX11_item 136 = .ok (.iconst 1, 1) := dk_4 (dk_at dksX11_item_6 12 rfl rfl)
theorem dX11_item_137 : decode cX11_item 137 = .ok (.goto 4, 3) := dk_167 0 4 (dk_at dksX11_item_6 13 rfl rfl)
theorem dX11_item_140 : decode cX11_item 140 = .ok (.iconst 0, 1) := dk_3 (dk_at dksX11_item_6 16 rfl rfl)
theorem dX11_item_141 : decode cX11_item 141 = .ok (.invokevirtual 94, 3) := dk_182 0 94 (dk_at dksX11_item_6 17 rfl rfl)
theorem dX11_item_144 : decode cX11_item 144 = .ok (.aload_n 0, 1) := dk_42 (dk_at dksX11_item_6 20 rfl rfl)
theorem dX11_item_145 : decode cX11_item 145 = .ok (.getfield 26, 3) := dk_180 0 26 (dk_at dksX11_item_6 21 rfl rfl)
theorem dX11_item_148 : decode cX11_item 148 = .ok (.iload_n 3, 1) := dk_29 (dk_at dksX11_item_7 0 rfl rfl)
theorem dX11_item_149 : decode cX11_item 149 = .ok (.aload_n 0, 1) := dk_42 (dk_at dksX11_item_7 1 rfl rfl)
theorem dX11_item_150 : decode cX11_item 150 = .ok (.iconst 0, 1) := dk_3 (dk_at dksX11_item_7 2 rfl rfl)
theorem dX11_item_151 : decode cX11_item 151 = .ok (.bipush 9, 2) := dk_16 9 (dk_at dksX11_item_7 3 rfl rfl)
theorem dX11_item_153 : decode cX11_item 153 = .ok (.invokevirtual 98, 3) := dk_182 0 98 (dk_at dksX11_item_7 5 rfl rfl)
theorem dX11_item_156 : decode cX11_item 156 = .ok (.iastore, 1) := dk_79 (dk_at dksX11_item_7 8 rfl rfl)
theorem dX11_item_157 : decode cX11_item 157 = .ok (.aload_n 0, 1) := dk_42 (dk_at dksX11_item_7 9 rfl rfl)
theorem dX11_item_158 : decode cX11_item 158 = .ok (.getfield 17, 3) := dk_180 0 17 (dk_at dksX11_item_7 10 rfl rfl)
theorem dX11_item_161 : decode cX11_item 161 = .ok (.iconst 1, 1) := dk_4 (dk_at dksX11_item_7 13 rfl rfl)
theorem dX11_item_162 : decode cX11_item 162 = .ok (.dup2, 1) := dk_92 (dk_at dksX11_item_7 14 rfl rfl)
theorem dX11_item_163 : decode cX11_item 163 = .ok (.iaload, 1) := dk_46 (dk_at dksX11_item_7 15 rfl rfl)
theorem dX11_item_164 : decode cX11_item 164 = .ok (.iconst 1, 1) := dk_4 (dk_at dksX11_item_7 16 rfl rfl)
theorem dX11_item_165 : decode cX11_item 165 = .ok (.iadd, 1) := dk_96 (dk_at dksX11_item_7 17 rfl rfl)
theorem dX11_item_166 : decode cX11_item 166 = .ok (.iastore, 1) := dk_79 (dk_at dksX11_item_7 18 rfl rfl)
theorem dX11_item_167 : decode cX11_item 167 = .ok (.goto 61, 3) := dk_167 0 61 (dk_at dksX11_item_7 19 rfl rfl)
theorem dX11_item_170 : decode cX11_item 170 = .ok (.aload_n 0, 1) := dk_42 (dk_at dksX11_item_7 22 rfl rfl)
theorem dX11_item_171 : decode cX11_item 171 = .ok (.getfield 32, 3) := dk_180 0 32 (dk_at dksX11_item_8 0 rfl rfl)
theorem dX11_item_174 : decode cX11_item 174 = .ok (.bipush 6, 2) := dk_16 6 (dk_at dksX11_item_8 3 rfl rfl)
theorem dX11_item_176 : decode cX11_item 176 = .ok (.aload_n 0, 1) := dk_42 (dk_at dksX11_item_8 5 rfl rfl)
theorem dX11_item_177 : decode cX11_item 177 = .ok (.getfield 29, 3) := dk_180 0 29 (dk_at dksX11_item_8 6 rfl rfl)
theorem dX11_item_180 : decode cX11_item 180 = .ok (.iconst 1, 1) := dk_4 (dk_at dksX11_item_8 9 rfl rfl)
theorem dX11_item_181 : decode cX11_item 181 = .ok (.iaload, 1) := dk_46 (dk_at dksX11_item_8 10 rfl rfl)
theorem dX11_item_182 : decode cX11_item 182 = .ok (.iadd, 1) := dk_96 (dk_at dksX11_item_8 11 rfl rfl)
theorem dX11_item_183 : decode cX11_item 183 = .ok (.aload_n 0, 1) := dk_42 (dk_at dksX11_item_8 12 rfl rfl)
theorem dX11_item_184 : decode cX11_item 184 = .ok (.iconst 0, 1) := dk_3 (dk_at dksX11_item_8 13 rfl rfl)
theorem dX11_item_185 : decode cX11_item 185 = .ok (.aload_n 0, 1) := dk_42 (dk_at dksX11_item_8 14 rfl rfl)
theorem dX11_item_186 : decode cX11_item 186 = .ok (.getfield 17, 3) := dk_180 0 17 (dk_at dksX11_item_8 15 rfl rfl)
theorem dX11_item_189 : decode cX11_item 189 = .ok (.iconst 1, 1) := dk_4 (dk_at dksX11_item_8 18 rfl rfl)
theorem dX11_item_190 : decode cX11_item 190 = .ok (.iaload, 1) := dk_46 (dk_at dksX11_item_8 19 rfl rfl)
theorem dX11_item_191 : decode cX11_item 191 = .ok (.iconst 1, 1) := dk_4 (dk_at dksX11_item_8 20 rfl rfl)
theorem dX11_item_192 : decode cX11_item 192 = .ok (.isub, 1) := dk_100 (dk_at dksX11_item_8 21 rfl rfl)
theorem dX11_item_193 : decode cX11_item 193 = .ok (.invokevirtual 98, 3) := dk_182 0 98 (dk_at dksX11_item_9 0 rfl rfl)
theorem dX11_item_196 : decode cX11_item 196 = .ok (.iastore, 1) := dk_79 (dk_at dksX11_item_9 3 rfl rfl)
theorem dX11_item_197 : decode cX11_item 197 = .ok (.aload_n 0, 1) := dk_42 (dk_at dksX11_item_9 4 rfl rfl)
theorem dX11_item_198 : decode cX11_item 198 = .ok (.getfield 35, 3) := dk_180 0 35 (dk_at dksX11_item_9 5 rfl rfl)
theorem dX11_item_201 : decode cX11_item 201 = .ok (.bipush 6, 2) := dk_16 6 (dk_at dksX11_item_9 8 rfl rfl)
theorem dX11_item_203 : decode cX11_item 203 = .ok (.aload_n 0, 1) := dk_42 (dk_at dksX11_item_9 10 rfl rfl)
theorem dX11_item_204 : decode cX11_item 204 = .ok (.getfield 29, 3) := dk_180 0 29 (dk_at dksX11_item_9 11 rfl rfl)
theorem dX11_item_207 : decode cX11_item 207 = .ok (.iconst 1, 1) := dk_4 (dk_at dksX11_item_9 14 rfl rfl)
theorem dX11_item_208 : decode cX11_item 208 = .ok (.iaload, 1) := dk_46 (dk_at dksX11_item_9 15 rfl rfl)
theorem dX11_item_209 : decode cX11_item 209 = .ok (.iadd, 1) := dk_96 (dk_at dksX11_item_9 16 rfl rfl)
theorem dX11_item_210 : decode cX11_item 210 = .ok (.aload_n 0, 1) := dk_42 (dk_at dksX11_item_9 17 rfl rfl)
theorem dX11_item_211 : decode cX11_item 211 = .ok (.iconst 1, 1) := dk_4 (dk_at dksX11_item_9 18 rfl rfl)
theorem dX11_item_212 : decode cX11_item 212 = .ok (.bipush 10, 2) := dk_16 10 (dk_at dksX11_item_9 19 rfl rfl)
theorem dX11_item_214 : decode cX11_item 214 = .ok (.invokevirtual 98, 3) := dk_182 0 98 (dk_at dksX11_item_9 21 rfl rfl)
theorem dX11_item_217 : decode cX11_item 217 = .ok (.iastore, 1) := dk_79 (dk_at dksX11_item_10 0 rfl rfl)
theorem dX11_item_218 : decode cX11_item 218 = .ok (.aload_n 0, 1) := dk_42 (dk_at dksX11_item_10 1 rfl rfl)
theorem dX11_item_219 : decode cX11_item 219 = .ok (.getfield 29, 3) := dk_180 0 29 (dk_at dksX11_item_10 2 rfl rfl)
theorem dX11_item_222 : decode cX11_item 222 = .ok (.iconst 1, 1) := dk_4 (dk_at dksX11_item_10 5 rfl rfl)
theorem dX11_item_223 : decode cX11_item 223 = .ok (.dup2, 1) := dk_92 (dk_at dksX11_item_10 6 rfl rfl)
theorem dX11_item_224 : decode cX11_item 224 = .ok (.iaload, 1) := dk_46 (dk_at dksX11_item_10 7 rfl rfl)
theorem dX11_item_225 : decode cX11_item 225 = .ok (.iconst 1, 1) := dk_4 (dk_at dksX11_item_10 8 rfl rfl)
theorem dX11_item_226 : decode cX11_item 226 = .ok (.iadd, 1) := dk_96 (dk_at dksX11_item_10 9 rfl rfl)
theorem dX11_item_227 : decode cX11_item 227 = .ok (.iastore, 1) := dk_79 (dk_at dksX11_item_10 10 rfl rfl)
theorem dX11_item_228 : decode cX11_item 228 = .ok (.return_, 1) := dk_177 (dk_at dksX11_item_10 11 rfl rfl)
abbrev cX11_number : ByteArray := prog_14_method_11_code
def yX11_number : MethodName := ⟨RX11, "number", "(II)I"⟩
def dkwX11_number_1 : List UInt8 := [167, 0, 4, 3, 182, 0, 94, 29, 172]
abbrev dktX11_number_1 : List UInt8 := dkwX11_number_1 ++ []
def dkwX11_number_0 : List UInt8 := [42, 180, 0, 81, 62, 42, 42, 180, 0, 84, 5, 160, 0, 16, 29, 27, 28, 184, 0, 63, 153, 0, 7, 4]
abbrev dktX11_number_0 : List UInt8 := dkwX11_number_0 ++ dktX11_number_1
theorem dksX11_number_0 : cX11_number.data.toList.drop 0 = dktX11_number_0 := by decide +kernel
theorem dksX11_number_1 : cX11_number.data.toList.drop 24 = dktX11_number_1 := dk_seg dksX11_number_0 24 rfl rfl
theorem dX11_number_0 : decode cX11_number 0 = .ok (.aload_n 0, 1) := dk_42 (dk_at dksX11_number_0 0 rfl rfl)
theorem dX11_number_1 : decode cX11_number 1 = .ok (.getfield 81, 3) := dk_180 0 81 (dk_at dksX11_number_0 1 rfl rfl)
theorem dX11_number_4 : decode cX11_number 4 = .ok (.istore_n 3, 1) := dk_62 (dk_at dksX11_number_0 4 rfl rfl)
theorem dX11_number_5 : decode cX11_number 5 = .ok (.aload_n 0, 1) := dk_42 (dk_at dksX11_number_0 5 rfl rfl)
theorem dX11_number_6 : decode cX11_number 6 = .ok (.aload_n 0, 1) := dk_42 (dk_at dksX11_number_0 6 rfl rfl)
theorem dX11_number_7 : decode cX11_number 7 = .ok (.getfield 84, 3) := dk_180 0 84 (dk_at dksX11_number_0 7 rfl rfl)
theorem dX11_number_10 : decode cX11_number 10 = .ok (.iconst 2, 1) := dk_5 (dk_at dksX11_number_0 10 rfl rfl)
theorem dX11_number_11 : decode cX11_number 11 = .ok (.if_icmp .ne 16, 3) := dk_160 0 16 (dk_at dksX11_number_0 11 rfl rfl)
theorem dX11_number_14 : decode cX11_number 14 = .ok (.iload_n 3, 1) := dk_29 (dk_at dksX11_number_0 14 rfl rfl)
theorem dX11_number_15 : decode cX11_number 15 = .ok (.iload_n 1, 1) := dk_27 (dk_at dksX11_number_0 15 rfl rfl)
theorem dX11_number_16 : decode cX11_number 16 = .ok (.iload_n 2, 1) := dk_28 (dk_at dksX11_number_0 16 rfl rfl)
theorem dX11_number_17 : decode cX11_number 17 = .ok (.invokestatic 63, 3) := dk_184 0 63 (dk_at dksX11_number_0 17 rfl rfl)
theorem dX11_number_20 : decode cX11_number 20 = .ok (.ifCond .eq 7, 3) := dk_153 0 7 (dk_at dksX11_number_0 20 rfl rfl)
theorem dX11_number_23 : decode cX11_number 23 = .ok (.iconst 1, 1) := dk_4 (dk_at dksX11_number_0 23 rfl rfl)
theorem dX11_number_24 : decode cX11_number 24 = .ok (.goto 4, 3) := dk_167 0 4 (dk_at dksX11_number_1 0 rfl rfl)
theorem dX11_number_27 : decode cX11_number 27 = .ok (.iconst 0, 1) := dk_3 (dk_at dksX11_number_1 3 rfl rfl)
theorem dX11_number_28 : decode cX11_number 28 = .ok (.invokevirtual 94, 3) := dk_182 0 94 (dk_at dksX11_number_1 4 rfl rfl)
theorem dX11_number_31 : decode cX11_number 31 = .ok (.iload_n 3, 1) := dk_29 (dk_at dksX11_number_1 7 rfl rfl)
theorem dX11_number_32 : decode cX11_number 32 = .ok (.ireturn, 1) := dk_172 (dk_at dksX11_number_1 8 rfl rfl)
abbrev cX11_street : ByteArray := prog_14_method_25_code
def yX11_street : MethodName := ⟨RX11, "street", "(II)I"⟩
def dkwX11_street_4 : List UInt8 := [172, 42, 27, 182, 0, 133, 172, 2, 172]
abbrev dktX11_street_4 : List UInt8 := dkwX11_street_4 ++ []
def dkwX11_street_3 : List UInt8 := [180, 0, 38, 16, 10, 27, 96, 46, 172, 42, 180, 0, 38, 16, 19, 27, 96, 46, 172, 42, 27, 182, 0, 122]
abbrev dktX11_street_3 : List UInt8 := dkwX11_street_3 ++ dktX11_street_4
def dkwX11_street_2 : List UInt8 := [42, 180, 0, 20, 27, 46, 172, 42, 180, 0, 23, 27, 46, 172, 42, 180, 0, 38, 4, 27, 96, 46, 172, 42]
abbrev dktX11_street_2 : List UInt8 := dkwX11_street_2 ++ dktX11_street_3
def dkwX11_street_1 : List UInt8 := [170, 0, 0, 0, 96, 0, 0, 0, 0, 0, 0, 0, 6, 0, 0, 0, 41, 0, 0, 0, 48, 0, 0, 0, 55, 0, 0, 0, 64, 0, 0, 0, 74, 0, 0, 0, 84, 0, 0, 0, 90]
abbrev dktX11_street_1 : List UInt8 := dkwX11_street_1 ++ dktX11_street_2
def dkwX11_street_0 : List UInt8 := [42, 27, 182, 0, 130, 154, 0, 5, 2, 172, 28]
abbrev dktX11_street_0 : List UInt8 := dkwX11_street_0 ++ dktX11_street_1
theorem dksX11_street_0 : cX11_street.data.toList.drop 0 = dktX11_street_0 := by decide +kernel
theorem dksX11_street_1 : cX11_street.data.toList.drop 11 = dktX11_street_1 := dk_seg dksX11_street_0 11 rfl rfl
theorem dksX11_street_2 : cX11_street.data.toList.drop 52 = dktX11_street_2 := dk_seg dksX11_street_1 41 rfl rfl
theorem dksX11_street_3 : cX11_street.data.toList.drop 76 = dktX11_street_3 := dk_seg dksX11_street_2 24 rfl rfl
theorem dksX11_street_4 : cX11_street.data.toList.drop 100 = dktX11_street_4 := dk_seg dksX11_street_3 24 rfl rfl
theorem dX11_street_0 : decode cX11_street 0 = .ok (.aload_n 0, 1) := dk_42 (dk_at dksX11_street_0 0 rfl rfl)
theorem dX11_street_1 : decode cX11_street 1 = .ok (.iload_n 1, 1) := dk_27 (dk_at dksX11_street_0 1 rfl rfl)
theorem dX11_street_2 : decode cX11_street 2 = .ok (.invokevirtual 130, 3) := dk_182 0 130 (dk_at dksX11_street_0 2 rfl rfl)
theorem dX11_street_5 : decode cX11_street 5 = .ok (.ifCond .ne 5, 3) := dk_154 0 5 (dk_at dksX11_street_0 5 rfl rfl)
theorem dX11_street_8 : decode cX11_street 8 = .ok (.iconst (-1), 1) := dk_2 (dk_at dksX11_street_0 8 rfl rfl)
theorem dX11_street_9 : decode cX11_street 9 = .ok (.ireturn, 1) := dk_172 (dk_at dksX11_street_0 9 rfl rfl)
theorem dX11_street_10 : decode cX11_street 10 = .ok (.iload_n 2, 1) := dk_28 (dk_at dksX11_street_0 10 rfl rfl)
theorem dX11_street_11 : decode cX11_street 11 = .ok (.tableswitch 96 0 6 #[41, 48, 55, 64, 74, 84, 90], 41) := by decide +kernel
theorem dX11_street_52 : decode cX11_street 52 = .ok (.aload_n 0, 1) := dk_42 (dk_at dksX11_street_2 0 rfl rfl)
theorem dX11_street_53 : decode cX11_street 53 = .ok (.getfield 20, 3) := dk_180 0 20 (dk_at dksX11_street_2 1 rfl rfl)
theorem dX11_street_56 : decode cX11_street 56 = .ok (.iload_n 1, 1) := dk_27 (dk_at dksX11_street_2 4 rfl rfl)
theorem dX11_street_57 : decode cX11_street 57 = .ok (.iaload, 1) := dk_46 (dk_at dksX11_street_2 5 rfl rfl)
theorem dX11_street_58 : decode cX11_street 58 = .ok (.ireturn, 1) := dk_172 (dk_at dksX11_street_2 6 rfl rfl)
theorem dX11_street_59 : decode cX11_street 59 = .ok (.aload_n 0, 1) := dk_42 (dk_at dksX11_street_2 7 rfl rfl)
theorem dX11_street_60 : decode cX11_street 60 = .ok (.getfield 23, 3) := dk_180 0 23 (dk_at dksX11_street_2 8 rfl rfl)
theorem dX11_street_63 : decode cX11_street 63 = .ok (.iload_n 1, 1) := dk_27 (dk_at dksX11_street_2 11 rfl rfl)
theorem dX11_street_64 : decode cX11_street 64 = .ok (.iaload, 1) := dk_46 (dk_at dksX11_street_2 12 rfl rfl)
theorem dX11_street_65 : decode cX11_street 65 = .ok (.ireturn, 1) := dk_172 (dk_at dksX11_street_2 13 rfl rfl)
theorem dX11_street_66 : decode cX11_street 66 = .ok (.aload_n 0, 1) := dk_42 (dk_at dksX11_street_2 14 rfl rfl)
theorem dX11_street_67 : decode cX11_street 67 = .ok (.getfield 38, 3) := dk_180 0 38 (dk_at dksX11_street_2 15 rfl rfl)
theorem dX11_street_70 : decode cX11_street 70 = .ok (.iconst 1, 1) := dk_4 (dk_at dksX11_street_2 18 rfl rfl)
theorem dX11_street_71 : decode cX11_street 71 = .ok (.iload_n 1, 1) := dk_27 (dk_at dksX11_street_2 19 rfl rfl)
theorem dX11_street_72 : decode cX11_street 72 = .ok (.iadd, 1) := dk_96 (dk_at dksX11_street_2 20 rfl rfl)
theorem dX11_street_73 : decode cX11_street 73 = .ok (.iaload, 1) := dk_46 (dk_at dksX11_street_2 21 rfl rfl)
theorem dX11_street_74 : decode cX11_street 74 = .ok (.ireturn, 1) := dk_172 (dk_at dksX11_street_2 22 rfl rfl)
theorem dX11_street_75 : decode cX11_street 75 = .ok (.aload_n 0, 1) := dk_42 (dk_at dksX11_street_2 23 rfl rfl)
theorem dX11_street_76 : decode cX11_street 76 = .ok (.getfield 38, 3) := dk_180 0 38 (dk_at dksX11_street_3 0 rfl rfl)
theorem dX11_street_79 : decode cX11_street 79 = .ok (.bipush 10, 2) := dk_16 10 (dk_at dksX11_street_3 3 rfl rfl)
theorem dX11_street_81 : decode cX11_street 81 = .ok (.iload_n 1, 1) := dk_27 (dk_at dksX11_street_3 5 rfl rfl)
theorem dX11_street_82 : decode cX11_street 82 = .ok (.iadd, 1) := dk_96 (dk_at dksX11_street_3 6 rfl rfl)
theorem dX11_street_83 : decode cX11_street 83 = .ok (.iaload, 1) := dk_46 (dk_at dksX11_street_3 7 rfl rfl)
theorem dX11_street_84 : decode cX11_street 84 = .ok (.ireturn, 1) := dk_172 (dk_at dksX11_street_3 8 rfl rfl)
theorem dX11_street_85 : decode cX11_street 85 = .ok (.aload_n 0, 1) := dk_42 (dk_at dksX11_street_3 9 rfl rfl)
theorem dX11_street_86 : decode cX11_street 86 = .ok (.getfield 38, 3) := dk_180 0 38 (dk_at dksX11_street_3 10 rfl rfl)
theorem dX11_street_89 : decode cX11_street 89 = .ok (.bipush 19, 2) := dk_16 19 (dk_at dksX11_street_3 13 rfl rfl)
theorem dX11_street_91 : decode cX11_street 91 = .ok (.iload_n 1, 1) := dk_27 (dk_at dksX11_street_3 15 rfl rfl)
theorem dX11_street_92 : decode cX11_street 92 = .ok (.iadd, 1) := dk_96 (dk_at dksX11_street_3 16 rfl rfl)
theorem dX11_street_93 : decode cX11_street 93 = .ok (.iaload, 1) := dk_46 (dk_at dksX11_street_3 17 rfl rfl)
theorem dX11_street_94 : decode cX11_street 94 = .ok (.ireturn, 1) := dk_172 (dk_at dksX11_street_3 18 rfl rfl)
theorem dX11_street_95 : decode cX11_street 95 = .ok (.aload_n 0, 1) := dk_42 (dk_at dksX11_street_3 19 rfl rfl)
theorem dX11_street_96 : decode cX11_street 96 = .ok (.iload_n 1, 1) := dk_27 (dk_at dksX11_street_3 20 rfl rfl)
theorem dX11_street_97 : decode cX11_street 97 = .ok (.invokevirtual 122, 3) := dk_182 0 122 (dk_at dksX11_street_3 21 rfl rfl)
theorem dX11_street_100 : decode cX11_street 100 = .ok (.ireturn, 1) := dk_172 (dk_at dksX11_street_4 0 rfl rfl)
theorem dX11_street_101 : decode cX11_street 101 = .ok (.aload_n 0, 1) := dk_42 (dk_at dksX11_street_4 1 rfl rfl)
theorem dX11_street_102 : decode cX11_street 102 = .ok (.iload_n 1, 1) := dk_27 (dk_at dksX11_street_4 2 rfl rfl)
theorem dX11_street_103 : decode cX11_street 103 = .ok (.invokevirtual 133, 3) := dk_182 0 133 (dk_at dksX11_street_4 3 rfl rfl)
theorem dX11_street_106 : decode cX11_street 106 = .ok (.ireturn, 1) := dk_172 (dk_at dksX11_street_4 6 rfl rfl)
theorem dX11_street_107 : decode cX11_street 107 = .ok (.iconst (-1), 1) := dk_2 (dk_at dksX11_street_4 7 rfl rfl)
theorem dX11_street_108 : decode cX11_street 108 = .ok (.ireturn, 1) := dk_172 (dk_at dksX11_street_4 8 rfl rfl)
abbrev cX11_isStreet : ByteArray := prog_14_method_18_code
def yX11_isStreet : MethodName := ⟨RX11, "isStreet", "(I)Z"⟩
def dkwX11_isStreet_0 : List UInt8 := [27, 3, 42, 180, 0, 17, 3, 46, 4, 100, 184, 0, 63, 172]
abbrev dktX11_isStreet_0 : List UInt8 := dkwX11_isStreet_0 ++ []
theorem dksX11_isStreet_0 : cX11_isStreet.data.toList.drop 0 = dktX11_isStreet_0 := by decide +kernel
theorem dX11_isStreet_0 : decode cX11_isStreet 0 = .ok (.iload_n 1, 1) := dk_27 (dk_at dksX11_isStreet_0 0 rfl rfl)
theorem dX11_isStreet_1 : decode cX11_isStreet 1 = .ok (.iconst 0, 1) := dk_3 (dk_at dksX11_isStreet_0 1 rfl rfl)
theorem dX11_isStreet_2 : decode cX11_isStreet 2 = .ok (.aload_n 0, 1) := dk_42 (dk_at dksX11_isStreet_0 2 rfl rfl)
theorem dX11_isStreet_3 : decode cX11_isStreet 3 = .ok (.getfield 17, 3) := dk_180 0 17 (dk_at dksX11_isStreet_0 3 rfl rfl)
theorem dX11_isStreet_6 : decode cX11_isStreet 6 = .ok (.iconst 0, 1) := dk_3 (dk_at dksX11_isStreet_0 6 rfl rfl)
theorem dX11_isStreet_7 : decode cX11_isStreet 7 = .ok (.iaload, 1) := dk_46 (dk_at dksX11_isStreet_0 7 rfl rfl)
theorem dX11_isStreet_8 : decode cX11_isStreet 8 = .ok (.iconst 1, 1) := dk_4 (dk_at dksX11_isStreet_0 8 rfl rfl)
theorem dX11_isStreet_9 : decode cX11_isStreet 9 = .ok (.isub, 1) := dk_100 (dk_at dksX11_isStreet_0 9 rfl rfl)
theorem dX11_isStreet_10 : decode cX11_isStreet 10 = .ok (.invokestatic 63, 3) := dk_184 0 63 (dk_at dksX11_isStreet_0 10 rfl rfl)
theorem dX11_isStreet_13 : decode cX11_isStreet 13 = .ok (.ireturn, 1) := dk_172 (dk_at dksX11_isStreet_0 13 rfl rfl)
abbrev cX11_widthOf : ByteArray := prog_14_method_20_code
def yX11_widthOf : MethodName := ⟨RX11, "widthOf", "(I)I"⟩
def dkwX11_widthOf_1 : List UInt8 := [180, 0, 38, 16, 19, 27, 96, 46, 62, 4, 28, 29, 164, 0, 7, 28, 167, 0, 4, 29, 96, 172]
abbrev dktX11_widthOf_1 : List UInt8 := dkwX11_widthOf_1 ++ []
def dkwX11_widthOf_0 : List UInt8 := [42, 180, 0, 38, 4, 27, 96, 46, 61, 42, 180, 0, 38, 3, 46, 4, 160, 0, 7, 3, 167, 0, 12, 42]
abbrev dktX11_widthOf_0 : List UInt8 := dkwX11_widthOf_0 ++ dktX11_widthOf_1
theorem dksX11_widthOf_0 : cX11_widthOf.data.toList.drop 0 = dktX11_widthOf_0 := by decide +kernel
theorem dksX11_widthOf_1 : cX11_widthOf.data.toList.drop 24 = dktX11_widthOf_1 := dk_seg dksX11_widthOf_0 24 rfl rfl
theorem dX11_widthOf_0 : decode cX11_widthOf 0 = .ok (.aload_n 0, 1) := dk_42 (dk_at dksX11_widthOf_0 0 rfl rfl)
theorem dX11_widthOf_1 : decode cX11_widthOf 1 = .ok (.getfield 38, 3) := dk_180 0 38 (dk_at dksX11_widthOf_0 1 rfl rfl)
theorem dX11_widthOf_4 : decode cX11_widthOf 4 = .ok (.iconst 1, 1) := dk_4 (dk_at dksX11_widthOf_0 4 rfl rfl)
theorem dX11_widthOf_5 : decode cX11_widthOf 5 = .ok (.iload_n 1, 1) := dk_27 (dk_at dksX11_widthOf_0 5 rfl rfl)
theorem dX11_widthOf_6 : decode cX11_widthOf 6 = .ok (.iadd, 1) := dk_96 (dk_at dksX11_widthOf_0 6 rfl rfl)
theorem dX11_widthOf_7 : decode cX11_widthOf 7 = .ok (.iaload, 1) := dk_46 (dk_at dksX11_widthOf_0 7 rfl rfl)
theorem dX11_widthOf_8 : decode cX11_widthOf 8 = .ok (.istore_n 2, 1) := dk_61 (dk_at dksX11_widthOf_0 8 rfl rfl)
theorem dX11_widthOf_9 : decode cX11_widthOf 9 = .ok (.aload_n 0, 1) := dk_42 (dk_at dksX11_widthOf_0 9 rfl rfl)
theorem dX11_widthOf_10 : decode cX11_widthOf 10 = .ok (.getfield 38, 3) := dk_180 0 38 (dk_at dksX11_widthOf_0 10 rfl rfl)
theorem dX11_widthOf_13 : decode cX11_widthOf 13 = .ok (.iconst 0, 1) := dk_3 (dk_at dksX11_widthOf_0 13 rfl rfl)
theorem dX11_widthOf_14 : decode cX11_widthOf 14 = .ok (.iaload, 1) := dk_46 (dk_at dksX11_widthOf_0 14 rfl rfl)
theorem dX11_widthOf_15 : decode cX11_widthOf 15 = .ok (.iconst 1, 1) := dk_4 (dk_at dksX11_widthOf_0 15 rfl rfl)
theorem dX11_widthOf_16 : decode cX11_widthOf 16 = .ok (.if_icmp .ne 7, 3) := dk_160 0 7 (dk_at dksX11_widthOf_0 16 rfl rfl)
theorem dX11_widthOf_19 : decode cX11_widthOf 19 = .ok (.iconst 0, 1) := dk_3 (dk_at dksX11_widthOf_0 19 rfl rfl)
theorem dX11_widthOf_20 : decode cX11_widthOf 20 = .ok (.goto 12, 3) := dk_167 0 12 (dk_at dksX11_widthOf_0 20 rfl rfl)
theorem dX11_widthOf_23 : decode cX11_widthOf 23 = .ok (.aload_n 0, 1) := dk_42 (dk_at dksX11_widthOf_0 23 rfl rfl)
theorem dX11_widthOf_24 : decode cX11_widthOf 24 = .ok (.getfield 38, 3) := dk_180 0 38 (dk_at dksX11_widthOf_1 0 rfl rfl)
theorem dX11_widthOf_27 : decode cX11_widthOf 27 = .ok (.bipush 19, 2) := dk_16 19 (dk_at dksX11_widthOf_1 3 rfl rfl)
theorem dX11_widthOf_29 : decode cX11_widthOf 29 = .ok (.iload_n 1, 1) := dk_27 (dk_at dksX11_widthOf_1 5 rfl rfl)
theorem dX11_widthOf_30 : decode cX11_widthOf 30 = .ok (.iadd, 1) := dk_96 (dk_at dksX11_widthOf_1 6 rfl rfl)
theorem dX11_widthOf_31 : decode cX11_widthOf 31 = .ok (.iaload, 1) := dk_46 (dk_at dksX11_widthOf_1 7 rfl rfl)
theorem dX11_widthOf_32 : decode cX11_widthOf 32 = .ok (.istore_n 3, 1) := dk_62 (dk_at dksX11_widthOf_1 8 rfl rfl)
theorem dX11_widthOf_33 : decode cX11_widthOf 33 = .ok (.iconst 1, 1) := dk_4 (dk_at dksX11_widthOf_1 9 rfl rfl)
theorem dX11_widthOf_34 : decode cX11_widthOf 34 = .ok (.iload_n 2, 1) := dk_28 (dk_at dksX11_widthOf_1 10 rfl rfl)
theorem dX11_widthOf_35 : decode cX11_widthOf 35 = .ok (.iload_n 3, 1) := dk_29 (dk_at dksX11_widthOf_1 11 rfl rfl)
theorem dX11_widthOf_36 : decode cX11_widthOf 36 = .ok (.if_icmp .le 7, 3) := dk_164 0 7 (dk_at dksX11_widthOf_1 12 rfl rfl)
theorem dX11_widthOf_39 : decode cX11_widthOf 39 = .ok (.iload_n 2, 1) := dk_28 (dk_at dksX11_widthOf_1 15 rfl rfl)
theorem dX11_widthOf_40 : decode cX11_widthOf 40 = .ok (.goto 4, 3) := dk_167 0 4 (dk_at dksX11_widthOf_1 16 rfl rfl)
theorem dX11_widthOf_43 : decode cX11_widthOf 43 = .ok (.iload_n 3, 1) := dk_29 (dk_at dksX11_widthOf_1 19 rfl rfl)
theorem dX11_widthOf_44 : decode cX11_widthOf 44 = .ok (.iadd, 1) := dk_96 (dk_at dksX11_widthOf_1 20 rfl rfl)
theorem dX11_widthOf_45 : decode cX11_widthOf 45 = .ok (.ireturn, 1) := dk_172 (dk_at dksX11_widthOf_1 21 rfl rfl)
abbrev cX11_livingIn : ByteArray := prog_14_method_22_code
def yX11_livingIn : MethodName := ⟨RX11, "livingIn", "(I)I"⟩
def dkwX11_livingIn_1 : List UInt8 := [27, 160, 0, 9, 4, 29, 120, 167, 0, 4, 3, 128, 61, 132, 3, 1, 167, 255, 220, 28, 172]
abbrev dktX11_livingIn_1 : List UInt8 := dkwX11_livingIn_1 ++ []
def dkwX11_livingIn_0 : List UInt8 := [3, 61, 3, 62, 29, 42, 180, 0, 29, 3, 46, 162, 0, 32, 28, 42, 180, 0, 38, 16, 28, 29, 96, 46]
abbrev dktX11_livingIn_0 : List UInt8 := dkwX11_livingIn_0 ++ dktX11_livingIn_1
theorem dksX11_livingIn_0 : cX11_livingIn.data.toList.drop 0 = dktX11_livingIn_0 := by decide +kernel
theorem dksX11_livingIn_1 : cX11_livingIn.data.toList.drop 24 = dktX11_livingIn_1 := dk_seg dksX11_livingIn_0 24 rfl rfl
theorem dX11_livingIn_0 : decode cX11_livingIn 0 = .ok (.iconst 0, 1) := dk_3 (dk_at dksX11_livingIn_0 0 rfl rfl)
theorem dX11_livingIn_1 : decode cX11_livingIn 1 = .ok (.istore_n 2, 1) := dk_61 (dk_at dksX11_livingIn_0 1 rfl rfl)
theorem dX11_livingIn_2 : decode cX11_livingIn 2 = .ok (.iconst 0, 1) := dk_3 (dk_at dksX11_livingIn_0 2 rfl rfl)
theorem dX11_livingIn_3 : decode cX11_livingIn 3 = .ok (.istore_n 3, 1) := dk_62 (dk_at dksX11_livingIn_0 3 rfl rfl)
theorem dX11_livingIn_4 : decode cX11_livingIn 4 = .ok (.iload_n 3, 1) := dk_29 (dk_at dksX11_livingIn_0 4 rfl rfl)
theorem dX11_livingIn_5 : decode cX11_livingIn 5 = .ok (.aload_n 0, 1) := dk_42 (dk_at dksX11_livingIn_0 5 rfl rfl)
theorem dX11_livingIn_6 : decode cX11_livingIn 6 = .ok (.getfield 29, 3) := dk_180 0 29 (dk_at dksX11_livingIn_0 6 rfl rfl)
theorem dX11_livingIn_9 : decode cX11_livingIn 9 = .ok (.iconst 0, 1) := dk_3 (dk_at dksX11_livingIn_0 9 rfl rfl)
theorem dX11_livingIn_10 : decode cX11_livingIn 10 = .ok (.iaload, 1) := dk_46 (dk_at dksX11_livingIn_0 10 rfl rfl)
theorem dX11_livingIn_11 : decode cX11_livingIn 11 = .ok (.if_icmp .ge 32, 3) := dk_162 0 32 (dk_at dksX11_livingIn_0 11 rfl rfl)
theorem dX11_livingIn_14 : decode cX11_livingIn 14 = .ok (.iload_n 2, 1) := dk_28 (dk_at dksX11_livingIn_0 14 rfl rfl)
theorem dX11_livingIn_15 : decode cX11_livingIn 15 = .ok (.aload_n 0, 1) := dk_42 (dk_at dksX11_livingIn_0 15 rfl rfl)
theorem dX11_livingIn_16 : decode cX11_livingIn 16 = .ok (.getfield 38, 3) := dk_180 0 38 (dk_at dksX11_livingIn_0 16 rfl rfl)
theorem dX11_livingIn_19 : decode cX11_livingIn 19 = .ok (.bipush 28, 2) := dk_16 28 (dk_at dksX11_livingIn_0 19 rfl rfl)
theorem dX11_livingIn_21 : decode cX11_livingIn 21 = .ok (.iload_n 3, 1) := dk_29 (dk_at dksX11_livingIn_0 21 rfl rfl)
theorem dX11_livingIn_22 : decode cX11_livingIn 22 = .ok (.iadd, 1) := dk_96 (dk_at dksX11_livingIn_0 22 rfl rfl)
theorem dX11_livingIn_23 : decode cX11_livingIn 23 = .ok (.iaload, 1) := dk_46 (dk_at dksX11_livingIn_0 23 rfl rfl)
theorem dX11_livingIn_24 : decode cX11_livingIn 24 = .ok (.iload_n 1, 1) := dk_27 (dk_at dksX11_livingIn_1 0 rfl rfl)
theorem dX11_livingIn_25 : decode cX11_livingIn 25 = .ok (.if_icmp .ne 9, 3) := dk_160 0 9 (dk_at dksX11_livingIn_1 1 rfl rfl)
theorem dX11_livingIn_28 : decode cX11_livingIn 28 = .ok (.iconst 1, 1) := dk_4 (dk_at dksX11_livingIn_1 4 rfl rfl)
theorem dX11_livingIn_29 : decode cX11_livingIn 29 = .ok (.iload_n 3, 1) := dk_29 (dk_at dksX11_livingIn_1 5 rfl rfl)
theorem dX11_livingIn_30 : decode cX11_livingIn 30 = .ok (.ishl, 1) := dk_120 (dk_at dksX11_livingIn_1 6 rfl rfl)
theorem dX11_livingIn_31 : decode cX11_livingIn 31 = .ok (.goto 4, 3) := dk_167 0 4 (dk_at dksX11_livingIn_1 7 rfl rfl)
theorem dX11_livingIn_34 : decode cX11_livingIn 34 = .ok (.iconst 0, 1) := dk_3 (dk_at dksX11_livingIn_1 10 rfl rfl)
theorem dX11_livingIn_35 : decode cX11_livingIn 35 = .ok (.ior, 1) := dk_128 (dk_at dksX11_livingIn_1 11 rfl rfl)
theorem dX11_livingIn_36 : decode cX11_livingIn 36 = .ok (.istore_n 2, 1) := dk_61 (dk_at dksX11_livingIn_1 12 rfl rfl)
theorem dX11_livingIn_37 : decode cX11_livingIn 37 = .ok (.iinc 3 1, 3) := dk_132 3 1 (dk_at dksX11_livingIn_1 13 rfl rfl)
theorem dX11_livingIn_40 : decode cX11_livingIn 40 = .ok (.goto (-36), 3) := dk_167 255 220 (dk_at dksX11_livingIn_1 16 rfl rfl)
theorem dX11_livingIn_43 : decode cX11_livingIn 43 = .ok (.iload_n 2, 1) := dk_28 (dk_at dksX11_livingIn_1 19 rfl rfl)
theorem dX11_livingIn_44 : decode cX11_livingIn 44 = .ok (.ireturn, 1) := dk_172 (dk_at dksX11_livingIn_1 20 rfl rfl)
abbrev cX11_citizen : ByteArray := prog_14_method_26_code
def yX11_citizen : MethodName := ⟨RX11, "citizen", "(II)I"⟩
def dkwX11_citizen_3 : List UInt8 := [172]
abbrev dktX11_citizen_3 : List UInt8 := dkwX11_citizen_3 ++ []
def dkwX11_citizen_2 : List UInt8 := [42, 180, 0, 38, 16, 28, 27, 96, 46, 172, 42, 180, 0, 35, 27, 46, 172, 42, 27, 182, 0, 139, 172, 2]
abbrev dktX11_citizen_2 : List UInt8 := dkwX11_citizen_2 ++ dktX11_citizen_3
def dkwX11_citizen_1 : List UInt8 := [170, 0, 0, 0, 48, 0, 0, 0, 0, 0, 0, 0, 2, 0, 0, 0, 25, 0, 0, 0, 35, 0, 0, 0, 42]
abbrev dktX11_citizen_1 : List UInt8 := dkwX11_citizen_1 ++ dktX11_citizen_2
def dkwX11_citizen_0 : List UInt8 := [42, 27, 182, 0, 136, 154, 0, 5, 2, 172, 28]
abbrev dktX11_citizen_0 : List UInt8 := dkwX11_citizen_0 ++ dktX11_citizen_1
theorem dksX11_citizen_0 : cX11_citizen.data.toList.drop 0 = dktX11_citizen_0 := by decide +kernel
theorem dksX11_citizen_1 : cX11_citizen.data.toList.drop 11 = dktX11_citizen_1 := dk_seg dksX11_citizen_0 11 rfl rfl
theorem dksX11_citizen_2 : cX11_citizen.data.toList.drop 36 = dktX11_citizen_2 := dk_seg dksX11_citizen_1 25 rfl rfl
theorem dksX11_citizen_3 : cX11_citizen.data.toList.drop 60 = dktX11_citizen_3 := dk_seg dksX11_citizen_2 24 rfl rfl
theorem dX11_citizen_0 : decode cX11_citizen 0 = .ok (.aload_n 0, 1) := dk_42 (dk_at dksX11_citizen_0 0 rfl rfl)
theorem dX11_citizen_1 : decode cX11_citizen 1 = .ok (.iload_n 1, 1) := dk_27 (dk_at dksX11_citizen_0 1 rfl rfl)
theorem dX11_citizen_2 : decode cX11_citizen 2 = .ok (.invokevirtual 136, 3) := dk_182 0 136 (dk_at dksX11_citizen_0 2 rfl rfl)
theorem dX11_citizen_5 : decode cX11_citizen 5 = .ok (.ifCond .ne 5, 3) := dk_154 0 5 (dk_at dksX11_citizen_0 5 rfl rfl)
theorem dX11_citizen_8 : decode cX11_citizen 8 = .ok (.iconst (-1), 1) := dk_2 (dk_at dksX11_citizen_0 8 rfl rfl)
theorem dX11_citizen_9 : decode cX11_citizen 9 = .ok (.ireturn, 1) := dk_172 (dk_at dksX11_citizen_0 9 rfl rfl)
theorem dX11_citizen_10 : decode cX11_citizen 10 = .ok (.iload_n 2, 1) := dk_28 (dk_at dksX11_citizen_0 10 rfl rfl)
theorem dX11_citizen_11 : decode cX11_citizen 11 = .ok (.tableswitch 48 0 2 #[25, 35, 42], 25) := by decide +kernel
theorem dX11_citizen_36 : decode cX11_citizen 36 = .ok (.aload_n 0, 1) := dk_42 (dk_at dksX11_citizen_2 0 rfl rfl)
theorem dX11_citizen_37 : decode cX11_citizen 37 = .ok (.getfield 38, 3) := dk_180 0 38 (dk_at dksX11_citizen_2 1 rfl rfl)
theorem dX11_citizen_40 : decode cX11_citizen 40 = .ok (.bipush 28, 2) := dk_16 28 (dk_at dksX11_citizen_2 4 rfl rfl)
theorem dX11_citizen_42 : decode cX11_citizen 42 = .ok (.iload_n 1, 1) := dk_27 (dk_at dksX11_citizen_2 6 rfl rfl)
theorem dX11_citizen_43 : decode cX11_citizen 43 = .ok (.iadd, 1) := dk_96 (dk_at dksX11_citizen_2 7 rfl rfl)
theorem dX11_citizen_44 : decode cX11_citizen 44 = .ok (.iaload, 1) := dk_46 (dk_at dksX11_citizen_2 8 rfl rfl)
theorem dX11_citizen_45 : decode cX11_citizen 45 = .ok (.ireturn, 1) := dk_172 (dk_at dksX11_citizen_2 9 rfl rfl)
theorem dX11_citizen_46 : decode cX11_citizen 46 = .ok (.aload_n 0, 1) := dk_42 (dk_at dksX11_citizen_2 10 rfl rfl)
theorem dX11_citizen_47 : decode cX11_citizen 47 = .ok (.getfield 35, 3) := dk_180 0 35 (dk_at dksX11_citizen_2 11 rfl rfl)
theorem dX11_citizen_50 : decode cX11_citizen 50 = .ok (.iload_n 1, 1) := dk_27 (dk_at dksX11_citizen_2 14 rfl rfl)
theorem dX11_citizen_51 : decode cX11_citizen 51 = .ok (.iaload, 1) := dk_46 (dk_at dksX11_citizen_2 15 rfl rfl)
theorem dX11_citizen_52 : decode cX11_citizen 52 = .ok (.ireturn, 1) := dk_172 (dk_at dksX11_citizen_2 16 rfl rfl)
theorem dX11_citizen_53 : decode cX11_citizen 53 = .ok (.aload_n 0, 1) := dk_42 (dk_at dksX11_citizen_2 17 rfl rfl)
theorem dX11_citizen_54 : decode cX11_citizen 54 = .ok (.iload_n 1, 1) := dk_27 (dk_at dksX11_citizen_2 18 rfl rfl)
theorem dX11_citizen_55 : decode cX11_citizen 55 = .ok (.invokevirtual 139, 3) := dk_182 0 139 (dk_at dksX11_citizen_2 19 rfl rfl)
theorem dX11_citizen_58 : decode cX11_citizen 58 = .ok (.ireturn, 1) := dk_172 (dk_at dksX11_citizen_2 22 rfl rfl)
theorem dX11_citizen_59 : decode cX11_citizen 59 = .ok (.iconst (-1), 1) := dk_2 (dk_at dksX11_citizen_2 23 rfl rfl)
theorem dX11_citizen_60 : decode cX11_citizen 60 = .ok (.ireturn, 1) := dk_172 (dk_at dksX11_citizen_3 0 rfl rfl)
abbrev cX11_isPerson : ByteArray := prog_14_method_19_code
def yX11_isPerson : MethodName := ⟨RX11, "isPerson", "(I)Z"⟩
def dkwX11_isPerson_0 : List UInt8 := [27, 3, 42, 180, 0, 29, 3, 46, 4, 100, 184, 0, 63, 172]
abbrev dktX11_isPerson_0 : List UInt8 := dkwX11_isPerson_0 ++ []
theorem dksX11_isPerson_0 : cX11_isPerson.data.toList.drop 0 = dktX11_isPerson_0 := by decide +kernel
theorem dX11_isPerson_0 : decode cX11_isPerson 0 = .ok (.iload_n 1, 1) := dk_27 (dk_at dksX11_isPerson_0 0 rfl rfl)
theorem dX11_isPerson_1 : decode cX11_isPerson 1 = .ok (.iconst 0, 1) := dk_3 (dk_at dksX11_isPerson_0 1 rfl rfl)
theorem dX11_isPerson_2 : decode cX11_isPerson 2 = .ok (.aload_n 0, 1) := dk_42 (dk_at dksX11_isPerson_0 2 rfl rfl)
theorem dX11_isPerson_3 : decode cX11_isPerson 3 = .ok (.getfield 29, 3) := dk_180 0 29 (dk_at dksX11_isPerson_0 3 rfl rfl)
theorem dX11_isPerson_6 : decode cX11_isPerson 6 = .ok (.iconst 0, 1) := dk_3 (dk_at dksX11_isPerson_0 6 rfl rfl)
theorem dX11_isPerson_7 : decode cX11_isPerson 7 = .ok (.iaload, 1) := dk_46 (dk_at dksX11_isPerson_0 7 rfl rfl)
theorem dX11_isPerson_8 : decode cX11_isPerson 8 = .ok (.iconst 1, 1) := dk_4 (dk_at dksX11_isPerson_0 8 rfl rfl)
theorem dX11_isPerson_9 : decode cX11_isPerson 9 = .ok (.isub, 1) := dk_100 (dk_at dksX11_isPerson_0 9 rfl rfl)
theorem dX11_isPerson_10 : decode cX11_isPerson 10 = .ok (.invokestatic 63, 3) := dk_184 0 63 (dk_at dksX11_isPerson_0 10 rfl rfl)
theorem dX11_isPerson_13 : decode cX11_isPerson 13 = .ok (.ireturn, 1) := dk_172 (dk_at dksX11_isPerson_0 13 rfl rfl)
abbrev cX11_witnesses : ByteArray := prog_14_method_24_code
def yX11_witnesses : MethodName := ⟨RX11, "witnesses", "(I)I"⟩
def dkwX11_witnesses_2 : List UInt8 := [29, 120, 167, 0, 4, 3, 128, 61, 132, 3, 1, 167, 255, 203, 28, 172]
abbrev dktX11_witnesses_2 : List UInt8 := dkwX11_witnesses_2 ++ []
def dkwX11_witnesses_1 : List UInt8 := [180, 0, 38, 16, 28, 27, 96, 46, 42, 180, 0, 38, 16, 28, 29, 96, 46, 182, 0, 126, 153, 0, 9, 4]
abbrev dktX11_witnesses_1 : List UInt8 := dkwX11_witnesses_1 ++ dktX11_witnesses_2
def dkwX11_witnesses_0 : List UInt8 := [3, 61, 3, 62, 29, 42, 180, 0, 29, 3, 46, 162, 0, 49, 28, 29, 27, 159, 0, 34, 42, 42]
abbrev dktX11_witnesses_0 : List UInt8 := dkwX11_witnesses_0 ++ dktX11_witnesses_1
theorem dksX11_witnesses_0 : cX11_witnesses.data.toList.drop 0 = dktX11_witnesses_0 := by decide +kernel
theorem dksX11_witnesses_1 : cX11_witnesses.data.toList.drop 22 = dktX11_witnesses_1 := dk_seg dksX11_witnesses_0 22 rfl rfl
theorem dksX11_witnesses_2 : cX11_witnesses.data.toList.drop 46 = dktX11_witnesses_2 := dk_seg dksX11_witnesses_1 24 rfl rfl
theorem dX11_witnesses_0 : decode cX11_witnesses 0 = .ok (.iconst 0, 1) := dk_3 (dk_at dksX11_witnesses_0 0 rfl rfl)
theorem dX11_witnesses_1 : decode cX11_witnesses 1 = .ok (.istore_n 2, 1) := dk_61 (dk_at dksX11_witnesses_0 1 rfl rfl)
theorem dX11_witnesses_2 : decode cX11_witnesses 2 = .ok (.iconst 0, 1) := dk_3 (dk_at dksX11_witnesses_0 2 rfl rfl)
theorem dX11_witnesses_3 : decode cX11_witnesses 3 = .ok (.istore_n 3, 1) := dk_62 (dk_at dksX11_witnesses_0 3 rfl rfl)
theorem dX11_witnesses_4 : decode cX11_witnesses 4 = .ok (.iload_n 3, 1) := dk_29 (dk_at dksX11_witnesses_0 4 rfl rfl)
theorem dX11_witnesses_5 : decode cX11_witnesses 5 = .ok (.aload_n 0, 1) := dk_42 (dk_at dksX11_witnesses_0 5 rfl rfl)
theorem dX11_witnesses_6 : decode cX11_witnesses 6 = .ok (.getfield 29, 3) := dk_180 0 29 (dk_at dksX11_witnesses_0 6 rfl rfl)
theorem dX11_witnesses_9 : decode cX11_witnesses 9 = .ok (.iconst 0, 1) := dk_3 (dk_at dksX11_witnesses_0 9 rfl rfl)
theorem dX11_witnesses_10 : decode cX11_witnesses 10 = .ok (.iaload, 1) := dk_46 (dk_at dksX11_witnesses_0 10 rfl rfl)
theorem dX11_witnesses_11 : decode cX11_witnesses 11 = .ok (.if_icmp .ge 49, 3) := dk_162 0 49 (dk_at dksX11_witnesses_0 11 rfl rfl)
theorem dX11_witnesses_14 : decode cX11_witnesses 14 = .ok (.iload_n 2, 1) := dk_28 (dk_at dksX11_witnesses_0 14 rfl rfl)
theorem dX11_witnesses_15 : decode cX11_witnesses 15 = .ok (.iload_n 3, 1) := dk_29 (dk_at dksX11_witnesses_0 15 rfl rfl)
theorem dX11_witnesses_16 : decode cX11_witnesses 16 = .ok (.iload_n 1, 1) := dk_27 (dk_at dksX11_witnesses_0 16 rfl rfl)
theorem dX11_witnesses_17 : decode cX11_witnesses 17 = .ok (.if_icmp .eq 34, 3) := dk_159 0 34 (dk_at dksX11_witnesses_0 17 rfl rfl)
theorem dX11_witnesses_20 : decode cX11_witnesses 20 = .ok (.aload_n 0, 1) := dk_42 (dk_at dksX11_witnesses_0 20 rfl rfl)
theorem dX11_witnesses_21 : decode cX11_witnesses 21 = .ok (.aload_n 0, 1) := dk_42 (dk_at dksX11_witnesses_0 21 rfl rfl)
theorem dX11_witnesses_22 : decode cX11_witnesses 22 = .ok (.getfield 38, 3) := dk_180 0 38 (dk_at dksX11_witnesses_1 0 rfl rfl)
theorem dX11_witnesses_25 : decode cX11_witnesses 25 = .ok (.bipush 28, 2) := dk_16 28 (dk_at dksX11_witnesses_1 3 rfl rfl)
theorem dX11_witnesses_27 : decode cX11_witnesses 27 = .ok (.iload_n 1, 1) := dk_27 (dk_at dksX11_witnesses_1 5 rfl rfl)
theorem dX11_witnesses_28 : decode cX11_witnesses 28 = .ok (.iadd, 1) := dk_96 (dk_at dksX11_witnesses_1 6 rfl rfl)
theorem dX11_witnesses_29 : decode cX11_witnesses 29 = .ok (.iaload, 1) := dk_46 (dk_at dksX11_witnesses_1 7 rfl rfl)
theorem dX11_witnesses_30 : decode cX11_witnesses 30 = .ok (.aload_n 0, 1) := dk_42 (dk_at dksX11_witnesses_1 8 rfl rfl)
theorem dX11_witnesses_31 : decode cX11_witnesses 31 = .ok (.getfield 38, 3) := dk_180 0 38 (dk_at dksX11_witnesses_1 9 rfl rfl)
theorem dX11_witnesses_34 : decode cX11_witnesses 34 = .ok (.bipush 28, 2) := dk_16 28 (dk_at dksX11_witnesses_1 12 rfl rfl)
theorem dX11_witnesses_36 : decode cX11_witnesses 36 = .ok (.iload_n 3, 1) := dk_29 (dk_at dksX11_witnesses_1 14 rfl rfl)
theorem dX11_witnesses_37 : decode cX11_witnesses 37 = .ok (.iadd, 1) := dk_96 (dk_at dksX11_witnesses_1 15 rfl rfl)
theorem dX11_witnesses_38 : decode cX11_witnesses 38 = .ok (.iaload, 1) := dk_46 (dk_at dksX11_witnesses_1 16 rfl rfl)
theorem dX11_witnesses_39 : decode cX11_witnesses 39 = .ok (.invokevirtual 126, 3) := dk_182 0 126 (dk_at dksX11_witnesses_1 17 rfl rfl)
theorem dX11_witnesses_42 : decode cX11_witnesses 42 = .ok (.ifCond .eq 9, 3) := dk_153 0 9 (dk_at dksX11_witnesses_1 20 rfl rfl)
theorem dX11_witnesses_45 : decode cX11_witnesses 45 = .ok (.iconst 1, 1) := dk_4 (dk_at dksX11_witnesses_1 23 rfl rfl)
theorem dX11_witnesses_46 : decode cX11_witnesses 46 = .ok (.iload_n 3, 1) := dk_29 (dk_at dksX11_witnesses_2 0 rfl rfl)
theorem dX11_witnesses_47 : decode cX11_witnesses 47 = .ok (.ishl, 1) := dk_120 (dk_at dksX11_witnesses_2 1 rfl rfl)
theorem dX11_witnesses_48 : decode cX11_witnesses 48 = .ok (.goto 4, 3) := dk_167 0 4 (dk_at dksX11_witnesses_2 2 rfl rfl)
theorem dX11_witnesses_51 : decode cX11_witnesses 51 = .ok (.iconst 0, 1) := dk_3 (dk_at dksX11_witnesses_2 5 rfl rfl)
theorem dX11_witnesses_52 : decode cX11_witnesses 52 = .ok (.ior, 1) := dk_128 (dk_at dksX11_witnesses_2 6 rfl rfl)
theorem dX11_witnesses_53 : decode cX11_witnesses 53 = .ok (.istore_n 2, 1) := dk_61 (dk_at dksX11_witnesses_2 7 rfl rfl)
theorem dX11_witnesses_54 : decode cX11_witnesses 54 = .ok (.iinc 3 1, 3) := dk_132 3 1 (dk_at dksX11_witnesses_2 8 rfl rfl)
theorem dX11_witnesses_57 : decode cX11_witnesses 57 = .ok (.goto (-53), 3) := dk_167 255 203 (dk_at dksX11_witnesses_2 11 rfl rfl)
theorem dX11_witnesses_60 : decode cX11_witnesses 60 = .ok (.iload_n 2, 1) := dk_28 (dk_at dksX11_witnesses_2 14 rfl rfl)
theorem dX11_witnesses_61 : decode cX11_witnesses 61 = .ok (.ireturn, 1) := dk_172 (dk_at dksX11_witnesses_2 15 rfl rfl)
abbrev cX11_doMeet : ByteArray := prog_14_method_23_code
def yX11_doMeet : MethodName := ⟨RX11, "doMeet", "(II)Z"⟩
def dkwX11_doMeet_2 : List UInt8 := [180, 0, 23, 27, 46, 42, 180, 0, 23, 28, 46, 160, 0, 7, 4, 167, 0, 4, 3, 172]
abbrev dktX11_doMeet_2 : List UInt8 := dkwX11_doMeet_2 ++ []
def dkwX11_doMeet_1 : List UInt8 := [180, 0, 23, 28, 46, 159, 0, 33, 42, 180, 0, 23, 27, 46, 42, 180, 0, 20, 28, 46, 159, 0, 18, 42]
abbrev dktX11_doMeet_1 : List UInt8 := dkwX11_doMeet_1 ++ dktX11_doMeet_2
def dkwX11_doMeet_0 : List UInt8 := [42, 180, 0, 20, 27, 46, 42, 180, 0, 20, 28, 46, 159, 0, 48, 42, 180, 0, 20, 27, 46, 42]
abbrev dktX11_doMeet_0 : List UInt8 := dkwX11_doMeet_0 ++ dktX11_doMeet_1
theorem dksX11_doMeet_0 : cX11_doMeet.data.toList.drop 0 = dktX11_doMeet_0 := by decide +kernel
theorem dksX11_doMeet_1 : cX11_doMeet.data.toList.drop 22 = dktX11_doMeet_1 := dk_seg dksX11_doMeet_0 22 rfl rfl
theorem dksX11_doMeet_2 : cX11_doMeet.data.toList.drop 46 = dktX11_doMeet_2 := dk_seg dksX11_doMeet_1 24 rfl rfl
theorem dX11_doMeet_0 : decode cX11_doMeet 0 = .ok (.aload_n 0, 1) := dk_42 (dk_at dksX11_doMeet_0 0 rfl rfl)
theorem dX11_doMeet_1 : decode cX11_doMeet 1 = .ok (.getfield 20, 3) := dk_180 0 20 (dk_at dksX11_doMeet_0 1 rfl rfl)
theorem dX11_doMeet_4 : decode cX11_doMeet 4 = .ok (.iload_n 1, 1) := dk_27 (dk_at dksX11_doMeet_0 4 rfl rfl)
theorem dX11_doMeet_5 : decode cX11_doMeet 5 = .ok (.iaload, 1) := dk_46 (dk_at dksX11_doMeet_0 5 rfl rfl)
theorem dX11_doMeet_6 : decode cX11_doMeet 6 = .ok (.aload_n 0, 1) := dk_42 (dk_at dksX11_doMeet_0 6 rfl rfl)
theorem dX11_doMeet_7 : decode cX11_doMeet 7 = .ok (.getfield 20, 3) := dk_180 0 20 (dk_at dksX11_doMeet_0 7 rfl rfl)
theorem dX11_doMeet_10 : decode cX11_doMeet 10 = .ok (.iload_n 2, 1) := dk_28 (dk_at dksX11_doMeet_0 10 rfl rfl)
theorem dX11_doMeet_11 : decode cX11_doMeet 11 = .ok (.iaload, 1) := dk_46 (dk_at dksX11_doMeet_0 11 rfl rfl)
theorem dX11_doMeet_12 : decode cX11_doMeet 12 = .ok (.if_icmp .eq 48, 3) := dk_159 0 48 (dk_at dksX11_doMeet_0 12 rfl rfl)
theorem dX11_doMeet_15 : decode cX11_doMeet 15 = .ok (.aload_n 0, 1) := dk_42 (dk_at dksX11_doMeet_0 15 rfl rfl)
theorem dX11_doMeet_16 : decode cX11_doMeet 16 = .ok (.getfield 20, 3) := dk_180 0 20 (dk_at dksX11_doMeet_0 16 rfl rfl)
theorem dX11_doMeet_19 : decode cX11_doMeet 19 = .ok (.iload_n 1, 1) := dk_27 (dk_at dksX11_doMeet_0 19 rfl rfl)
theorem dX11_doMeet_20 : decode cX11_doMeet 20 = .ok (.iaload, 1) := dk_46 (dk_at dksX11_doMeet_0 20 rfl rfl)
theorem dX11_doMeet_21 : decode cX11_doMeet 21 = .ok (.aload_n 0, 1) := dk_42 (dk_at dksX11_doMeet_0 21 rfl rfl)
theorem dX11_doMeet_22 : decode cX11_doMeet 22 = .ok (.getfield 23, 3) := dk_180 0 23 (dk_at dksX11_doMeet_1 0 rfl rfl)
theorem dX11_doMeet_25 : decode cX11_doMeet 25 = .ok (.iload_n 2, 1) := dk_28 (dk_at dksX11_doMeet_1 3 rfl rfl)
theorem dX11_doMeet_26 : decode cX11_doMeet 26 = .ok (.iaload, 1) := dk_46 (dk_at dksX11_doMeet_1 4 rfl rfl)
theorem dX11_doMeet_27 : decode cX11_doMeet 27 = .ok (.if_icmp .eq 33, 3) := dk_159 0 33 (dk_at dksX11_doMeet_1 5 rfl rfl)
theorem dX11_doMeet_30 : decode cX11_doMeet 30 = .ok (.aload_n 0, 1) := dk_42 (dk_at dksX11_doMeet_1 8 rfl rfl)
theorem dX11_doMeet_31 : decode cX11_doMeet 31 = .ok (.getfield 23, 3) := dk_180 0 23 (dk_at dksX11_doMeet_1 9 rfl rfl)
theorem dX11_doMeet_34 : decode cX11_doMeet 34 = .ok (.iload_n 1, 1) := dk_27 (dk_at dksX11_doMeet_1 12 rfl rfl)
theorem dX11_doMeet_35 : decode cX11_doMeet 35 = .ok (.iaload, 1) := dk_46 (dk_at dksX11_doMeet_1 13 rfl rfl)
theorem dX11_doMeet_36 : decode cX11_doMeet 36 = .ok (.aload_n 0, 1) := dk_42 (dk_at dksX11_doMeet_1 14 rfl rfl)
theorem dX11_doMeet_37 : decode cX11_doMeet 37 = .ok (.getfield 20, 3) := dk_180 0 20 (dk_at dksX11_doMeet_1 15 rfl rfl)
theorem dX11_doMeet_40 : decode cX11_doMeet 40 = .ok (.iload_n 2, 1) := dk_28 (dk_at dksX11_doMeet_1 18 rfl rfl)
theorem dX11_doMeet_41 : decode cX11_doMeet 41 = .ok (.iaload, 1) := dk_46 (dk_at dksX11_doMeet_1 19 rfl rfl)
theorem dX11_doMeet_42 : decode cX11_doMeet 42 = .ok (.if_icmp .eq 18, 3) := dk_159 0 18 (dk_at dksX11_doMeet_1 20 rfl rfl)
theorem dX11_doMeet_45 : decode cX11_doMeet 45 = .ok (.aload_n 0, 1) := dk_42 (dk_at dksX11_doMeet_1 23 rfl rfl)
theorem dX11_doMeet_46 : decode cX11_doMeet 46 = .ok (.getfield 23, 3) := dk_180 0 23 (dk_at dksX11_doMeet_2 0 rfl rfl)
theorem dX11_doMeet_49 : decode cX11_doMeet 49 = .ok (.iload_n 1, 1) := dk_27 (dk_at dksX11_doMeet_2 3 rfl rfl)
theorem dX11_doMeet_50 : decode cX11_doMeet 50 = .ok (.iaload, 1) := dk_46 (dk_at dksX11_doMeet_2 4 rfl rfl)
theorem dX11_doMeet_51 : decode cX11_doMeet 51 = .ok (.aload_n 0, 1) := dk_42 (dk_at dksX11_doMeet_2 5 rfl rfl)
theorem dX11_doMeet_52 : decode cX11_doMeet 52 = .ok (.getfield 23, 3) := dk_180 0 23 (dk_at dksX11_doMeet_2 6 rfl rfl)
theorem dX11_doMeet_55 : decode cX11_doMeet 55 = .ok (.iload_n 2, 1) := dk_28 (dk_at dksX11_doMeet_2 9 rfl rfl)
theorem dX11_doMeet_56 : decode cX11_doMeet 56 = .ok (.iaload, 1) := dk_46 (dk_at dksX11_doMeet_2 10 rfl rfl)
theorem dX11_doMeet_57 : decode cX11_doMeet 57 = .ok (.if_icmp .ne 7, 3) := dk_160 0 7 (dk_at dksX11_doMeet_2 11 rfl rfl)
theorem dX11_doMeet_60 : decode cX11_doMeet 60 = .ok (.iconst 1, 1) := dk_4 (dk_at dksX11_doMeet_2 14 rfl rfl)
theorem dX11_doMeet_61 : decode cX11_doMeet 61 = .ok (.goto 4, 3) := dk_167 0 4 (dk_at dksX11_doMeet_2 15 rfl rfl)
theorem dX11_doMeet_64 : decode cX11_doMeet 64 = .ok (.iconst 0, 1) := dk_3 (dk_at dksX11_doMeet_2 18 rfl rfl)
theorem dX11_doMeet_65 : decode cX11_doMeet 65 = .ok (.ireturn, 1) := dk_172 (dk_at dksX11_doMeet_2 19 rfl rfl)
abbrev cX11_does : ByteArray := prog_14_method_28_code
def yX11_does : MethodName := ⟨RX11, "does", "(III)I"⟩
def dkwX11_does_5 : List UInt8 := [21, 4, 96, 28, 79, 42, 21, 4, 182, 0, 122, 172]
abbrev dktX11_does_5 : List UInt8 := dkwX11_does_5 ++ []
def dkwX11_does_4 : List UInt8 := [154, 0, 28, 42, 180, 0, 38, 21, 6, 21, 4, 96, 46, 28, 162, 0, 14, 42, 180, 0, 38, 21, 6]
abbrev dktX11_does_4 : List UInt8 := dkwX11_does_4 ++ dktX11_does_5
def dkwX11_does_3 : List UInt8 := [154, 0, 7, 4, 167, 0, 10, 16, 19, 167, 0, 5, 16, 10, 54, 6, 21, 5, 154, 0, 7, 29]
abbrev dktX11_does_3 : List UInt8 := dkwX11_does_3 ++ dktX11_does_4
def dkwX11_does_2 : List UInt8 := [182, 0, 139, 184, 0, 145, 5, 161, 0, 7, 4, 167, 0, 4, 3, 54, 5, 21, 5, 153, 0, 16, 29]
abbrev dktX11_does_2 : List UInt8 := dkwX11_does_2 ++ dktX11_does_3
def dkwX11_does_1 : List UInt8 := [154, 0, 5, 2, 172, 42, 182, 0, 142, 42, 180, 0, 38, 16, 28, 27, 96, 46, 54, 4, 42, 27]
abbrev dktX11_does_1 : List UInt8 := dkwX11_does_1 ++ dktX11_does_2
def dkwX11_does_0 : List UInt8 := [42, 27, 182, 0, 136, 153, 0, 22, 28, 4, 16, 9, 184, 0, 63, 153, 0, 12, 29, 3, 4, 184, 0, 63]
abbrev dktX11_does_0 : List UInt8 := dkwX11_does_0 ++ dktX11_does_1
theorem dksX11_does_0 : cX11_does.data.toList.drop 0 = dktX11_does_0 := by decide +kernel
theorem dksX11_does_1 : cX11_does.data.toList.drop 24 = dktX11_does_1 := dk_seg dksX11_does_0 24 rfl rfl
theorem dksX11_does_2 : cX11_does.data.toList.drop 46 = dktX11_does_2 := dk_seg dksX11_does_1 22 rfl rfl
theorem dksX11_does_3 : cX11_does.data.toList.drop 69 = dktX11_does_3 := dk_seg dksX11_does_2 23 rfl rfl
theorem dksX11_does_4 : cX11_does.data.toList.drop 91 = dktX11_does_4 := dk_seg dksX11_does_3 22 rfl rfl
theorem dksX11_does_5 : cX11_does.data.toList.drop 114 = dktX11_does_5 := dk_seg dksX11_does_4 23 rfl rfl
theorem dX11_does_0 : decode cX11_does 0 = .ok (.aload_n 0, 1) := dk_42 (dk_at dksX11_does_0 0 rfl rfl)
theorem dX11_does_1 : decode cX11_does 1 = .ok (.iload_n 1, 1) := dk_27 (dk_at dksX11_does_0 1 rfl rfl)
theorem dX11_does_2 : decode cX11_does 2 = .ok (.invokevirtual 136, 3) := dk_182 0 136 (dk_at dksX11_does_0 2 rfl rfl)
theorem dX11_does_5 : decode cX11_does 5 = .ok (.ifCond .eq 22, 3) := dk_153 0 22 (dk_at dksX11_does_0 5 rfl rfl)
theorem dX11_does_8 : decode cX11_does 8 = .ok (.iload_n 2, 1) := dk_28 (dk_at dksX11_does_0 8 rfl rfl)
theorem dX11_does_9 : decode cX11_does 9 = .ok (.iconst 1, 1) := dk_4 (dk_at dksX11_does_0 9 rfl rfl)
theorem dX11_does_10 : decode cX11_does 10 = .ok (.bipush 9, 2) := dk_16 9 (dk_at dksX11_does_0 10 rfl rfl)
theorem dX11_does_12 : decode cX11_does 12 = .ok (.invokestatic 63, 3) := dk_184 0 63 (dk_at dksX11_does_0 12 rfl rfl)
theorem dX11_does_15 : decode cX11_does 15 = .ok (.ifCond .eq 12, 3) := dk_153 0 12 (dk_at dksX11_does_0 15 rfl rfl)
theorem dX11_does_18 : decode cX11_does 18 = .ok (.iload_n 3, 1) := dk_29 (dk_at dksX11_does_0 18 rfl rfl)
theorem dX11_does_19 : decode cX11_does 19 = .ok (.iconst 0, 1) := dk_3 (dk_at dksX11_does_0 19 rfl rfl)
theorem dX11_does_20 : decode cX11_does 20 = .ok (.iconst 1, 1) := dk_4 (dk_at dksX11_does_0 20 rfl rfl)
theorem dX11_does_21 : decode cX11_does 21 = .ok (.invokestatic 63, 3) := dk_184 0 63 (dk_at dksX11_does_0 21 rfl rfl)
theorem dX11_does_24 : decode cX11_does 24 = .ok (.ifCond .ne 5, 3) := dk_154 0 5 (dk_at dksX11_does_1 0 rfl rfl)
theorem dX11_does_27 : decode cX11_does 27 = .ok (.iconst (-1), 1) := dk_2 (dk_at dksX11_does_1 3 rfl rfl)
theorem dX11_does_28 : decode cX11_does 28 = .ok (.ireturn, 1) := dk_172 (dk_at dksX11_does_1 4 rfl rfl)
theorem dX11_does_29 : decode cX11_does 29 = .ok (.aload_n 0, 1) := dk_42 (dk_at dksX11_does_1 5 rfl rfl)
theorem dX11_does_30 : decode cX11_does 30 = .ok (.invokevirtual 142, 3) := dk_182 0 142 (dk_at dksX11_does_1 6 rfl rfl)
theorem dX11_does_33 : decode cX11_does 33 = .ok (.aload_n 0, 1) := dk_42 (dk_at dksX11_does_1 9 rfl rfl)
theorem dX11_does_34 : decode cX11_does 34 = .ok (.getfield 38, 3) := dk_180 0 38 (dk_at dksX11_does_1 10 rfl rfl)
theorem dX11_does_37 : decode cX11_does 37 = .ok (.bipush 28, 2) := dk_16 28 (dk_at dksX11_does_1 13 rfl rfl)
theorem dX11_does_39 : decode cX11_does 39 = .ok (.iload_n 1, 1) := dk_27 (dk_at dksX11_does_1 15 rfl rfl)
theorem dX11_does_40 : decode cX11_does 40 = .ok (.iadd, 1) := dk_96 (dk_at dksX11_does_1 16 rfl rfl)
theorem dX11_does_41 : decode cX11_does 41 = .ok (.iaload, 1) := dk_46 (dk_at dksX11_does_1 17 rfl rfl)
theorem dX11_does_42 : decode cX11_does 42 = .ok (.istore 4, 2) := dk_54 4 (dk_at dksX11_does_1 18 rfl rfl)
theorem dX11_does_44 : decode cX11_does 44 = .ok (.aload_n 0, 1) := dk_42 (dk_at dksX11_does_1 20 rfl rfl)
theorem dX11_does_45 : decode cX11_does 45 = .ok (.iload_n 1, 1) := dk_27 (dk_at dksX11_does_1 21 rfl rfl)
theorem dX11_does_46 : decode cX11_does 46 = .ok (.invokevirtual 139, 3) := dk_182 0 139 (dk_at dksX11_does_2 0 rfl rfl)
theorem dX11_does_49 : decode cX11_does 49 = .ok (.invokestatic 145, 3) := dk_184 0 145 (dk_at dksX11_does_2 3 rfl rfl)
theorem dX11_does_52 : decode cX11_does 52 = .ok (.iconst 2, 1) := dk_5 (dk_at dksX11_does_2 6 rfl rfl)
theorem dX11_does_53 : decode cX11_does 53 = .ok (.if_icmp .lt 7, 3) := dk_161 0 7 (dk_at dksX11_does_2 7 rfl rfl)
theorem dX11_does_56 : decode cX11_does 56 = .ok (.iconst 1, 1) := dk_4 (dk_at dksX11_does_2 10 rfl rfl)
theorem dX11_does_57 : decode cX11_does 57 = .ok (.goto 4, 3) := dk_167 0 4 (dk_at dksX11_does_2 11 rfl rfl)
theorem dX11_does_60 : decode cX11_does 60 = .ok (.iconst 0, 1) := dk_3 (dk_at dksX11_does_2 14 rfl rfl)
theorem dX11_does_61 : decode cX11_does 61 = .ok (.istore 5, 2) := dk_54 5 (dk_at dksX11_does_2 15 rfl rfl)
theorem dX11_does_63 : decode cX11_does 63 = .ok (.iload 5, 2) := dk_21 5 (dk_at dksX11_does_2 17 rfl rfl)
theorem dX11_does_65 : decode cX11_does 65 = .ok (.ifCond .eq 16, 3) := dk_153 0 16 (dk_at dksX11_does_2 19 rfl rfl)
theorem dX11_does_68 : decode cX11_does 68 = .ok (.iload_n 3, 1) := dk_29 (dk_at dksX11_does_2 22 rfl rfl)
theorem dX11_does_69 : decode cX11_does 69 = .ok (.ifCond .ne 7, 3) := dk_154 0 7 (dk_at dksX11_does_3 0 rfl rfl)
theorem dX11_does_72 : decode cX11_does 72 = .ok (.iconst 1, 1) := dk_4 (dk_at dksX11_does_3 3 rfl rfl)
theorem dX11_does_73 : decode cX11_does 73 = .ok (.goto 10, 3) := dk_167 0 10 (dk_at dksX11_does_3 4 rfl rfl)
theorem dX11_does_76 : decode cX11_does 76 = .ok (.bipush 19, 2) := dk_16 19 (dk_at dksX11_does_3 7 rfl rfl)
theorem dX11_does_78 : decode cX11_does 78 = .ok (.goto 5, 3) := dk_167 0 5 (dk_at dksX11_does_3 9 rfl rfl)
theorem dX11_does_81 : decode cX11_does 81 = .ok (.bipush 10, 2) := dk_16 10 (dk_at dksX11_does_3 12 rfl rfl)
theorem dX11_does_83 : decode cX11_does 83 = .ok (.istore 6, 2) := dk_54 6 (dk_at dksX11_does_3 14 rfl rfl)
theorem dX11_does_85 : decode cX11_does 85 = .ok (.iload 5, 2) := dk_21 5 (dk_at dksX11_does_3 16 rfl rfl)
theorem dX11_does_87 : decode cX11_does 87 = .ok (.ifCond .ne 7, 3) := dk_154 0 7 (dk_at dksX11_does_3 18 rfl rfl)
theorem dX11_does_90 : decode cX11_does 90 = .ok (.iload_n 3, 1) := dk_29 (dk_at dksX11_does_3 21 rfl rfl)
theorem dX11_does_91 : decode cX11_does 91 = .ok (.ifCond .ne 28, 3) := dk_154 0 28 (dk_at dksX11_does_4 0 rfl rfl)
theorem dX11_does_94 : decode cX11_does 94 = .ok (.aload_n 0, 1) := dk_42 (dk_at dksX11_does_4 3 rfl rfl)
theorem dX11_does_95 : decode cX11_does 95 = .ok (.getfield 38, 3) := dk_180 0 38 (dk_at dksX11_does_4 4 rfl rfl)
theorem dX11_does_98 : decode cX11_does 98 = .ok (.iload 6, 2) := dk_21 6 (dk_at dksX11_does_4 7 rfl rfl)
theorem dX11_does_100 : decode cX11_does 100 = .ok (.iload 4, 2) := dk_21 4 (dk_at dksX11_does_4 9 rfl rfl)
theorem dX11_does_102 : decode cX11_does 102 = .ok (.iadd, 1) := dk_96 (dk_at dksX11_does_4 11 rfl rfl)
theorem dX11_does_103 : decode cX11_does 103 = .ok (.iaload, 1) := dk_46 (dk_at dksX11_does_4 12 rfl rfl)
theorem dX11_does_104 : decode cX11_does 104 = .ok (.iload_n 2, 1) := dk_28 (dk_at dksX11_does_4 13 rfl rfl)
theorem dX11_does_105 : decode cX11_does 105 = .ok (.if_icmp .ge 14, 3) := dk_162 0 14 (dk_at dksX11_does_4 14 rfl rfl)
theorem dX11_does_108 : decode cX11_does 108 = .ok (.aload_n 0, 1) := dk_42 (dk_at dksX11_does_4 17 rfl rfl)
theorem dX11_does_109 : decode cX11_does 109 = .ok (.getfield 38, 3) := dk_180 0 38 (dk_at dksX11_does_4 18 rfl rfl)
theorem dX11_does_112 : decode cX11_does 112 = .ok (.iload 6, 2) := dk_21 6 (dk_at dksX11_does_4 21 rfl rfl)
theorem dX11_does_114 : decode cX11_does 114 = .ok (.iload 4, 2) := dk_21 4 (dk_at dksX11_does_5 0 rfl rfl)
theorem dX11_does_116 : decode cX11_does 116 = .ok (.iadd, 1) := dk_96 (dk_at dksX11_does_5 2 rfl rfl)
theorem dX11_does_117 : decode cX11_does 117 = .ok (.iload_n 2, 1) := dk_28 (dk_at dksX11_does_5 3 rfl rfl)
theorem dX11_does_118 : decode cX11_does 118 = .ok (.iastore, 1) := dk_79 (dk_at dksX11_does_5 4 rfl rfl)
theorem dX11_does_119 : decode cX11_does 119 = .ok (.aload_n 0, 1) := dk_42 (dk_at dksX11_does_5 5 rfl rfl)
theorem dX11_does_120 : decode cX11_does 120 = .ok (.iload 4, 2) := dk_21 4 (dk_at dksX11_does_5 6 rfl rfl)
theorem dX11_does_122 : decode cX11_does 122 = .ok (.invokevirtual 122, 3) := dk_182 0 122 (dk_at dksX11_does_5 8 rfl rfl)
theorem dX11_does_125 : decode cX11_does 125 = .ok (.ireturn, 1) := dk_172 (dk_at dksX11_does_5 11 rfl rfl)
abbrev cX11_know : ByteArray := prog_14_method_27_code
def yX11_know : MethodName := ⟨RX11, "know", "()V"⟩
def dkwX11_know_4 : List UInt8 := [79, 177]
abbrev dktX11_know_4 : List UInt8 := dkwX11_know_4 ++ []
def dkwX11_know_3 : List UInt8 := [27, 96, 42, 180, 0, 38, 27, 46, 79, 132, 1, 1, 167, 255, 225, 42, 180, 0, 41, 3, 92, 46, 4, 96]
abbrev dktX11_know_3 : List UInt8 := dkwX11_know_3 ++ dktX11_know_4
def dkwX11_know_2 : List UInt8 := [4, 100, 79, 3, 60, 27, 16, 34, 162, 0, 31, 42, 180, 0, 44, 16, 34, 42, 180, 0, 41, 3, 46, 104]
abbrev dktX11_know_2 : List UInt8 := dkwX11_know_2 ++ dktX11_know_3
def dkwX11_know_1 : List UInt8 := [27, 42, 180, 0, 44, 16, 34, 27, 96, 46, 79, 132, 1, 1, 167, 255, 231, 42, 180, 0, 41, 3, 92, 46]
abbrev dktX11_know_1 : List UInt8 := dkwX11_know_1 ++ dktX11_know_2
def dkwX11_know_0 : List UInt8 := [42, 180, 0, 41, 3, 46, 16, 10, 160, 0, 43, 3, 60, 27, 17, 1, 50, 162, 0, 24, 42, 180, 0, 44]
abbrev dktX11_know_0 : List UInt8 := dkwX11_know_0 ++ dktX11_know_1
theorem dksX11_know_0 : cX11_know.data.toList.drop 0 = dktX11_know_0 := by decide +kernel
theorem dksX11_know_1 : cX11_know.data.toList.drop 24 = dktX11_know_1 := dk_seg dksX11_know_0 24 rfl rfl
theorem dksX11_know_2 : cX11_know.data.toList.drop 48 = dktX11_know_2 := dk_seg dksX11_know_1 24 rfl rfl
theorem dksX11_know_3 : cX11_know.data.toList.drop 72 = dktX11_know_3 := dk_seg dksX11_know_2 24 rfl rfl
theorem dksX11_know_4 : cX11_know.data.toList.drop 96 = dktX11_know_4 := dk_seg dksX11_know_3 24 rfl rfl
theorem dX11_know_0 : decode cX11_know 0 = .ok (.aload_n 0, 1) := dk_42 (dk_at dksX11_know_0 0 rfl rfl)
theorem dX11_know_1 : decode cX11_know 1 = .ok (.getfield 41, 3) := dk_180 0 41 (dk_at dksX11_know_0 1 rfl rfl)
theorem dX11_know_4 : decode cX11_know 4 = .ok (.iconst 0, 1) := dk_3 (dk_at dksX11_know_0 4 rfl rfl)
theorem dX11_know_5 : decode cX11_know 5 = .ok (.iaload, 1) := dk_46 (dk_at dksX11_know_0 5 rfl rfl)
theorem dX11_know_6 : decode cX11_know 6 = .ok (.bipush 10, 2) := dk_16 10 (dk_at dksX11_know_0 6 rfl rfl)
theorem dX11_know_8 : decode cX11_know 8 = .ok (.if_icmp .ne 43, 3) := dk_160 0 43 (dk_at dksX11_know_0 8 rfl rfl)
theorem dX11_know_11 : decode cX11_know 11 = .ok (.iconst 0, 1) := dk_3 (dk_at dksX11_know_0 11 rfl rfl)
theorem dX11_know_12 : decode cX11_know 12 = .ok (.istore_n 1, 1) := dk_60 (dk_at dksX11_know_0 12 rfl rfl)
theorem dX11_know_13 : decode cX11_know 13 = .ok (.iload_n 1, 1) := dk_27 (dk_at dksX11_know_0 13 rfl rfl)
theorem dX11_know_14 : decode cX11_know 14 = .ok (.sipush 306, 3) := dk_17 1 50 (dk_at dksX11_know_0 14 rfl rfl)
theorem dX11_know_17 : decode cX11_know 17 = .ok (.if_icmp .ge 24, 3) := dk_162 0 24 (dk_at dksX11_know_0 17 rfl rfl)
theorem dX11_know_20 : decode cX11_know 20 = .ok (.aload_n 0, 1) := dk_42 (dk_at dksX11_know_0 20 rfl rfl)
theorem dX11_know_21 : decode cX11_know 21 = .ok (.getfield 44, 3) := dk_180 0 44 (dk_at dksX11_know_0 21 rfl rfl)
theorem dX11_know_24 : decode cX11_know 24 = .ok (.iload_n 1, 1) := dk_27 (dk_at dksX11_know_1 0 rfl rfl)
theorem dX11_know_25 : decode cX11_know 25 = .ok (.aload_n 0, 1) := dk_42 (dk_at dksX11_know_1 1 rfl rfl)
theorem dX11_know_26 : decode cX11_know 26 = .ok (.getfield 44, 3) := dk_180 0 44 (dk_at dksX11_know_1 2 rfl rfl)
theorem dX11_know_29 : decode cX11_know 29 = .ok (.bipush 34, 2) := dk_16 34 (dk_at dksX11_know_1 5 rfl rfl)
theorem dX11_know_31 : decode cX11_know 31 = .ok (.iload_n 1, 1) := dk_27 (dk_at dksX11_know_1 7 rfl rfl)
theorem dX11_know_32 : decode cX11_know 32 = .ok (.iadd, 1) := dk_96 (dk_at dksX11_know_1 8 rfl rfl)
theorem dX11_know_33 : decode cX11_know 33 = .ok (.iaload, 1) := dk_46 (dk_at dksX11_know_1 9 rfl rfl)
theorem dX11_know_34 : decode cX11_know 34 = .ok (.iastore, 1) := dk_79 (dk_at dksX11_know_1 10 rfl rfl)
theorem dX11_know_35 : decode cX11_know 35 = .ok (.iinc 1 1, 3) := dk_132 1 1 (dk_at dksX11_know_1 11 rfl rfl)
theorem dX11_know_38 : decode cX11_know 38 = .ok (.goto (-25), 3) := dk_167 255 231 (dk_at dksX11_know_1 14 rfl rfl)
theorem dX11_know_41 : decode cX11_know 41 = .ok (.aload_n 0, 1) := dk_42 (dk_at dksX11_know_1 17 rfl rfl)
theorem dX11_know_42 : decode cX11_know 42 = .ok (.getfield 41, 3) := dk_180 0 41 (dk_at dksX11_know_1 18 rfl rfl)
theorem dX11_know_45 : decode cX11_know 45 = .ok (.iconst 0, 1) := dk_3 (dk_at dksX11_know_1 21 rfl rfl)
theorem dX11_know_46 : decode cX11_know 46 = .ok (.dup2, 1) := dk_92 (dk_at dksX11_know_1 22 rfl rfl)
theorem dX11_know_47 : decode cX11_know 47 = .ok (.iaload, 1) := dk_46 (dk_at dksX11_know_1 23 rfl rfl)
theorem dX11_know_48 : decode cX11_know 48 = .ok (.iconst 1, 1) := dk_4 (dk_at dksX11_know_2 0 rfl rfl)
theorem dX11_know_49 : decode cX11_know 49 = .ok (.isub, 1) := dk_100 (dk_at dksX11_know_2 1 rfl rfl)
theorem dX11_know_50 : decode cX11_know 50 = .ok (.iastore, 1) := dk_79 (dk_at dksX11_know_2 2 rfl rfl)
theorem dX11_know_51 : decode cX11_know 51 = .ok (.iconst 0, 1) := dk_3 (dk_at dksX11_know_2 3 rfl rfl)
theorem dX11_know_52 : decode cX11_know 52 = .ok (.istore_n 1, 1) := dk_60 (dk_at dksX11_know_2 4 rfl rfl)
theorem dX11_know_53 : decode cX11_know 53 = .ok (.iload_n 1, 1) := dk_27 (dk_at dksX11_know_2 5 rfl rfl)
theorem dX11_know_54 : decode cX11_know 54 = .ok (.bipush 34, 2) := dk_16 34 (dk_at dksX11_know_2 6 rfl rfl)
theorem dX11_know_56 : decode cX11_know 56 = .ok (.if_icmp .ge 31, 3) := dk_162 0 31 (dk_at dksX11_know_2 8 rfl rfl)
theorem dX11_know_59 : decode cX11_know 59 = .ok (.aload_n 0, 1) := dk_42 (dk_at dksX11_know_2 11 rfl rfl)
theorem dX11_know_60 : decode cX11_know 60 = .ok (.getfield 44, 3) := dk_180 0 44 (dk_at dksX11_know_2 12 rfl rfl)
theorem dX11_know_63 : decode cX11_know 63 = .ok (.bipush 34, 2) := dk_16 34 (dk_at dksX11_know_2 15 rfl rfl)
theorem dX11_know_65 : decode cX11_know 65 = .ok (.aload_n 0, 1) := dk_42 (dk_at dksX11_know_2 17 rfl rfl)
theorem dX11_know_66 : decode cX11_know 66 = .ok (.getfield 41, 3) := dk_180 0 41 (dk_at dksX11_know_2 18 rfl rfl)
theorem dX11_know_69 : decode cX11_know 69 = .ok (.iconst 0, 1) := dk_3 (dk_at dksX11_know_2 21 rfl rfl)
theorem dX11_know_70 : decode cX11_know 70 = .ok (.iaload, 1) := dk_46 (dk_at dksX11_know_2 22 rfl rfl)
theorem dX11_know_71 : decode cX11_know 71 = .ok (.imul, 1) := dk_104 (dk_at dksX11_know_2 23 rfl rfl)
theorem dX11_know_72 : decode cX11_know 72 = .ok (.iload_n 1, 1) := dk_27 (dk_at dksX11_know_3 0 rfl rfl)
theorem dX11_know_73 : decode cX11_know 73 = .ok (.iadd, 1) := dk_96 (dk_at dksX11_know_3 1 rfl rfl)
theorem dX11_know_74 : decode cX11_know 74 = .ok (.aload_n 0, 1) := dk_42 (dk_at dksX11_know_3 2 rfl rfl)
theorem dX11_know_75 : decode cX11_know 75 = .ok (.getfield 38, 3) := dk_180 0 38 (dk_at dksX11_know_3 3 rfl rfl)
theorem dX11_know_78 : decode cX11_know 78 = .ok (.iload_n 1, 1) := dk_27 (dk_at dksX11_know_3 6 rfl rfl)
theorem dX11_know_79 : decode cX11_know 79 = .ok (.iaload, 1) := dk_46 (dk_at dksX11_know_3 7 rfl rfl)
theorem dX11_know_80 : decode cX11_know 80 = .ok (.iastore, 1) := dk_79 (dk_at dksX11_know_3 8 rfl rfl)
theorem dX11_know_81 : decode cX11_know 81 = .ok (.iinc 1 1, 3) := dk_132 1 1 (dk_at dksX11_know_3 9 rfl rfl)
theorem dX11_know_84 : decode cX11_know 84 = .ok (.goto (-31), 3) := dk_167 255 225 (dk_at dksX11_know_3 12 rfl rfl)
theorem dX11_know_87 : decode cX11_know 87 = .ok (.aload_n 0, 1) := dk_42 (dk_at dksX11_know_3 15 rfl rfl)
theorem dX11_know_88 : decode cX11_know 88 = .ok (.getfield 41, 3) := dk_180 0 41 (dk_at dksX11_know_3 16 rfl rfl)
theorem dX11_know_91 : decode cX11_know 91 = .ok (.iconst 0, 1) := dk_3 (dk_at dksX11_know_3 19 rfl rfl)
theorem dX11_know_92 : decode cX11_know 92 = .ok (.dup2, 1) := dk_92 (dk_at dksX11_know_3 20 rfl rfl)
theorem dX11_know_93 : decode cX11_know 93 = .ok (.iaload, 1) := dk_46 (dk_at dksX11_know_3 21 rfl rfl)
theorem dX11_know_94 : decode cX11_know 94 = .ok (.iconst 1, 1) := dk_4 (dk_at dksX11_know_3 22 rfl rfl)
theorem dX11_know_95 : decode cX11_know 95 = .ok (.iadd, 1) := dk_96 (dk_at dksX11_know_3 23 rfl rfl)
theorem dX11_know_96 : decode cX11_know 96 = .ok (.iastore, 1) := dk_79 (dk_at dksX11_know_4 0 rfl rfl)
theorem dX11_know_97 : decode cX11_know 97 = .ok (.return_, 1) := dk_177 (dk_at dksX11_know_4 1 rfl rfl)
abbrev cX11_bitsOf : ByteArray := prog_14_method_5_code
def yX11_bitsOf : MethodName := ⟨RX11, "bitsOf", "(I)I"⟩
def dkwX11_bitsOf_1 : List UInt8 := [27, 172]
abbrev dktX11_bitsOf_1 : List UInt8 := dkwX11_bitsOf_1 ++ []
def dkwX11_bitsOf_0 : List UInt8 := [3, 60, 3, 61, 28, 16, 10, 162, 0, 17, 27, 26, 28, 122, 4, 126, 96, 60, 132, 2, 1, 167, 255, 239]
abbrev dktX11_bitsOf_0 : List UInt8 := dkwX11_bitsOf_0 ++ dktX11_bitsOf_1
theorem dksX11_bitsOf_0 : cX11_bitsOf.data.toList.drop 0 = dktX11_bitsOf_0 := by decide +kernel
theorem dksX11_bitsOf_1 : cX11_bitsOf.data.toList.drop 24 = dktX11_bitsOf_1 := dk_seg dksX11_bitsOf_0 24 rfl rfl
theorem dX11_bitsOf_0 : decode cX11_bitsOf 0 = .ok (.iconst 0, 1) := dk_3 (dk_at dksX11_bitsOf_0 0 rfl rfl)
theorem dX11_bitsOf_1 : decode cX11_bitsOf 1 = .ok (.istore_n 1, 1) := dk_60 (dk_at dksX11_bitsOf_0 1 rfl rfl)
theorem dX11_bitsOf_2 : decode cX11_bitsOf 2 = .ok (.iconst 0, 1) := dk_3 (dk_at dksX11_bitsOf_0 2 rfl rfl)
theorem dX11_bitsOf_3 : decode cX11_bitsOf 3 = .ok (.istore_n 2, 1) := dk_61 (dk_at dksX11_bitsOf_0 3 rfl rfl)
theorem dX11_bitsOf_4 : decode cX11_bitsOf 4 = .ok (.iload_n 2, 1) := dk_28 (dk_at dksX11_bitsOf_0 4 rfl rfl)
theorem dX11_bitsOf_5 : decode cX11_bitsOf 5 = .ok (.bipush 10, 2) := dk_16 10 (dk_at dksX11_bitsOf_0 5 rfl rfl)
theorem dX11_bitsOf_7 : decode cX11_bitsOf 7 = .ok (.if_icmp .ge 17, 3) := dk_162 0 17 (dk_at dksX11_bitsOf_0 7 rfl rfl)
theorem dX11_bitsOf_10 : decode cX11_bitsOf 10 = .ok (.iload_n 1, 1) := dk_27 (dk_at dksX11_bitsOf_0 10 rfl rfl)
theorem dX11_bitsOf_11 : decode cX11_bitsOf 11 = .ok (.iload_n 0, 1) := dk_26 (dk_at dksX11_bitsOf_0 11 rfl rfl)
theorem dX11_bitsOf_12 : decode cX11_bitsOf 12 = .ok (.iload_n 2, 1) := dk_28 (dk_at dksX11_bitsOf_0 12 rfl rfl)
theorem dX11_bitsOf_13 : decode cX11_bitsOf 13 = .ok (.ishr, 1) := dk_122 (dk_at dksX11_bitsOf_0 13 rfl rfl)
theorem dX11_bitsOf_14 : decode cX11_bitsOf 14 = .ok (.iconst 1, 1) := dk_4 (dk_at dksX11_bitsOf_0 14 rfl rfl)
theorem dX11_bitsOf_15 : decode cX11_bitsOf 15 = .ok (.iand, 1) := dk_126 (dk_at dksX11_bitsOf_0 15 rfl rfl)
theorem dX11_bitsOf_16 : decode cX11_bitsOf 16 = .ok (.iadd, 1) := dk_96 (dk_at dksX11_bitsOf_0 16 rfl rfl)
theorem dX11_bitsOf_17 : decode cX11_bitsOf 17 = .ok (.istore_n 1, 1) := dk_60 (dk_at dksX11_bitsOf_0 17 rfl rfl)
theorem dX11_bitsOf_18 : decode cX11_bitsOf 18 = .ok (.iinc 2 1, 3) := dk_132 2 1 (dk_at dksX11_bitsOf_0 18 rfl rfl)
theorem dX11_bitsOf_21 : decode cX11_bitsOf 21 = .ok (.goto (-17), 3) := dk_167 255 239 (dk_at dksX11_bitsOf_0 21 rfl rfl)
theorem dX11_bitsOf_24 : decode cX11_bitsOf 24 = .ok (.iload_n 1, 1) := dk_27 (dk_at dksX11_bitsOf_1 0 rfl rfl)
theorem dX11_bitsOf_25 : decode cX11_bitsOf 25 = .ok (.ireturn, 1) := dk_172 (dk_at dksX11_bitsOf_1 1 rfl rfl)
abbrev cX11_wills : ByteArray := prog_14_method_29_code
def yX11_wills : MethodName := ⟨RX11, "wills", "(I)I"⟩
def dkwX11_wills_3 : List UInt8 := [3, 79, 28, 172]
abbrev dktX11_wills_3 : List UInt8 := dkwX11_wills_3 ++ []
def dkwX11_wills_2 : List UInt8 := [164, 0, 7, 28, 167, 0, 11, 42, 180, 0, 38, 4, 27, 96, 46, 79, 42, 180, 0, 38, 16, 10, 27, 96]
abbrev dktX11_wills_2 : List UInt8 := dkwX11_wills_2 ++ dktX11_wills_3
def dkwX11_wills_1 : List UInt8 := [16, 254, 172, 42, 182, 0, 142, 42, 180, 0, 38, 4, 27, 96, 28, 42, 180, 0, 38, 4, 27, 96, 46]
abbrev dktX11_wills_1 : List UInt8 := dkwX11_wills_1 ++ dktX11_wills_2
def dkwX11_wills_0 : List UInt8 := [42, 27, 182, 0, 130, 154, 0, 5, 2, 172, 42, 180, 0, 38, 16, 10, 27, 96, 46, 61, 28, 154, 0, 6]
abbrev dktX11_wills_0 : List UInt8 := dkwX11_wills_0 ++ dktX11_wills_1
theorem dksX11_wills_0 : cX11_wills.data.toList.drop 0 = dktX11_wills_0 := by decide +kernel
theorem dksX11_wills_1 : cX11_wills.data.toList.drop 24 = dktX11_wills_1 := dk_seg dksX11_wills_0 24 rfl rfl
theorem dksX11_wills_2 : cX11_wills.data.toList.drop 47 = dktX11_wills_2 := dk_seg dksX11_wills_1 23 rfl rfl
theorem dksX11_wills_3 : cX11_wills.data.toList.drop 71 = dktX11_wills_3 := dk_seg dksX11_wills_2 24 rfl rfl
theorem dX11_wills_0 : decode cX11_wills 0 = .ok (.aload_n 0, 1) := dk_42 (dk_at dksX11_wills_0 0 rfl rfl)
theorem dX11_wills_1 : decode cX11_wills 1 = .ok (.iload_n 1, 1) := dk_27 (dk_at dksX11_wills_0 1 rfl rfl)
theorem dX11_wills_2 : decode cX11_wills 2 = .ok (.invokevirtual 130, 3) := dk_182 0 130 (dk_at dksX11_wills_0 2 rfl rfl)
theorem dX11_wills_5 : decode cX11_wills 5 = .ok (.ifCond .ne 5, 3) := dk_154 0 5 (dk_at dksX11_wills_0 5 rfl rfl)
theorem dX11_wills_8 : decode cX11_wills 8 = .ok (.iconst (-1), 1) := dk_2 (dk_at dksX11_wills_0 8 rfl rfl)
theorem dX11_wills_9 : decode cX11_wills 9 = .ok (.ireturn, 1) := dk_172 (dk_at dksX11_wills_0 9 rfl rfl)
theorem dX11_wills_10 : decode cX11_wills 10 = .ok (.aload_n 0, 1) := dk_42 (dk_at dksX11_wills_0 10 rfl rfl)
theorem dX11_wills_11 : decode cX11_wills 11 = .ok (.getfield 38, 3) := dk_180 0 38 (dk_at dksX11_wills_0 11 rfl rfl)
theorem dX11_wills_14 : decode cX11_wills 14 = .ok (.bipush 10, 2) := dk_16 10 (dk_at dksX11_wills_0 14 rfl rfl)
theorem dX11_wills_16 : decode cX11_wills 16 = .ok (.iload_n 1, 1) := dk_27 (dk_at dksX11_wills_0 16 rfl rfl)
theorem dX11_wills_17 : decode cX11_wills 17 = .ok (.iadd, 1) := dk_96 (dk_at dksX11_wills_0 17 rfl rfl)
theorem dX11_wills_18 : decode cX11_wills 18 = .ok (.iaload, 1) := dk_46 (dk_at dksX11_wills_0 18 rfl rfl)
theorem dX11_wills_19 : decode cX11_wills 19 = .ok (.istore_n 2, 1) := dk_61 (dk_at dksX11_wills_0 19 rfl rfl)
theorem dX11_wills_20 : decode cX11_wills 20 = .ok (.iload_n 2, 1) := dk_28 (dk_at dksX11_wills_0 20 rfl rfl)
theorem dX11_wills_21 : decode cX11_wills 21 = .ok (.ifCond .ne 6, 3) := dk_154 0 6 (dk_at dksX11_wills_0 21 rfl rfl)
theorem dX11_wills_24 : decode cX11_wills 24 = .ok (.bipush (-2), 2) := dk_16 254 (dk_at dksX11_wills_1 0 rfl rfl)
theorem dX11_wills_26 : decode cX11_wills 26 = .ok (.ireturn, 1) := dk_172 (dk_at dksX11_wills_1 2 rfl rfl)
theorem dX11_wills_27 : decode cX11_wills 27 = .ok (.aload_n 0, 1) := dk_42 (dk_at dksX11_wills_1 3 rfl rfl)
theorem dX11_wills_28 : decode cX11_wills 28 = .ok (.invokevirtual 142, 3) := dk_182 0 142 (dk_at dksX11_wills_1 4 rfl rfl)
theorem dX11_wills_31 : decode cX11_wills 31 = .ok (.aload_n 0, 1) := dk_42 (dk_at dksX11_wills_1 7 rfl rfl)
theorem dX11_wills_32 : decode cX11_wills 32 = .ok (.getfield 38, 3) := dk_180 0 38 (dk_at dksX11_wills_1 8 rfl rfl)
theorem dX11_wills_35 : decode cX11_wills 35 = .ok (.iconst 1, 1) := dk_4 (dk_at dksX11_wills_1 11 rfl rfl)
theorem dX11_wills_36 : decode cX11_wills 36 = .ok (.iload_n 1, 1) := dk_27 (dk_at dksX11_wills_1 12 rfl rfl)
theorem dX11_wills_37 : decode cX11_wills 37 = .ok (.iadd, 1) := dk_96 (dk_at dksX11_wills_1 13 rfl rfl)
theorem dX11_wills_38 : decode cX11_wills 38 = .ok (.iload_n 2, 1) := dk_28 (dk_at dksX11_wills_1 14 rfl rfl)
theorem dX11_wills_39 : decode cX11_wills 39 = .ok (.aload_n 0, 1) := dk_42 (dk_at dksX11_wills_1 15 rfl rfl)
theorem dX11_wills_40 : decode cX11_wills 40 = .ok (.getfield 38, 3) := dk_180 0 38 (dk_at dksX11_wills_1 16 rfl rfl)
theorem dX11_wills_43 : decode cX11_wills 43 = .ok (.iconst 1, 1) := dk_4 (dk_at dksX11_wills_1 19 rfl rfl)
theorem dX11_wills_44 : decode cX11_wills 44 = .ok (.iload_n 1, 1) := dk_27 (dk_at dksX11_wills_1 20 rfl rfl)
theorem dX11_wills_45 : decode cX11_wills 45 = .ok (.iadd, 1) := dk_96 (dk_at dksX11_wills_1 21 rfl rfl)
theorem dX11_wills_46 : decode cX11_wills 46 = .ok (.iaload, 1) := dk_46 (dk_at dksX11_wills_1 22 rfl rfl)
theorem dX11_wills_47 : decode cX11_wills 47 = .ok (.if_icmp .le 7, 3) := dk_164 0 7 (dk_at dksX11_wills_2 0 rfl rfl)
theorem dX11_wills_50 : decode cX11_wills 50 = .ok (.iload_n 2, 1) := dk_28 (dk_at dksX11_wills_2 3 rfl rfl)
theorem dX11_wills_51 : decode cX11_wills 51 = .ok (.goto 11, 3) := dk_167 0 11 (dk_at dksX11_wills_2 4 rfl rfl)
theorem dX11_wills_54 : decode cX11_wills 54 = .ok (.aload_n 0, 1) := dk_42 (dk_at dksX11_wills_2 7 rfl rfl)
theorem dX11_wills_55 : decode cX11_wills 55 = .ok (.getfield 38, 3) := dk_180 0 38 (dk_at dksX11_wills_2 8 rfl rfl)
theorem dX11_wills_58 : decode cX11_wills 58 = .ok (.iconst 1, 1) := dk_4 (dk_at dksX11_wills_2 11 rfl rfl)
theorem dX11_wills_59 : decode cX11_wills 59 = .ok (.iload_n 1, 1) := dk_27 (dk_at dksX11_wills_2 12 rfl rfl)
theorem dX11_wills_60 : decode cX11_wills 60 = .ok (.iadd, 1) := dk_96 (dk_at dksX11_wills_2 13 rfl rfl)
theorem dX11_wills_61 : decode cX11_wills 61 = .ok (.iaload, 1) := dk_46 (dk_at dksX11_wills_2 14 rfl rfl)
theorem dX11_wills_62 : decode cX11_wills 62 = .ok (.iastore, 1) := dk_79 (dk_at dksX11_wills_2 15 rfl rfl)
theorem dX11_wills_63 : decode cX11_wills 63 = .ok (.aload_n 0, 1) := dk_42 (dk_at dksX11_wills_2 16 rfl rfl)
theorem dX11_wills_64 : decode cX11_wills 64 = .ok (.getfield 38, 3) := dk_180 0 38 (dk_at dksX11_wills_2 17 rfl rfl)
theorem dX11_wills_67 : decode cX11_wills 67 = .ok (.bipush 10, 2) := dk_16 10 (dk_at dksX11_wills_2 20 rfl rfl)
theorem dX11_wills_69 : decode cX11_wills 69 = .ok (.iload_n 1, 1) := dk_27 (dk_at dksX11_wills_2 22 rfl rfl)
theorem dX11_wills_70 : decode cX11_wills 70 = .ok (.iadd, 1) := dk_96 (dk_at dksX11_wills_2 23 rfl rfl)
theorem dX11_wills_71 : decode cX11_wills 71 = .ok (.iconst 0, 1) := dk_3 (dk_at dksX11_wills_3 0 rfl rfl)
theorem dX11_wills_72 : decode cX11_wills 72 = .ok (.iastore, 1) := dk_79 (dk_at dksX11_wills_3 1 rfl rfl)
theorem dX11_wills_73 : decode cX11_wills 73 = .ok (.iload_n 2, 1) := dk_28 (dk_at dksX11_wills_3 2 rfl rfl)
theorem dX11_wills_74 : decode cX11_wills 74 = .ok (.ireturn, 1) := dk_172 (dk_at dksX11_wills_3 3 rfl rfl)
abbrev cX11_moves : ByteArray := prog_14_method_30_code
def yX11_moves : MethodName := ⟨RX11, "moves", "(II)I"⟩
def dkwX11_moves_2 : List UInt8 := [28, 79, 29, 172]
abbrev dktX11_moves_2 : List UInt8 := dkwX11_moves_2 ++ []
def dkwX11_moves_1 : List UInt8 := [27, 96, 46, 62, 29, 28, 160, 0, 6, 16, 254, 172, 42, 182, 0, 142, 42, 180, 0, 38, 16, 28, 27, 96]
abbrev dktX11_moves_1 : List UInt8 := dkwX11_moves_1 ++ dktX11_moves_2
def dkwX11_moves_0 : List UInt8 := [42, 27, 182, 0, 136, 153, 0, 11, 42, 28, 182, 0, 130, 154, 0, 5, 2, 172, 42, 180, 0, 38, 16, 28]
abbrev dktX11_moves_0 : List UInt8 := dkwX11_moves_0 ++ dktX11_moves_1
theorem dksX11_moves_0 : cX11_moves.data.toList.drop 0 = dktX11_moves_0 := by decide +kernel
theorem dksX11_moves_1 : cX11_moves.data.toList.drop 24 = dktX11_moves_1 := dk_seg dksX11_moves_0 24 rfl rfl
theorem dksX11_moves_2 : cX11_moves.data.toList.drop 48 = dktX11_moves_2 := dk_seg dksX11_moves_1 24 rfl rfl
theorem dX11_moves_0 : decode cX11_moves 0 = .ok (.aload_n 0, 1) := dk_42 (dk_at dksX11_moves_0 0 rfl rfl)
theorem dX11_moves_1 : decode cX11_moves 1 = .ok (.iload_n 1, 1) := dk_27 (dk_at dksX11_moves_0 1 rfl rfl)
theorem dX11_moves_2 : decode cX11_moves 2 = .ok (.invokevirtual 136, 3) := dk_182 0 136 (dk_at dksX11_moves_0 2 rfl rfl)
theorem dX11_moves_5 : decode cX11_moves 5 = .ok (.ifCond .eq 11, 3) := dk_153 0 11 (dk_at dksX11_moves_0 5 rfl rfl)
theorem dX11_moves_8 : decode cX11_moves 8 = .ok (.aload_n 0, 1) := dk_42 (dk_at dksX11_moves_0 8 rfl rfl)
theorem dX11_moves_9 : decode cX11_moves 9 = .ok (.iload_n 2, 1) := dk_28 (dk_at dksX11_moves_0 9 rfl rfl)
theorem dX11_moves_10 : decode cX11_moves 10 = .ok (.invokevirtual 130, 3) := dk_182 0 130 (dk_at dksX11_moves_0 10 rfl rfl)
theorem dX11_moves_13 : decode cX11_moves 13 = .ok (.ifCond .ne 5, 3) := dk_154 0 5 (dk_at dksX11_moves_0 13 rfl rfl)
theorem dX11_moves_16 : decode cX11_moves 16 = .ok (.iconst (-1), 1) := dk_2 (dk_at dksX11_moves_0 16 rfl rfl)
theorem dX11_moves_17 : decode cX11_moves 17 = .ok (.ireturn, 1) := dk_172 (dk_at dksX11_moves_0 17 rfl rfl)
theorem dX11_moves_18 : decode cX11_moves 18 = .ok (.aload_n 0, 1) := dk_42 (dk_at dksX11_moves_0 18 rfl rfl)
theorem dX11_moves_19 : decode cX11_moves 19 = .ok (.getfield 38, 3) := dk_180 0 38 (dk_at dksX11_moves_0 19 rfl rfl)
theorem dX11_moves_22 : decode cX11_moves 22 = .ok (.bipush 28, 2) := dk_16 28 (dk_at dksX11_moves_0 22 rfl rfl)
theorem dX11_moves_24 : decode cX11_moves 24 = .ok (.iload_n 1, 1) := dk_27 (dk_at dksX11_moves_1 0 rfl rfl)
theorem dX11_moves_25 : decode cX11_moves 25 = .ok (.iadd, 1) := dk_96 (dk_at dksX11_moves_1 1 rfl rfl)
theorem dX11_moves_26 : decode cX11_moves 26 = .ok (.iaload, 1) := dk_46 (dk_at dksX11_moves_1 2 rfl rfl)
theorem dX11_moves_27 : decode cX11_moves 27 = .ok (.istore_n 3, 1) := dk_62 (dk_at dksX11_moves_1 3 rfl rfl)
theorem dX11_moves_28 : decode cX11_moves 28 = .ok (.iload_n 3, 1) := dk_29 (dk_at dksX11_moves_1 4 rfl rfl)
theorem dX11_moves_29 : decode cX11_moves 29 = .ok (.iload_n 2, 1) := dk_28 (dk_at dksX11_moves_1 5 rfl rfl)
theorem dX11_moves_30 : decode cX11_moves 30 = .ok (.if_icmp .ne 6, 3) := dk_160 0 6 (dk_at dksX11_moves_1 6 rfl rfl)
theorem dX11_moves_33 : decode cX11_moves 33 = .ok (.bipush (-2), 2) := dk_16 254 (dk_at dksX11_moves_1 9 rfl rfl)
theorem dX11_moves_35 : decode cX11_moves 35 = .ok (.ireturn, 1) := dk_172 (dk_at dksX11_moves_1 11 rfl rfl)
theorem dX11_moves_36 : decode cX11_moves 36 = .ok (.aload_n 0, 1) := dk_42 (dk_at dksX11_moves_1 12 rfl rfl)
theorem dX11_moves_37 : decode cX11_moves 37 = .ok (.invokevirtual 142, 3) := dk_182 0 142 (dk_at dksX11_moves_1 13 rfl rfl)
theorem dX11_moves_40 : decode cX11_moves 40 = .ok (.aload_n 0, 1) := dk_42 (dk_at dksX11_moves_1 16 rfl rfl)
theorem dX11_moves_41 : decode cX11_moves 41 = .ok (.getfield 38, 3) := dk_180 0 38 (dk_at dksX11_moves_1 17 rfl rfl)
theorem dX11_moves_44 : decode cX11_moves 44 = .ok (.bipush 28, 2) := dk_16 28 (dk_at dksX11_moves_1 20 rfl rfl)
theorem dX11_moves_46 : decode cX11_moves 46 = .ok (.iload_n 1, 1) := dk_27 (dk_at dksX11_moves_1 22 rfl rfl)
theorem dX11_moves_47 : decode cX11_moves 47 = .ok (.iadd, 1) := dk_96 (dk_at dksX11_moves_1 23 rfl rfl)
theorem dX11_moves_48 : decode cX11_moves 48 = .ok (.iload_n 2, 1) := dk_28 (dk_at dksX11_moves_2 0 rfl rfl)
theorem dX11_moves_49 : decode cX11_moves 49 = .ok (.iastore, 1) := dk_79 (dk_at dksX11_moves_2 1 rfl rfl)
theorem dX11_moves_50 : decode cX11_moves 50 = .ok (.iload_n 3, 1) := dk_29 (dk_at dksX11_moves_2 2 rfl rfl)
theorem dX11_moves_51 : decode cX11_moves 51 = .ok (.ireturn, 1) := dk_172 (dk_at dksX11_moves_2 3 rfl rfl)
abbrev cX11_night : ByteArray := prog_14_method_31_code
def yX11_night : MethodName := ⟨RX11, "night", "(I)I"⟩
def dkwX11_night_1 : List UInt8 := [42, 182, 0, 142, 42, 180, 0, 38, 3, 27, 79, 42, 182, 0, 148, 172]
abbrev dktX11_night_1 : List UInt8 := dkwX11_night_1 ++ []
def dkwX11_night_0 : List UInt8 := [27, 3, 4, 184, 0, 63, 154, 0, 5, 2, 172, 42, 180, 0, 38, 3, 46, 27, 160, 0, 6, 16, 254, 172]
abbrev dktX11_night_0 : List UInt8 := dkwX11_night_0 ++ dktX11_night_1
theorem dksX11_night_0 : cX11_night.data.toList.drop 0 = dktX11_night_0 := by decide +kernel
theorem dksX11_night_1 : cX11_night.data.toList.drop 24 = dktX11_night_1 := dk_seg dksX11_night_0 24 rfl rfl
theorem dX11_night_0 : decode cX11_night 0 = .ok (.iload_n 1, 1) := dk_27 (dk_at dksX11_night_0 0 rfl rfl)
theorem dX11_night_1 : decode cX11_night 1 = .ok (.iconst 0, 1) := dk_3 (dk_at dksX11_night_0 1 rfl rfl)
theorem dX11_night_2 : decode cX11_night 2 = .ok (.iconst 1, 1) := dk_4 (dk_at dksX11_night_0 2 rfl rfl)
theorem dX11_night_3 : decode cX11_night 3 = .ok (.invokestatic 63, 3) := dk_184 0 63 (dk_at dksX11_night_0 3 rfl rfl)
theorem dX11_night_6 : decode cX11_night 6 = .ok (.ifCond .ne 5, 3) := dk_154 0 5 (dk_at dksX11_night_0 6 rfl rfl)
theorem dX11_night_9 : decode cX11_night 9 = .ok (.iconst (-1), 1) := dk_2 (dk_at dksX11_night_0 9 rfl rfl)
theorem dX11_night_10 : decode cX11_night 10 = .ok (.ireturn, 1) := dk_172 (dk_at dksX11_night_0 10 rfl rfl)
theorem dX11_night_11 : decode cX11_night 11 = .ok (.aload_n 0, 1) := dk_42 (dk_at dksX11_night_0 11 rfl rfl)
theorem dX11_night_12 : decode cX11_night 12 = .ok (.getfield 38, 3) := dk_180 0 38 (dk_at dksX11_night_0 12 rfl rfl)
theorem dX11_night_15 : decode cX11_night 15 = .ok (.iconst 0, 1) := dk_3 (dk_at dksX11_night_0 15 rfl rfl)
theorem dX11_night_16 : decode cX11_night 16 = .ok (.iaload, 1) := dk_46 (dk_at dksX11_night_0 16 rfl rfl)
theorem dX11_night_17 : decode cX11_night 17 = .ok (.iload_n 1, 1) := dk_27 (dk_at dksX11_night_0 17 rfl rfl)
theorem dX11_night_18 : decode cX11_night 18 = .ok (.if_icmp .ne 6, 3) := dk_160 0 6 (dk_at dksX11_night_0 18 rfl rfl)
theorem dX11_night_21 : decode cX11_night 21 = .ok (.bipush (-2), 2) := dk_16 254 (dk_at dksX11_night_0 21 rfl rfl)
theorem dX11_night_23 : decode cX11_night 23 = .ok (.ireturn, 1) := dk_172 (dk_at dksX11_night_0 23 rfl rfl)
theorem dX11_night_24 : decode cX11_night 24 = .ok (.aload_n 0, 1) := dk_42 (dk_at dksX11_night_1 0 rfl rfl)
theorem dX11_night_25 : decode cX11_night 25 = .ok (.invokevirtual 142, 3) := dk_182 0 142 (dk_at dksX11_night_1 1 rfl rfl)
theorem dX11_night_28 : decode cX11_night 28 = .ok (.aload_n 0, 1) := dk_42 (dk_at dksX11_night_1 4 rfl rfl)
theorem dX11_night_29 : decode cX11_night 29 = .ok (.getfield 38, 3) := dk_180 0 38 (dk_at dksX11_night_1 5 rfl rfl)
theorem dX11_night_32 : decode cX11_night 32 = .ok (.iconst 0, 1) := dk_3 (dk_at dksX11_night_1 8 rfl rfl)
theorem dX11_night_33 : decode cX11_night 33 = .ok (.iload_n 1, 1) := dk_27 (dk_at dksX11_night_1 9 rfl rfl)
theorem dX11_night_34 : decode cX11_night 34 = .ok (.iastore, 1) := dk_79 (dk_at dksX11_night_1 10 rfl rfl)
theorem dX11_night_35 : decode cX11_night 35 = .ok (.aload_n 0, 1) := dk_42 (dk_at dksX11_night_1 11 rfl rfl)
theorem dX11_night_36 : decode cX11_night 36 = .ok (.invokevirtual 148, 3) := dk_182 0 148 (dk_at dksX11_night_1 12 rfl rfl)
theorem dX11_night_39 : decode cX11_night 39 = .ok (.ireturn, 1) := dk_172 (dk_at dksX11_night_1 15 rfl rfl)
abbrev cX11_allWidths : ByteArray := prog_14_method_21_code
def yX11_allWidths : MethodName := ⟨RX11, "allWidths", "()I"⟩
def dkwX11_allWidths_1 : List UInt8 := [132, 2, 1, 167, 255, 235, 27, 172]
abbrev dktX11_allWidths_1 : List UInt8 := dkwX11_allWidths_1 ++ []
def dkwX11_allWidths_0 : List UInt8 := [3, 60, 3, 61, 28, 42, 180, 0, 17, 3, 46, 162, 0, 17, 27, 42, 28, 182, 0, 122, 96, 60]
abbrev dktX11_allWidths_0 : List UInt8 := dkwX11_allWidths_0 ++ dktX11_allWidths_1
theorem dksX11_allWidths_0 : cX11_allWidths.data.toList.drop 0 = dktX11_allWidths_0 := by decide +kernel
theorem dksX11_allWidths_1 : cX11_allWidths.data.toList.drop 22 = dktX11_allWidths_1 := dk_seg dksX11_allWidths_0 22 rfl rfl
theorem dX11_allWidths_0 : decode cX11_allWidths 0 = .ok (.iconst 0, 1) := dk_3 (dk_at dksX11_allWidths_0 0 rfl rfl)
theorem dX11_allWidths_1 : decode cX11_allWidths 1 = .ok (.istore_n 1, 1) := dk_60 (dk_at dksX11_allWidths_0 1 rfl rfl)
theorem dX11_allWidths_2 : decode cX11_allWidths 2 = .ok (.iconst 0, 1) := dk_3 (dk_at dksX11_allWidths_0 2 rfl rfl)
theorem dX11_allWidths_3 : decode cX11_allWidths 3 = .ok (.istore_n 2, 1) := dk_61 (dk_at dksX11_allWidths_0 3 rfl rfl)
theorem dX11_allWidths_4 : decode cX11_allWidths 4 = .ok (.iload_n 2, 1) := dk_28 (dk_at dksX11_allWidths_0 4 rfl rfl)
theorem dX11_allWidths_5 : decode cX11_allWidths 5 = .ok (.aload_n 0, 1) := dk_42 (dk_at dksX11_allWidths_0 5 rfl rfl)
theorem dX11_allWidths_6 : decode cX11_allWidths 6 = .ok (.getfield 17, 3) := dk_180 0 17 (dk_at dksX11_allWidths_0 6 rfl rfl)
theorem dX11_allWidths_9 : decode cX11_allWidths 9 = .ok (.iconst 0, 1) := dk_3 (dk_at dksX11_allWidths_0 9 rfl rfl)
theorem dX11_allWidths_10 : decode cX11_allWidths 10 = .ok (.iaload, 1) := dk_46 (dk_at dksX11_allWidths_0 10 rfl rfl)
theorem dX11_allWidths_11 : decode cX11_allWidths 11 = .ok (.if_icmp .ge 17, 3) := dk_162 0 17 (dk_at dksX11_allWidths_0 11 rfl rfl)
theorem dX11_allWidths_14 : decode cX11_allWidths 14 = .ok (.iload_n 1, 1) := dk_27 (dk_at dksX11_allWidths_0 14 rfl rfl)
theorem dX11_allWidths_15 : decode cX11_allWidths 15 = .ok (.aload_n 0, 1) := dk_42 (dk_at dksX11_allWidths_0 15 rfl rfl)
theorem dX11_allWidths_16 : decode cX11_allWidths 16 = .ok (.iload_n 2, 1) := dk_28 (dk_at dksX11_allWidths_0 16 rfl rfl)
theorem dX11_allWidths_17 : decode cX11_allWidths 17 = .ok (.invokevirtual 122, 3) := dk_182 0 122 (dk_at dksX11_allWidths_0 17 rfl rfl)
theorem dX11_allWidths_20 : decode cX11_allWidths 20 = .ok (.iadd, 1) := dk_96 (dk_at dksX11_allWidths_0 20 rfl rfl)
theorem dX11_allWidths_21 : decode cX11_allWidths 21 = .ok (.istore_n 1, 1) := dk_60 (dk_at dksX11_allWidths_0 21 rfl rfl)
theorem dX11_allWidths_22 : decode cX11_allWidths 22 = .ok (.iinc 2 1, 3) := dk_132 2 1 (dk_at dksX11_allWidths_1 0 rfl rfl)
theorem dX11_allWidths_25 : decode cX11_allWidths 25 = .ok (.goto (-21), 3) := dk_167 255 235 (dk_at dksX11_allWidths_1 3 rfl rfl)
theorem dX11_allWidths_28 : decode cX11_allWidths 28 = .ok (.iload_n 1, 1) := dk_27 (dk_at dksX11_allWidths_1 6 rfl rfl)
theorem dX11_allWidths_29 : decode cX11_allWidths 29 = .ok (.ireturn, 1) := dk_172 (dk_at dksX11_allWidths_1 7 rfl rfl)
abbrev cX11_undo : ByteArray := prog_14_method_32_code
def yX11_undo : MethodName := ⟨RX11, "undo", "()I"⟩
def dkwX11_undo_2 : List UInt8 := [27, 96, 46, 79, 132, 1, 1, 167, 255, 225, 42, 180, 0, 41, 3, 46, 172]
abbrev dktX11_undo_2 : List UInt8 := dkwX11_undo_2 ++ []
def dkwX11_undo_1 : List UInt8 := [27, 16, 34, 162, 0, 31, 42, 180, 0, 38, 27, 42, 180, 0, 44, 16, 34, 42, 180, 0, 41, 3, 46, 104]
abbrev dktX11_undo_1 : List UInt8 := dkwX11_undo_1 ++ dktX11_undo_2
def dkwX11_undo_0 : List UInt8 := [42, 180, 0, 41, 3, 46, 154, 0, 6, 16, 254, 172, 42, 180, 0, 41, 3, 92, 46, 4, 100, 79, 3, 60]
abbrev dktX11_undo_0 : List UInt8 := dkwX11_undo_0 ++ dktX11_undo_1
theorem dksX11_undo_0 : cX11_undo.data.toList.drop 0 = dktX11_undo_0 := by decide +kernel
theorem dksX11_undo_1 : cX11_undo.data.toList.drop 24 = dktX11_undo_1 := dk_seg dksX11_undo_0 24 rfl rfl
theorem dksX11_undo_2 : cX11_undo.data.toList.drop 48 = dktX11_undo_2 := dk_seg dksX11_undo_1 24 rfl rfl
theorem dX11_undo_0 : decode cX11_undo 0 = .ok (.aload_n 0, 1) := dk_42 (dk_at dksX11_undo_0 0 rfl rfl)
theorem dX11_undo_1 : decode cX11_undo 1 = .ok (.getfield 41, 3) := dk_180 0 41 (dk_at dksX11_undo_0 1 rfl rfl)
theorem dX11_undo_4 : decode cX11_undo 4 = .ok (.iconst 0, 1) := dk_3 (dk_at dksX11_undo_0 4 rfl rfl)
theorem dX11_undo_5 : decode cX11_undo 5 = .ok (.iaload, 1) := dk_46 (dk_at dksX11_undo_0 5 rfl rfl)
theorem dX11_undo_6 : decode cX11_undo 6 = .ok (.ifCond .ne 6, 3) := dk_154 0 6 (dk_at dksX11_undo_0 6 rfl rfl)
theorem dX11_undo_9 : decode cX11_undo 9 = .ok (.bipush (-2), 2) := dk_16 254 (dk_at dksX11_undo_0 9 rfl rfl)
theorem dX11_undo_11 : decode cX11_undo 11 = .ok (.ireturn, 1) := dk_172 (dk_at dksX11_undo_0 11 rfl rfl)
theorem dX11_undo_12 : decode cX11_undo 12 = .ok (.aload_n 0, 1) := dk_42 (dk_at dksX11_undo_0 12 rfl rfl)
theorem dX11_undo_13 : decode cX11_undo 13 = .ok (.getfield 41, 3) := dk_180 0 41 (dk_at dksX11_undo_0 13 rfl rfl)
theorem dX11_undo_16 : decode cX11_undo 16 = .ok (.iconst 0, 1) := dk_3 (dk_at dksX11_undo_0 16 rfl rfl)
theorem dX11_undo_17 : decode cX11_undo 17 = .ok (.dup2, 1) := dk_92 (dk_at dksX11_undo_0 17 rfl rfl)
theorem dX11_undo_18 : decode cX11_undo 18 = .ok (.iaload, 1) := dk_46 (dk_at dksX11_undo_0 18 rfl rfl)
theorem dX11_undo_19 : decode cX11_undo 19 = .ok (.iconst 1, 1) := dk_4 (dk_at dksX11_undo_0 19 rfl rfl)
theorem dX11_undo_20 : decode cX11_undo 20 = .ok (.isub, 1) := dk_100 (dk_at dksX11_undo_0 20 rfl rfl)
theorem dX11_undo_21 : decode cX11_undo 21 = .ok (.iastore, 1) := dk_79 (dk_at dksX11_undo_0 21 rfl rfl)
theorem dX11_undo_22 : decode cX11_undo 22 = .ok (.iconst 0, 1) := dk_3 (dk_at dksX11_undo_0 22 rfl rfl)
theorem dX11_undo_23 : decode cX11_undo 23 = .ok (.istore_n 1, 1) := dk_60 (dk_at dksX11_undo_0 23 rfl rfl)
theorem dX11_undo_24 : decode cX11_undo 24 = .ok (.iload_n 1, 1) := dk_27 (dk_at dksX11_undo_1 0 rfl rfl)
theorem dX11_undo_25 : decode cX11_undo 25 = .ok (.bipush 34, 2) := dk_16 34 (dk_at dksX11_undo_1 1 rfl rfl)
theorem dX11_undo_27 : decode cX11_undo 27 = .ok (.if_icmp .ge 31, 3) := dk_162 0 31 (dk_at dksX11_undo_1 3 rfl rfl)
theorem dX11_undo_30 : decode cX11_undo 30 = .ok (.aload_n 0, 1) := dk_42 (dk_at dksX11_undo_1 6 rfl rfl)
theorem dX11_undo_31 : decode cX11_undo 31 = .ok (.getfield 38, 3) := dk_180 0 38 (dk_at dksX11_undo_1 7 rfl rfl)
theorem dX11_undo_34 : decode cX11_undo 34 = .ok (.iload_n 1, 1) := dk_27 (dk_at dksX11_undo_1 10 rfl rfl)
theorem dX11_undo_35 : decode cX11_undo 35 = .ok (.aload_n 0, 1) := dk_42 (dk_at dksX11_undo_1 11 rfl rfl)
theorem dX11_undo_36 : decode cX11_undo 36 = .ok (.getfield 44, 3) := dk_180 0 44 (dk_at dksX11_undo_1 12 rfl rfl)
theorem dX11_undo_39 : decode cX11_undo 39 = .ok (.bipush 34, 2) := dk_16 34 (dk_at dksX11_undo_1 15 rfl rfl)
theorem dX11_undo_41 : decode cX11_undo 41 = .ok (.aload_n 0, 1) := dk_42 (dk_at dksX11_undo_1 17 rfl rfl)
theorem dX11_undo_42 : decode cX11_undo 42 = .ok (.getfield 41, 3) := dk_180 0 41 (dk_at dksX11_undo_1 18 rfl rfl)
theorem dX11_undo_45 : decode cX11_undo 45 = .ok (.iconst 0, 1) := dk_3 (dk_at dksX11_undo_1 21 rfl rfl)
theorem dX11_undo_46 : decode cX11_undo 46 = .ok (.iaload, 1) := dk_46 (dk_at dksX11_undo_1 22 rfl rfl)
theorem dX11_undo_47 : decode cX11_undo 47 = .ok (.imul, 1) := dk_104 (dk_at dksX11_undo_1 23 rfl rfl)
theorem dX11_undo_48 : decode cX11_undo 48 = .ok (.iload_n 1, 1) := dk_27 (dk_at dksX11_undo_2 0 rfl rfl)
theorem dX11_undo_49 : decode cX11_undo 49 = .ok (.iadd, 1) := dk_96 (dk_at dksX11_undo_2 1 rfl rfl)
theorem dX11_undo_50 : decode cX11_undo 50 = .ok (.iaload, 1) := dk_46 (dk_at dksX11_undo_2 2 rfl rfl)
theorem dX11_undo_51 : decode cX11_undo 51 = .ok (.iastore, 1) := dk_79 (dk_at dksX11_undo_2 3 rfl rfl)
theorem dX11_undo_52 : decode cX11_undo 52 = .ok (.iinc 1 1, 3) := dk_132 1 1 (dk_at dksX11_undo_2 4 rfl rfl)
theorem dX11_undo_55 : decode cX11_undo 55 = .ok (.goto (-31), 3) := dk_167 255 225 (dk_at dksX11_undo_2 7 rfl rfl)
theorem dX11_undo_58 : decode cX11_undo 58 = .ok (.aload_n 0, 1) := dk_42 (dk_at dksX11_undo_2 10 rfl rfl)
theorem dX11_undo_59 : decode cX11_undo 59 = .ok (.getfield 41, 3) := dk_180 0 41 (dk_at dksX11_undo_2 11 rfl rfl)
theorem dX11_undo_62 : decode cX11_undo 62 = .ok (.iconst 0, 1) := dk_3 (dk_at dksX11_undo_2 14 rfl rfl)
theorem dX11_undo_63 : decode cX11_undo 63 = .ok (.iaload, 1) := dk_46 (dk_at dksX11_undo_2 15 rfl rfl)
theorem dX11_undo_64 : decode cX11_undo 64 = .ok (.ireturn, 1) := dk_172 (dk_at dksX11_undo_2 16 rfl rfl)
abbrev cX11_now : ByteArray := prog_14_method_33_code
def yX11_now : MethodName := ⟨RX11, "now", "(I)I"⟩
def dkwX11_now_4 : List UInt8 := [167, 255, 223, 28, 172, 2, 172]
abbrev dktX11_now_4 : List UInt8 := dkwX11_now_4 ++ []
def dkwX11_now_3 : List UInt8 := [28, 42, 180, 0, 38, 16, 10, 29, 96, 46, 158, 0, 7, 4, 167, 0, 4, 3, 96, 61, 132, 3, 1]
abbrev dktX11_now_3 : List UInt8 := dkwX11_now_3 ++ dktX11_now_4
def dkwX11_now_2 : List UInt8 := [42, 180, 0, 38, 3, 46, 172, 42, 182, 0, 148, 172, 3, 62, 29, 42, 180, 0, 17, 3, 46, 162, 0, 29]
abbrev dktX11_now_2 : List UInt8 := dkwX11_now_2 ++ dktX11_now_3
def dkwX11_now_1 : List UInt8 := [170, 0, 0, 0, 77, 0, 0, 0, 0, 0, 0, 0, 2, 0, 0, 0, 25, 0, 0, 0, 32, 0, 0, 0, 37]
abbrev dktX11_now_1 : List UInt8 := dkwX11_now_1 ++ dktX11_now_2
def dkwX11_now_0 : List UInt8 := [3, 61, 27]
abbrev dktX11_now_0 : List UInt8 := dkwX11_now_0 ++ dktX11_now_1
theorem dksX11_now_0 : cX11_now.data.toList.drop 0 = dktX11_now_0 := by decide +kernel
theorem dksX11_now_1 : cX11_now.data.toList.drop 3 = dktX11_now_1 := dk_seg dksX11_now_0 3 rfl rfl
theorem dksX11_now_2 : cX11_now.data.toList.drop 28 = dktX11_now_2 := dk_seg dksX11_now_1 25 rfl rfl
theorem dksX11_now_3 : cX11_now.data.toList.drop 52 = dktX11_now_3 := dk_seg dksX11_now_2 24 rfl rfl
theorem dksX11_now_4 : cX11_now.data.toList.drop 75 = dktX11_now_4 := dk_seg dksX11_now_3 23 rfl rfl
theorem dX11_now_0 : decode cX11_now 0 = .ok (.iconst 0, 1) := dk_3 (dk_at dksX11_now_0 0 rfl rfl)
theorem dX11_now_1 : decode cX11_now 1 = .ok (.istore_n 2, 1) := dk_61 (dk_at dksX11_now_0 1 rfl rfl)
theorem dX11_now_2 : decode cX11_now 2 = .ok (.iload_n 1, 1) := dk_27 (dk_at dksX11_now_0 2 rfl rfl)
theorem dX11_now_3 : decode cX11_now 3 = .ok (.tableswitch 77 0 2 #[25, 32, 37], 25) := by decide +kernel
theorem dX11_now_28 : decode cX11_now 28 = .ok (.aload_n 0, 1) := dk_42 (dk_at dksX11_now_2 0 rfl rfl)
theorem dX11_now_29 : decode cX11_now 29 = .ok (.getfield 38, 3) := dk_180 0 38 (dk_at dksX11_now_2 1 rfl rfl)
theorem dX11_now_32 : decode cX11_now 32 = .ok (.iconst 0, 1) := dk_3 (dk_at dksX11_now_2 4 rfl rfl)
theorem dX11_now_33 : decode cX11_now 33 = .ok (.iaload, 1) := dk_46 (dk_at dksX11_now_2 5 rfl rfl)
theorem dX11_now_34 : decode cX11_now 34 = .ok (.ireturn, 1) := dk_172 (dk_at dksX11_now_2 6 rfl rfl)
theorem dX11_now_35 : decode cX11_now 35 = .ok (.aload_n 0, 1) := dk_42 (dk_at dksX11_now_2 7 rfl rfl)
theorem dX11_now_36 : decode cX11_now 36 = .ok (.invokevirtual 148, 3) := dk_182 0 148 (dk_at dksX11_now_2 8 rfl rfl)
theorem dX11_now_39 : decode cX11_now 39 = .ok (.ireturn, 1) := dk_172 (dk_at dksX11_now_2 11 rfl rfl)
theorem dX11_now_40 : decode cX11_now 40 = .ok (.iconst 0, 1) := dk_3 (dk_at dksX11_now_2 12 rfl rfl)
theorem dX11_now_41 : decode cX11_now 41 = .ok (.istore_n 3, 1) := dk_62 (dk_at dksX11_now_2 13 rfl rfl)
theorem dX11_now_42 : decode cX11_now 42 = .ok (.iload_n 3, 1) := dk_29 (dk_at dksX11_now_2 14 rfl rfl)
theorem dX11_now_43 : decode cX11_now 43 = .ok (.aload_n 0, 1) := dk_42 (dk_at dksX11_now_2 15 rfl rfl)
theorem dX11_now_44 : decode cX11_now 44 = .ok (.getfield 17, 3) := dk_180 0 17 (dk_at dksX11_now_2 16 rfl rfl)
theorem dX11_now_47 : decode cX11_now 47 = .ok (.iconst 0, 1) := dk_3 (dk_at dksX11_now_2 19 rfl rfl)
theorem dX11_now_48 : decode cX11_now 48 = .ok (.iaload, 1) := dk_46 (dk_at dksX11_now_2 20 rfl rfl)
theorem dX11_now_49 : decode cX11_now 49 = .ok (.if_icmp .ge 29, 3) := dk_162 0 29 (dk_at dksX11_now_2 21 rfl rfl)
theorem dX11_now_52 : decode cX11_now 52 = .ok (.iload_n 2, 1) := dk_28 (dk_at dksX11_now_3 0 rfl rfl)
theorem dX11_now_53 : decode cX11_now 53 = .ok (.aload_n 0, 1) := dk_42 (dk_at dksX11_now_3 1 rfl rfl)
theorem dX11_now_54 : decode cX11_now 54 = .ok (.getfield 38, 3) := dk_180 0 38 (dk_at dksX11_now_3 2 rfl rfl)
theorem dX11_now_57 : decode cX11_now 57 = .ok (.bipush 10, 2) := dk_16 10 (dk_at dksX11_now_3 5 rfl rfl)
theorem dX11_now_59 : decode cX11_now 59 = .ok (.iload_n 3, 1) := dk_29 (dk_at dksX11_now_3 7 rfl rfl)
theorem dX11_now_60 : decode cX11_now 60 = .ok (.iadd, 1) := dk_96 (dk_at dksX11_now_3 8 rfl rfl)
theorem dX11_now_61 : decode cX11_now 61 = .ok (.iaload, 1) := dk_46 (dk_at dksX11_now_3 9 rfl rfl)
theorem dX11_now_62 : decode cX11_now 62 = .ok (.ifCond .le 7, 3) := dk_158 0 7 (dk_at dksX11_now_3 10 rfl rfl)
theorem dX11_now_65 : decode cX11_now 65 = .ok (.iconst 1, 1) := dk_4 (dk_at dksX11_now_3 13 rfl rfl)
theorem dX11_now_66 : decode cX11_now 66 = .ok (.goto 4, 3) := dk_167 0 4 (dk_at dksX11_now_3 14 rfl rfl)
theorem dX11_now_69 : decode cX11_now 69 = .ok (.iconst 0, 1) := dk_3 (dk_at dksX11_now_3 17 rfl rfl)
theorem dX11_now_70 : decode cX11_now 70 = .ok (.iadd, 1) := dk_96 (dk_at dksX11_now_3 18 rfl rfl)
theorem dX11_now_71 : decode cX11_now 71 = .ok (.istore_n 2, 1) := dk_61 (dk_at dksX11_now_3 19 rfl rfl)
theorem dX11_now_72 : decode cX11_now 72 = .ok (.iinc 3 1, 3) := dk_132 3 1 (dk_at dksX11_now_3 20 rfl rfl)
theorem dX11_now_75 : decode cX11_now 75 = .ok (.goto (-33), 3) := dk_167 255 223 (dk_at dksX11_now_4 0 rfl rfl)
theorem dX11_now_78 : decode cX11_now 78 = .ok (.iload_n 2, 1) := dk_28 (dk_at dksX11_now_4 3 rfl rfl)
theorem dX11_now_79 : decode cX11_now 79 = .ok (.ireturn, 1) := dk_172 (dk_at dksX11_now_4 4 rfl rfl)
theorem dX11_now_80 : decode cX11_now 80 = .ok (.iconst (-1), 1) := dk_2 (dk_at dksX11_now_4 5 rfl rfl)
theorem dX11_now_81 : decode cX11_now 81 = .ok (.ireturn, 1) := dk_172 (dk_at dksX11_now_4 6 rfl rfl)
abbrev cX11_widest : ByteArray := prog_14_method_36_code
def yX11_widest : MethodName := ⟨RX11, "widest", "(II)I"⟩
def dkwX11_widest_1 : List UInt8 := [182, 0, 157, 182, 0, 160, 16, 247, 159, 0, 5, 29, 172, 132, 3, 255, 167, 255, 230, 16, 247, 172]
abbrev dktX11_widest_1 : List UInt8 := dkwX11_widest_1 ++ []
def dkwX11_widest_0 : List UInt8 := [42, 27, 28, 182, 0, 154, 154, 0, 5, 2, 172, 16, 10, 62, 29, 4, 161, 0, 27, 42, 27, 28, 42, 29]
abbrev dktX11_widest_0 : List UInt8 := dkwX11_widest_0 ++ dktX11_widest_1
theorem dksX11_widest_0 : cX11_widest.data.toList.drop 0 = dktX11_widest_0 := by decide +kernel
theorem dksX11_widest_1 : cX11_widest.data.toList.drop 24 = dktX11_widest_1 := dk_seg dksX11_widest_0 24 rfl rfl
theorem dX11_widest_0 : decode cX11_widest 0 = .ok (.aload_n 0, 1) := dk_42 (dk_at dksX11_widest_0 0 rfl rfl)
theorem dX11_widest_1 : decode cX11_widest 1 = .ok (.iload_n 1, 1) := dk_27 (dk_at dksX11_widest_0 1 rfl rfl)
theorem dX11_widest_2 : decode cX11_widest 2 = .ok (.iload_n 2, 1) := dk_28 (dk_at dksX11_widest_0 2 rfl rfl)
theorem dX11_widest_3 : decode cX11_widest 3 = .ok (.invokevirtual 154, 3) := dk_182 0 154 (dk_at dksX11_widest_0 3 rfl rfl)
theorem dX11_widest_6 : decode cX11_widest 6 = .ok (.ifCond .ne 5, 3) := dk_154 0 5 (dk_at dksX11_widest_0 6 rfl rfl)
theorem dX11_widest_9 : decode cX11_widest 9 = .ok (.iconst (-1), 1) := dk_2 (dk_at dksX11_widest_0 9 rfl rfl)
theorem dX11_widest_10 : decode cX11_widest 10 = .ok (.ireturn, 1) := dk_172 (dk_at dksX11_widest_0 10 rfl rfl)
theorem dX11_widest_11 : decode cX11_widest 11 = .ok (.bipush 10, 2) := dk_16 10 (dk_at dksX11_widest_0 11 rfl rfl)
theorem dX11_widest_13 : decode cX11_widest 13 = .ok (.istore_n 3, 1) := dk_62 (dk_at dksX11_widest_0 13 rfl rfl)
theorem dX11_widest_14 : decode cX11_widest 14 = .ok (.iload_n 3, 1) := dk_29 (dk_at dksX11_widest_0 14 rfl rfl)
theorem dX11_widest_15 : decode cX11_widest 15 = .ok (.iconst 1, 1) := dk_4 (dk_at dksX11_widest_0 15 rfl rfl)
theorem dX11_widest_16 : decode cX11_widest 16 = .ok (.if_icmp .lt 27, 3) := dk_161 0 27 (dk_at dksX11_widest_0 16 rfl rfl)
theorem dX11_widest_19 : decode cX11_widest 19 = .ok (.aload_n 0, 1) := dk_42 (dk_at dksX11_widest_0 19 rfl rfl)
theorem dX11_widest_20 : decode cX11_widest 20 = .ok (.iload_n 1, 1) := dk_27 (dk_at dksX11_widest_0 20 rfl rfl)
theorem dX11_widest_21 : decode cX11_widest 21 = .ok (.iload_n 2, 1) := dk_28 (dk_at dksX11_widest_0 21 rfl rfl)
theorem dX11_widest_22 : decode cX11_widest 22 = .ok (.aload_n 0, 1) := dk_42 (dk_at dksX11_widest_0 22 rfl rfl)
theorem dX11_widest_23 : decode cX11_widest 23 = .ok (.iload_n 3, 1) := dk_29 (dk_at dksX11_widest_0 23 rfl rfl)
theorem dX11_widest_24 : decode cX11_widest 24 = .ok (.invokevirtual 157, 3) := dk_182 0 157 (dk_at dksX11_widest_1 0 rfl rfl)
theorem dX11_widest_27 : decode cX11_widest 27 = .ok (.invokevirtual 160, 3) := dk_182 0 160 (dk_at dksX11_widest_1 3 rfl rfl)
theorem dX11_widest_30 : decode cX11_widest 30 = .ok (.bipush (-9), 2) := dk_16 247 (dk_at dksX11_widest_1 6 rfl rfl)
theorem dX11_widest_32 : decode cX11_widest 32 = .ok (.if_icmp .eq 5, 3) := dk_159 0 5 (dk_at dksX11_widest_1 8 rfl rfl)
theorem dX11_widest_35 : decode cX11_widest 35 = .ok (.iload_n 3, 1) := dk_29 (dk_at dksX11_widest_1 11 rfl rfl)
theorem dX11_widest_36 : decode cX11_widest 36 = .ok (.ireturn, 1) := dk_172 (dk_at dksX11_widest_1 12 rfl rfl)
theorem dX11_widest_37 : decode cX11_widest 37 = .ok (.iinc 3 (-1), 3) := dk_132 3 255 (dk_at dksX11_widest_1 13 rfl rfl)
theorem dX11_widest_40 : decode cX11_widest 40 = .ok (.goto (-26), 3) := dk_167 255 230 (dk_at dksX11_widest_1 16 rfl rfl)
theorem dX11_widest_43 : decode cX11_widest 43 = .ok (.bipush (-9), 2) := dk_16 247 (dk_at dksX11_widest_1 19 rfl rfl)
theorem dX11_widest_45 : decode cX11_widest 45 = .ok (.ireturn, 1) := dk_172 (dk_at dksX11_widest_1 21 rfl rfl)
abbrev cX11_areTwo : ByteArray := prog_14_method_17_code
def yX11_areTwo : MethodName := ⟨RX11, "areTwo", "(II)Z"⟩
def dkwX11_areTwo_1 : List UInt8 := [167, 0, 4, 3, 172]
abbrev dktX11_areTwo_1 : List UInt8 := dkwX11_areTwo_1 ++ []
def dkwX11_areTwo_0 : List UInt8 := [42, 27, 182, 0, 119, 153, 0, 20, 42, 28, 182, 0, 119, 153, 0, 12, 27, 28, 159, 0, 7, 4]
abbrev dktX11_areTwo_0 : List UInt8 := dkwX11_areTwo_0 ++ dktX11_areTwo_1
theorem dksX11_areTwo_0 : cX11_areTwo.data.toList.drop 0 = dktX11_areTwo_0 := by decide +kernel
theorem dksX11_areTwo_1 : cX11_areTwo.data.toList.drop 22 = dktX11_areTwo_1 := dk_seg dksX11_areTwo_0 22 rfl rfl
theorem dX11_areTwo_0 : decode cX11_areTwo 0 = .ok (.aload_n 0, 1) := dk_42 (dk_at dksX11_areTwo_0 0 rfl rfl)
theorem dX11_areTwo_1 : decode cX11_areTwo 1 = .ok (.iload_n 1, 1) := dk_27 (dk_at dksX11_areTwo_0 1 rfl rfl)
theorem dX11_areTwo_2 : decode cX11_areTwo 2 = .ok (.invokevirtual 119, 3) := dk_182 0 119 (dk_at dksX11_areTwo_0 2 rfl rfl)
theorem dX11_areTwo_5 : decode cX11_areTwo 5 = .ok (.ifCond .eq 20, 3) := dk_153 0 20 (dk_at dksX11_areTwo_0 5 rfl rfl)
theorem dX11_areTwo_8 : decode cX11_areTwo 8 = .ok (.aload_n 0, 1) := dk_42 (dk_at dksX11_areTwo_0 8 rfl rfl)
theorem dX11_areTwo_9 : decode cX11_areTwo 9 = .ok (.iload_n 2, 1) := dk_28 (dk_at dksX11_areTwo_0 9 rfl rfl)
theorem dX11_areTwo_10 : decode cX11_areTwo 10 = .ok (.invokevirtual 119, 3) := dk_182 0 119 (dk_at dksX11_areTwo_0 10 rfl rfl)
theorem dX11_areTwo_13 : decode cX11_areTwo 13 = .ok (.ifCond .eq 12, 3) := dk_153 0 12 (dk_at dksX11_areTwo_0 13 rfl rfl)
theorem dX11_areTwo_16 : decode cX11_areTwo 16 = .ok (.iload_n 1, 1) := dk_27 (dk_at dksX11_areTwo_0 16 rfl rfl)
theorem dX11_areTwo_17 : decode cX11_areTwo 17 = .ok (.iload_n 2, 1) := dk_28 (dk_at dksX11_areTwo_0 17 rfl rfl)
theorem dX11_areTwo_18 : decode cX11_areTwo 18 = .ok (.if_icmp .eq 7, 3) := dk_159 0 7 (dk_at dksX11_areTwo_0 18 rfl rfl)
theorem dX11_areTwo_21 : decode cX11_areTwo 21 = .ok (.iconst 1, 1) := dk_4 (dk_at dksX11_areTwo_0 21 rfl rfl)
theorem dX11_areTwo_22 : decode cX11_areTwo 22 = .ok (.goto 4, 3) := dk_167 0 4 (dk_at dksX11_areTwo_1 0 rfl rfl)
theorem dX11_areTwo_25 : decode cX11_areTwo 25 = .ok (.iconst 0, 1) := dk_3 (dk_at dksX11_areTwo_1 3 rfl rfl)
theorem dX11_areTwo_26 : decode cX11_areTwo 26 = .ok (.ireturn, 1) := dk_172 (dk_at dksX11_areTwo_1 4 rfl rfl)
abbrev cX11_isYard : ByteArray := prog_14_method_16_code
def yX11_isYard : MethodName := ⟨RX11, "isYard", "(I)Z"⟩
def dkwX11_isYard_0 : List UInt8 := [27, 3, 42, 180, 0, 13, 3, 46, 4, 100, 184, 0, 63, 172]
abbrev dktX11_isYard_0 : List UInt8 := dkwX11_isYard_0 ++ []
theorem dksX11_isYard_0 : cX11_isYard.data.toList.drop 0 = dktX11_isYard_0 := by decide +kernel
theorem dX11_isYard_0 : decode cX11_isYard 0 = .ok (.iload_n 1, 1) := dk_27 (dk_at dksX11_isYard_0 0 rfl rfl)
theorem dX11_isYard_1 : decode cX11_isYard 1 = .ok (.iconst 0, 1) := dk_3 (dk_at dksX11_isYard_0 1 rfl rfl)
theorem dX11_isYard_2 : decode cX11_isYard 2 = .ok (.aload_n 0, 1) := dk_42 (dk_at dksX11_isYard_0 2 rfl rfl)
theorem dX11_isYard_3 : decode cX11_isYard 3 = .ok (.getfield 13, 3) := dk_180 0 13 (dk_at dksX11_isYard_0 3 rfl rfl)
theorem dX11_isYard_6 : decode cX11_isYard 6 = .ok (.iconst 0, 1) := dk_3 (dk_at dksX11_isYard_0 6 rfl rfl)
theorem dX11_isYard_7 : decode cX11_isYard 7 = .ok (.iaload, 1) := dk_46 (dk_at dksX11_isYard_0 7 rfl rfl)
theorem dX11_isYard_8 : decode cX11_isYard 8 = .ok (.iconst 1, 1) := dk_4 (dk_at dksX11_isYard_0 8 rfl rfl)
theorem dX11_isYard_9 : decode cX11_isYard 9 = .ok (.isub, 1) := dk_100 (dk_at dksX11_isYard_0 9 rfl rfl)
theorem dX11_isYard_10 : decode cX11_isYard 10 = .ok (.invokestatic 63, 3) := dk_184 0 63 (dk_at dksX11_isYard_0 10 rfl rfl)
theorem dX11_isYard_13 : decode cX11_isYard 13 = .ok (.ireturn, 1) := dk_172 (dk_at dksX11_isYard_0 13 rfl rfl)
abbrev cX11_openBy : ByteArray := prog_14_method_34_code
def yX11_openBy : MethodName := ⟨RX11, "openBy", "(I)I"⟩
def dkwX11_openBy_1 : List UInt8 := [4, 29, 120, 167, 0, 4, 3, 128, 61, 132, 3, 1, 167, 255, 224, 28, 172]
abbrev dktX11_openBy_1 : List UInt8 := dkwX11_openBy_1 ++ []
def dkwX11_openBy_0 : List UInt8 := [3, 61, 3, 62, 29, 42, 180, 0, 17, 3, 46, 162, 0, 28, 28, 42, 29, 182, 0, 122, 27, 161, 0, 9]
abbrev dktX11_openBy_0 : List UInt8 := dkwX11_openBy_0 ++ dktX11_openBy_1
theorem dksX11_openBy_0 : cX11_openBy.data.toList.drop 0 = dktX11_openBy_0 := by decide +kernel
theorem dksX11_openBy_1 : cX11_openBy.data.toList.drop 24 = dktX11_openBy_1 := dk_seg dksX11_openBy_0 24 rfl rfl
theorem dX11_openBy_0 : decode cX11_openBy 0 = .ok (.iconst 0, 1) := dk_3 (dk_at dksX11_openBy_0 0 rfl rfl)
theorem dX11_openBy_1 : decode cX11_openBy 1 = .ok (.istore_n 2, 1) := dk_61 (dk_at dksX11_openBy_0 1 rfl rfl)
theorem dX11_openBy_2 : decode cX11_openBy 2 = .ok (.iconst 0, 1) := dk_3 (dk_at dksX11_openBy_0 2 rfl rfl)
theorem dX11_openBy_3 : decode cX11_openBy 3 = .ok (.istore_n 3, 1) := dk_62 (dk_at dksX11_openBy_0 3 rfl rfl)
theorem dX11_openBy_4 : decode cX11_openBy 4 = .ok (.iload_n 3, 1) := dk_29 (dk_at dksX11_openBy_0 4 rfl rfl)
theorem dX11_openBy_5 : decode cX11_openBy 5 = .ok (.aload_n 0, 1) := dk_42 (dk_at dksX11_openBy_0 5 rfl rfl)
theorem dX11_openBy_6 : decode cX11_openBy 6 = .ok (.getfield 17, 3) := dk_180 0 17 (dk_at dksX11_openBy_0 6 rfl rfl)
theorem dX11_openBy_9 : decode cX11_openBy 9 = .ok (.iconst 0, 1) := dk_3 (dk_at dksX11_openBy_0 9 rfl rfl)
theorem dX11_openBy_10 : decode cX11_openBy 10 = .ok (.iaload, 1) := dk_46 (dk_at dksX11_openBy_0 10 rfl rfl)
theorem dX11_openBy_11 : decode cX11_openBy 11 = .ok (.if_icmp .ge 28, 3) := dk_162 0 28 (dk_at dksX11_openBy_0 11 rfl rfl)
theorem dX11_openBy_14 : decode cX11_openBy 14 = .ok (.iload_n 2, 1) := dk_28 (dk_at dksX11_openBy_0 14 rfl rfl)
theorem dX11_openBy_15 : decode cX11_openBy 15 = .ok (.aload_n 0, 1) := dk_42 (dk_at dksX11_openBy_0 15 rfl rfl)
theorem dX11_openBy_16 : decode cX11_openBy 16 = .ok (.iload_n 3, 1) := dk_29 (dk_at dksX11_openBy_0 16 rfl rfl)
theorem dX11_openBy_17 : decode cX11_openBy 17 = .ok (.invokevirtual 122, 3) := dk_182 0 122 (dk_at dksX11_openBy_0 17 rfl rfl)
theorem dX11_openBy_20 : decode cX11_openBy 20 = .ok (.iload_n 1, 1) := dk_27 (dk_at dksX11_openBy_0 20 rfl rfl)
theorem dX11_openBy_21 : decode cX11_openBy 21 = .ok (.if_icmp .lt 9, 3) := dk_161 0 9 (dk_at dksX11_openBy_0 21 rfl rfl)
theorem dX11_openBy_24 : decode cX11_openBy 24 = .ok (.iconst 1, 1) := dk_4 (dk_at dksX11_openBy_1 0 rfl rfl)
theorem dX11_openBy_25 : decode cX11_openBy 25 = .ok (.iload_n 3, 1) := dk_29 (dk_at dksX11_openBy_1 1 rfl rfl)
theorem dX11_openBy_26 : decode cX11_openBy 26 = .ok (.ishl, 1) := dk_120 (dk_at dksX11_openBy_1 2 rfl rfl)
theorem dX11_openBy_27 : decode cX11_openBy 27 = .ok (.goto 4, 3) := dk_167 0 4 (dk_at dksX11_openBy_1 3 rfl rfl)
theorem dX11_openBy_30 : decode cX11_openBy 30 = .ok (.iconst 0, 1) := dk_3 (dk_at dksX11_openBy_1 6 rfl rfl)
theorem dX11_openBy_31 : decode cX11_openBy 31 = .ok (.ior, 1) := dk_128 (dk_at dksX11_openBy_1 7 rfl rfl)
theorem dX11_openBy_32 : decode cX11_openBy 32 = .ok (.istore_n 2, 1) := dk_61 (dk_at dksX11_openBy_1 8 rfl rfl)
theorem dX11_openBy_33 : decode cX11_openBy 33 = .ok (.iinc 3 1, 3) := dk_132 3 1 (dk_at dksX11_openBy_1 9 rfl rfl)
theorem dX11_openBy_36 : decode cX11_openBy 36 = .ok (.goto (-32), 3) := dk_167 255 224 (dk_at dksX11_openBy_1 12 rfl rfl)
theorem dX11_openBy_39 : decode cX11_openBy 39 = .ok (.iload_n 2, 1) := dk_28 (dk_at dksX11_openBy_1 15 rfl rfl)
theorem dX11_openBy_40 : decode cX11_openBy 40 = .ok (.ireturn, 1) := dk_172 (dk_at dksX11_openBy_1 16 rfl rfl)
abbrev cX11_wayBy : ByteArray := prog_14_method_35_code
def yX11_wayBy : MethodName := ⟨RX11, "wayBy", "(III)I"⟩
def dkwX11_wayBy_6 : List UInt8 := [16, 247, 172]
abbrev dktX11_wayBy_6 : List UInt8 := dkwX11_wayBy_6 ++ []
def dkwX11_wayBy_5 : List UInt8 := [167, 0, 4, 3, 128, 54, 6, 132, 7, 1, 167, 255, 163, 21, 6, 54, 4, 132, 5, 1, 167, 255, 127]
abbrev dktX11_wayBy_5 : List UInt8 := dkwX11_wayBy_5 ++ dktX11_wayBy_6
def dkwX11_wayBy_4 : List UInt8 := [153, 0, 25, 4, 42, 180, 0, 20, 21, 7, 46, 120, 4, 42, 180, 0, 23, 21, 7, 46, 120, 128]
abbrev dktX11_wayBy_4 : List UInt8 := dkwX11_wayBy_4 ++ dktX11_wayBy_5
def dkwX11_wayBy_3 : List UInt8 := [153, 0, 7, 4, 167, 0, 4, 3, 54, 8, 21, 6, 29, 21, 7, 184, 0, 151, 153, 0, 30, 21, 8]
abbrev dktX11_wayBy_3 : List UInt8 := dkwX11_wayBy_3 ++ dktX11_wayBy_4
def dkwX11_wayBy_2 : List UInt8 := [180, 0, 20, 21, 7, 46, 184, 0, 151, 154, 0, 18, 21, 4, 42, 180, 0, 23, 21, 7, 46, 184, 0, 151]
abbrev dktX11_wayBy_2 : List UInt8 := dkwX11_wayBy_2 ++ dktX11_wayBy_3
def dkwX11_wayBy_1 : List UInt8 := [21, 5, 172, 21, 4, 54, 6, 3, 54, 7, 21, 7, 42, 180, 0, 17, 3, 46, 162, 0, 88, 21, 4, 42]
abbrev dktX11_wayBy_1 : List UInt8 := dkwX11_wayBy_1 ++ dktX11_wayBy_2
def dkwX11_wayBy_0 : List UInt8 := [4, 27, 120, 54, 4, 3, 54, 5, 21, 5, 16, 8, 162, 0, 128, 21, 4, 28, 184, 0, 151, 153, 0, 6]
abbrev dktX11_wayBy_0 : List UInt8 := dkwX11_wayBy_0 ++ dktX11_wayBy_1
theorem dksX11_wayBy_0 : cX11_wayBy.data.toList.drop 0 = dktX11_wayBy_0 := by decide +kernel
theorem dksX11_wayBy_1 : cX11_wayBy.data.toList.drop 24 = dktX11_wayBy_1 := dk_seg dksX11_wayBy_0 24 rfl rfl
theorem dksX11_wayBy_2 : cX11_wayBy.data.toList.drop 48 = dktX11_wayBy_2 := dk_seg dksX11_wayBy_1 24 rfl rfl
theorem dksX11_wayBy_3 : cX11_wayBy.data.toList.drop 72 = dktX11_wayBy_3 := dk_seg dksX11_wayBy_2 24 rfl rfl
theorem dksX11_wayBy_4 : cX11_wayBy.data.toList.drop 95 = dktX11_wayBy_4 := dk_seg dksX11_wayBy_3 23 rfl rfl
theorem dksX11_wayBy_5 : cX11_wayBy.data.toList.drop 117 = dktX11_wayBy_5 := dk_seg dksX11_wayBy_4 22 rfl rfl
theorem dksX11_wayBy_6 : cX11_wayBy.data.toList.drop 140 = dktX11_wayBy_6 := dk_seg dksX11_wayBy_5 23 rfl rfl
theorem dX11_wayBy_0 : decode cX11_wayBy 0 = .ok (.iconst 1, 1) := dk_4 (dk_at dksX11_wayBy_0 0 rfl rfl)
theorem dX11_wayBy_1 : decode cX11_wayBy 1 = .ok (.iload_n 1, 1) := dk_27 (dk_at dksX11_wayBy_0 1 rfl rfl)
theorem dX11_wayBy_2 : decode cX11_wayBy 2 = .ok (.ishl, 1) := dk_120 (dk_at dksX11_wayBy_0 2 rfl rfl)
theorem dX11_wayBy_3 : decode cX11_wayBy 3 = .ok (.istore 4, 2) := dk_54 4 (dk_at dksX11_wayBy_0 3 rfl rfl)
theorem dX11_wayBy_5 : decode cX11_wayBy 5 = .ok (.iconst 0, 1) := dk_3 (dk_at dksX11_wayBy_0 5 rfl rfl)
theorem dX11_wayBy_6 : decode cX11_wayBy 6 = .ok (.istore 5, 2) := dk_54 5 (dk_at dksX11_wayBy_0 6 rfl rfl)
theorem dX11_wayBy_8 : decode cX11_wayBy 8 = .ok (.iload 5, 2) := dk_21 5 (dk_at dksX11_wayBy_0 8 rfl rfl)
theorem dX11_wayBy_10 : decode cX11_wayBy 10 = .ok (.bipush 8, 2) := dk_16 8 (dk_at dksX11_wayBy_0 10 rfl rfl)
theorem dX11_wayBy_12 : decode cX11_wayBy 12 = .ok (.if_icmp .ge 128, 3) := dk_162 0 128 (dk_at dksX11_wayBy_0 12 rfl rfl)
theorem dX11_wayBy_15 : decode cX11_wayBy 15 = .ok (.iload 4, 2) := dk_21 4 (dk_at dksX11_wayBy_0 15 rfl rfl)
theorem dX11_wayBy_17 : decode cX11_wayBy 17 = .ok (.iload_n 2, 1) := dk_28 (dk_at dksX11_wayBy_0 17 rfl rfl)
theorem dX11_wayBy_18 : decode cX11_wayBy 18 = .ok (.invokestatic 151, 3) := dk_184 0 151 (dk_at dksX11_wayBy_0 18 rfl rfl)
theorem dX11_wayBy_21 : decode cX11_wayBy 21 = .ok (.ifCond .eq 6, 3) := dk_153 0 6 (dk_at dksX11_wayBy_0 21 rfl rfl)
theorem dX11_wayBy_24 : decode cX11_wayBy 24 = .ok (.iload 5, 2) := dk_21 5 (dk_at dksX11_wayBy_1 0 rfl rfl)
theorem dX11_wayBy_26 : decode cX11_wayBy 26 = .ok (.ireturn, 1) := dk_172 (dk_at dksX11_wayBy_1 2 rfl rfl)
theorem dX11_wayBy_27 : decode cX11_wayBy 27 = .ok (.iload 4, 2) := dk_21 4 (dk_at dksX11_wayBy_1 3 rfl rfl)
theorem dX11_wayBy_29 : decode cX11_wayBy 29 = .ok (.istore 6, 2) := dk_54 6 (dk_at dksX11_wayBy_1 5 rfl rfl)
theorem dX11_wayBy_31 : decode cX11_wayBy 31 = .ok (.iconst 0, 1) := dk_3 (dk_at dksX11_wayBy_1 7 rfl rfl)
theorem dX11_wayBy_32 : decode cX11_wayBy 32 = .ok (.istore 7, 2) := dk_54 7 (dk_at dksX11_wayBy_1 8 rfl rfl)
theorem dX11_wayBy_34 : decode cX11_wayBy 34 = .ok (.iload 7, 2) := dk_21 7 (dk_at dksX11_wayBy_1 10 rfl rfl)
theorem dX11_wayBy_36 : decode cX11_wayBy 36 = .ok (.aload_n 0, 1) := dk_42 (dk_at dksX11_wayBy_1 12 rfl rfl)
theorem dX11_wayBy_37 : decode cX11_wayBy 37 = .ok (.getfield 17, 3) := dk_180 0 17 (dk_at dksX11_wayBy_1 13 rfl rfl)
theorem dX11_wayBy_40 : decode cX11_wayBy 40 = .ok (.iconst 0, 1) := dk_3 (dk_at dksX11_wayBy_1 16 rfl rfl)
theorem dX11_wayBy_41 : decode cX11_wayBy 41 = .ok (.iaload, 1) := dk_46 (dk_at dksX11_wayBy_1 17 rfl rfl)
theorem dX11_wayBy_42 : decode cX11_wayBy 42 = .ok (.if_icmp .ge 88, 3) := dk_162 0 88 (dk_at dksX11_wayBy_1 18 rfl rfl)
theorem dX11_wayBy_45 : decode cX11_wayBy 45 = .ok (.iload 4, 2) := dk_21 4 (dk_at dksX11_wayBy_1 21 rfl rfl)
theorem dX11_wayBy_47 : decode cX11_wayBy 47 = .ok (.aload_n 0, 1) := dk_42 (dk_at dksX11_wayBy_1 23 rfl rfl)
theorem dX11_wayBy_48 : decode cX11_wayBy 48 = .ok (.getfield 20, 3) := dk_180 0 20 (dk_at dksX11_wayBy_2 0 rfl rfl)
theorem dX11_wayBy_51 : decode cX11_wayBy 51 = .ok (.iload 7, 2) := dk_21 7 (dk_at dksX11_wayBy_2 3 rfl rfl)
theorem dX11_wayBy_53 : decode cX11_wayBy 53 = .ok (.iaload, 1) := dk_46 (dk_at dksX11_wayBy_2 5 rfl rfl)
theorem dX11_wayBy_54 : decode cX11_wayBy 54 = .ok (.invokestatic 151, 3) := dk_184 0 151 (dk_at dksX11_wayBy_2 6 rfl rfl)
theorem dX11_wayBy_57 : decode cX11_wayBy 57 = .ok (.ifCond .ne 18, 3) := dk_154 0 18 (dk_at dksX11_wayBy_2 9 rfl rfl)
theorem dX11_wayBy_60 : decode cX11_wayBy 60 = .ok (.iload 4, 2) := dk_21 4 (dk_at dksX11_wayBy_2 12 rfl rfl)
theorem dX11_wayBy_62 : decode cX11_wayBy 62 = .ok (.aload_n 0, 1) := dk_42 (dk_at dksX11_wayBy_2 14 rfl rfl)
theorem dX11_wayBy_63 : decode cX11_wayBy 63 = .ok (.getfield 23, 3) := dk_180 0 23 (dk_at dksX11_wayBy_2 15 rfl rfl)
theorem dX11_wayBy_66 : decode cX11_wayBy 66 = .ok (.iload 7, 2) := dk_21 7 (dk_at dksX11_wayBy_2 18 rfl rfl)
theorem dX11_wayBy_68 : decode cX11_wayBy 68 = .ok (.iaload, 1) := dk_46 (dk_at dksX11_wayBy_2 20 rfl rfl)
theorem dX11_wayBy_69 : decode cX11_wayBy 69 = .ok (.invokestatic 151, 3) := dk_184 0 151 (dk_at dksX11_wayBy_2 21 rfl rfl)
theorem dX11_wayBy_72 : decode cX11_wayBy 72 = .ok (.ifCond .eq 7, 3) := dk_153 0 7 (dk_at dksX11_wayBy_3 0 rfl rfl)
theorem dX11_wayBy_75 : decode cX11_wayBy 75 = .ok (.iconst 1, 1) := dk_4 (dk_at dksX11_wayBy_3 3 rfl rfl)
theorem dX11_wayBy_76 : decode cX11_wayBy 76 = .ok (.goto 4, 3) := dk_167 0 4 (dk_at dksX11_wayBy_3 4 rfl rfl)
theorem dX11_wayBy_79 : decode cX11_wayBy 79 = .ok (.iconst 0, 1) := dk_3 (dk_at dksX11_wayBy_3 7 rfl rfl)
theorem dX11_wayBy_80 : decode cX11_wayBy 80 = .ok (.istore 8, 2) := dk_54 8 (dk_at dksX11_wayBy_3 8 rfl rfl)
theorem dX11_wayBy_82 : decode cX11_wayBy 82 = .ok (.iload 6, 2) := dk_21 6 (dk_at dksX11_wayBy_3 10 rfl rfl)
theorem dX11_wayBy_84 : decode cX11_wayBy 84 = .ok (.iload_n 3, 1) := dk_29 (dk_at dksX11_wayBy_3 12 rfl rfl)
theorem dX11_wayBy_85 : decode cX11_wayBy 85 = .ok (.iload 7, 2) := dk_21 7 (dk_at dksX11_wayBy_3 13 rfl rfl)
theorem dX11_wayBy_87 : decode cX11_wayBy 87 = .ok (.invokestatic 151, 3) := dk_184 0 151 (dk_at dksX11_wayBy_3 15 rfl rfl)
theorem dX11_wayBy_90 : decode cX11_wayBy 90 = .ok (.ifCond .eq 30, 3) := dk_153 0 30 (dk_at dksX11_wayBy_3 18 rfl rfl)
theorem dX11_wayBy_93 : decode cX11_wayBy 93 = .ok (.iload 8, 2) := dk_21 8 (dk_at dksX11_wayBy_3 21 rfl rfl)
theorem dX11_wayBy_95 : decode cX11_wayBy 95 = .ok (.ifCond .eq 25, 3) := dk_153 0 25 (dk_at dksX11_wayBy_4 0 rfl rfl)
theorem dX11_wayBy_98 : decode cX11_wayBy 98 = .ok (.iconst 1, 1) := dk_4 (dk_at dksX11_wayBy_4 3 rfl rfl)
theorem dX11_wayBy_99 : decode cX11_wayBy 99 = .ok (.aload_n 0, 1) := dk_42 (dk_at dksX11_wayBy_4 4 rfl rfl)
theorem dX11_wayBy_100 : decode cX11_wayBy 100 = .ok (.getfield 20, 3) := dk_180 0 20 (dk_at dksX11_wayBy_4 5 rfl rfl)
theorem dX11_wayBy_103 : decode cX11_wayBy 103 = .ok (.iload 7, 2) := dk_21 7 (dk_at dksX11_wayBy_4 8 rfl rfl)
theorem dX11_wayBy_105 : decode cX11_wayBy 105 = .ok (.iaload, 1) := dk_46 (dk_at dksX11_wayBy_4 10 rfl rfl)
theorem dX11_wayBy_106 : decode cX11_wayBy 106 = .ok (.ishl, 1) := dk_120 (dk_at dksX11_wayBy_4 11 rfl rfl)
theorem dX11_wayBy_107 : decode cX11_wayBy 107 = .ok (.iconst 1, 1) := dk_4 (dk_at dksX11_wayBy_4 12 rfl rfl)
theorem dX11_wayBy_108 : decode cX11_wayBy 108 = .ok (.aload_n 0, 1) := dk_42 (dk_at dksX11_wayBy_4 13 rfl rfl)
theorem dX11_wayBy_109 : decode cX11_wayBy 109 = .ok (.getfield 23, 3) := dk_180 0 23 (dk_at dksX11_wayBy_4 14 rfl rfl)
theorem dX11_wayBy_112 : decode cX11_wayBy 112 = .ok (.iload 7, 2) := dk_21 7 (dk_at dksX11_wayBy_4 17 rfl rfl)
theorem dX11_wayBy_114 : decode cX11_wayBy 114 = .ok (.iaload, 1) := dk_46 (dk_at dksX11_wayBy_4 19 rfl rfl)
theorem dX11_wayBy_115 : decode cX11_wayBy 115 = .ok (.ishl, 1) := dk_120 (dk_at dksX11_wayBy_4 20 rfl rfl)
theorem dX11_wayBy_116 : decode cX11_wayBy 116 = .ok (.ior, 1) := dk_128 (dk_at dksX11_wayBy_4 21 rfl rfl)
theorem dX11_wayBy_117 : decode cX11_wayBy 117 = .ok (.goto 4, 3) := dk_167 0 4 (dk_at dksX11_wayBy_5 0 rfl rfl)
theorem dX11_wayBy_120 : decode cX11_wayBy 120 = .ok (.iconst 0, 1) := dk_3 (dk_at dksX11_wayBy_5 3 rfl rfl)
theorem dX11_wayBy_121 : decode cX11_wayBy 121 = .ok (.ior, 1) := dk_128 (dk_at dksX11_wayBy_5 4 rfl rfl)
theorem dX11_wayBy_122 : decode cX11_wayBy 122 = .ok (.istore 6, 2) := dk_54 6 (dk_at dksX11_wayBy_5 5 rfl rfl)
theorem dX11_wayBy_124 : decode cX11_wayBy 124 = .ok (.iinc 7 1, 3) := dk_132 7 1 (dk_at dksX11_wayBy_5 7 rfl rfl)
theorem dX11_wayBy_127 : decode cX11_wayBy 127 = .ok (.goto (-93), 3) := dk_167 255 163 (dk_at dksX11_wayBy_5 10 rfl rfl)
theorem dX11_wayBy_130 : decode cX11_wayBy 130 = .ok (.iload 6, 2) := dk_21 6 (dk_at dksX11_wayBy_5 13 rfl rfl)
theorem dX11_wayBy_132 : decode cX11_wayBy 132 = .ok (.istore 4, 2) := dk_54 4 (dk_at dksX11_wayBy_5 15 rfl rfl)
theorem dX11_wayBy_134 : decode cX11_wayBy 134 = .ok (.iinc 5 1, 3) := dk_132 5 1 (dk_at dksX11_wayBy_5 17 rfl rfl)
theorem dX11_wayBy_137 : decode cX11_wayBy 137 = .ok (.goto (-129), 3) := dk_167 255 127 (dk_at dksX11_wayBy_5 20 rfl rfl)
theorem dX11_wayBy_140 : decode cX11_wayBy 140 = .ok (.bipush (-9), 2) := dk_16 247 (dk_at dksX11_wayBy_6 0 rfl rfl)
theorem dX11_wayBy_142 : decode cX11_wayBy 142 = .ok (.ireturn, 1) := dk_172 (dk_at dksX11_wayBy_6 2 rfl rfl)
abbrev cX11_has : ByteArray := prog_14_method_4_code
def yX11_has : MethodName := ⟨RX11, "has", "(II)Z"⟩
def dkwX11_has_0 : List UInt8 := [26, 27, 122, 4, 126, 4, 160, 0, 7, 4, 167, 0, 4, 3, 172]
abbrev dktX11_has_0 : List UInt8 := dkwX11_has_0 ++ []
theorem dksX11_has_0 : cX11_has.data.toList.drop 0 = dktX11_has_0 := by decide +kernel
theorem dX11_has_0 : decode cX11_has 0 = .ok (.iload_n 0, 1) := dk_26 (dk_at dksX11_has_0 0 rfl rfl)
theorem dX11_has_1 : decode cX11_has 1 = .ok (.iload_n 1, 1) := dk_27 (dk_at dksX11_has_0 1 rfl rfl)
theorem dX11_has_2 : decode cX11_has 2 = .ok (.ishr, 1) := dk_122 (dk_at dksX11_has_0 2 rfl rfl)
theorem dX11_has_3 : decode cX11_has 3 = .ok (.iconst 1, 1) := dk_4 (dk_at dksX11_has_0 3 rfl rfl)
theorem dX11_has_4 : decode cX11_has 4 = .ok (.iand, 1) := dk_126 (dk_at dksX11_has_0 4 rfl rfl)
theorem dX11_has_5 : decode cX11_has 5 = .ok (.iconst 1, 1) := dk_4 (dk_at dksX11_has_0 5 rfl rfl)
theorem dX11_has_6 : decode cX11_has 6 = .ok (.if_icmp .ne 7, 3) := dk_160 0 7 (dk_at dksX11_has_0 6 rfl rfl)
theorem dX11_has_9 : decode cX11_has 9 = .ok (.iconst 1, 1) := dk_4 (dk_at dksX11_has_0 9 rfl rfl)
theorem dX11_has_10 : decode cX11_has 10 = .ok (.goto 4, 3) := dk_167 0 4 (dk_at dksX11_has_0 10 rfl rfl)
theorem dX11_has_13 : decode cX11_has 13 = .ok (.iconst 0, 1) := dk_3 (dk_at dksX11_has_0 13 rfl rfl)
theorem dX11_has_14 : decode cX11_has 14 = .ok (.ireturn, 1) := dk_172 (dk_at dksX11_has_0 14 rfl rfl)
abbrev cX11_way : ByteArray := prog_14_method_37_code
def yX11_way : MethodName := ⟨RX11, "way", "(III)I"⟩
def dkwX11_way_1 : List UInt8 := [42, 29, 182, 0, 157, 182, 0, 160, 172]
abbrev dktX11_way_1 : List UInt8 := dkwX11_way_1 ++ []
def dkwX11_way_0 : List UInt8 := [42, 27, 28, 182, 0, 154, 153, 0, 13, 29, 4, 16, 10, 184, 0, 63, 154, 0, 5, 2, 172, 42, 27, 28]
abbrev dktX11_way_0 : List UInt8 := dkwX11_way_0 ++ dktX11_way_1
theorem dksX11_way_0 : cX11_way.data.toList.drop 0 = dktX11_way_0 := by decide +kernel
theorem dksX11_way_1 : cX11_way.data.toList.drop 24 = dktX11_way_1 := dk_seg dksX11_way_0 24 rfl rfl
theorem dX11_way_0 : decode cX11_way 0 = .ok (.aload_n 0, 1) := dk_42 (dk_at dksX11_way_0 0 rfl rfl)
theorem dX11_way_1 : decode cX11_way 1 = .ok (.iload_n 1, 1) := dk_27 (dk_at dksX11_way_0 1 rfl rfl)
theorem dX11_way_2 : decode cX11_way 2 = .ok (.iload_n 2, 1) := dk_28 (dk_at dksX11_way_0 2 rfl rfl)
theorem dX11_way_3 : decode cX11_way 3 = .ok (.invokevirtual 154, 3) := dk_182 0 154 (dk_at dksX11_way_0 3 rfl rfl)
theorem dX11_way_6 : decode cX11_way 6 = .ok (.ifCond .eq 13, 3) := dk_153 0 13 (dk_at dksX11_way_0 6 rfl rfl)
theorem dX11_way_9 : decode cX11_way 9 = .ok (.iload_n 3, 1) := dk_29 (dk_at dksX11_way_0 9 rfl rfl)
theorem dX11_way_10 : decode cX11_way 10 = .ok (.iconst 1, 1) := dk_4 (dk_at dksX11_way_0 10 rfl rfl)
theorem dX11_way_11 : decode cX11_way 11 = .ok (.bipush 10, 2) := dk_16 10 (dk_at dksX11_way_0 11 rfl rfl)
theorem dX11_way_13 : decode cX11_way 13 = .ok (.invokestatic 63, 3) := dk_184 0 63 (dk_at dksX11_way_0 13 rfl rfl)
theorem dX11_way_16 : decode cX11_way 16 = .ok (.ifCond .ne 5, 3) := dk_154 0 5 (dk_at dksX11_way_0 16 rfl rfl)
theorem dX11_way_19 : decode cX11_way 19 = .ok (.iconst (-1), 1) := dk_2 (dk_at dksX11_way_0 19 rfl rfl)
theorem dX11_way_20 : decode cX11_way 20 = .ok (.ireturn, 1) := dk_172 (dk_at dksX11_way_0 20 rfl rfl)
theorem dX11_way_21 : decode cX11_way 21 = .ok (.aload_n 0, 1) := dk_42 (dk_at dksX11_way_0 21 rfl rfl)
theorem dX11_way_22 : decode cX11_way 22 = .ok (.iload_n 1, 1) := dk_27 (dk_at dksX11_way_0 22 rfl rfl)
theorem dX11_way_23 : decode cX11_way 23 = .ok (.iload_n 2, 1) := dk_28 (dk_at dksX11_way_0 23 rfl rfl)
theorem dX11_way_24 : decode cX11_way 24 = .ok (.aload_n 0, 1) := dk_42 (dk_at dksX11_way_1 0 rfl rfl)
theorem dX11_way_25 : decode cX11_way 25 = .ok (.iload_n 3, 1) := dk_29 (dk_at dksX11_way_1 1 rfl rfl)
theorem dX11_way_26 : decode cX11_way 26 = .ok (.invokevirtual 157, 3) := dk_182 0 157 (dk_at dksX11_way_1 2 rfl rfl)
theorem dX11_way_29 : decode cX11_way 29 = .ok (.invokevirtual 160, 3) := dk_182 0 160 (dk_at dksX11_way_1 5 rfl rfl)
theorem dX11_way_32 : decode cX11_way 32 = .ok (.ireturn, 1) := dk_172 (dk_at dksX11_way_1 8 rfl rfl)
abbrev cX11_flow : ByteArray := prog_14_method_39_code
def yX11_flow : MethodName := ⟨RX11, "flow", "(III)I"⟩
def dkwX11_flow_6 : List UInt8 := [167, 0, 5, 21, 5, 172]
abbrev dktX11_flow_6 : List UInt8 := dkwX11_flow_6 ++ []
def dkwX11_flow_5 : List UInt8 := [160, 0, 11, 21, 7, 54, 5, 21, 8, 54, 6, 132, 7, 1, 167, 255, 166, 29, 154, 0, 8, 21, 6]
abbrev dktX11_flow_5 : List UInt8 := dkwX11_flow_5 ++ dktX11_flow_6
def dkwX11_flow_4 : List UInt8 := [54, 9, 21, 9, 153, 0, 29, 42, 27, 28, 21, 4, 21, 7, 2, 130, 126, 182, 0, 160, 16, 247]
abbrev dktX11_flow_4 : List UInt8 := dkwX11_flow_4 ++ dktX11_flow_5
def dkwX11_flow_3 : List UInt8 := [21, 6, 160, 0, 20, 21, 7, 184, 0, 145, 21, 5, 184, 0, 145, 162, 0, 7, 4, 167, 0, 4, 3]
abbrev dktX11_flow_3 : List UInt8 := dkwX11_flow_3 ++ dktX11_flow_4
def dkwX11_flow_2 : List UInt8 := [21, 7, 182, 0, 164, 54, 8, 21, 5, 16, 247, 159, 0, 30, 21, 8, 21, 6, 161, 0, 23, 21, 8]
abbrev dktX11_flow_2 : List UInt8 := dkwX11_flow_2 ++ dktX11_flow_3
def dkwX11_flow_1 : List UInt8 := [182, 0, 157, 54, 4, 16, 247, 54, 5, 3, 54, 6, 3, 54, 7, 21, 7, 21, 4, 163, 0, 89, 42]
abbrev dktX11_flow_1 : List UInt8 := dkwX11_flow_1 ++ dktX11_flow_2
def dkwX11_flow_0 : List UInt8 := [42, 27, 28, 182, 0, 154, 153, 0, 12, 29, 3, 4, 184, 0, 63, 154, 0, 5, 2, 172, 42, 3]
abbrev dktX11_flow_0 : List UInt8 := dkwX11_flow_0 ++ dktX11_flow_1
theorem dksX11_flow_0 : cX11_flow.data.toList.drop 0 = dktX11_flow_0 := by decide +kernel
theorem dksX11_flow_1 : cX11_flow.data.toList.drop 22 = dktX11_flow_1 := dk_seg dksX11_flow_0 22 rfl rfl
theorem dksX11_flow_2 : cX11_flow.data.toList.drop 45 = dktX11_flow_2 := dk_seg dksX11_flow_1 23 rfl rfl
theorem dksX11_flow_3 : cX11_flow.data.toList.drop 68 = dktX11_flow_3 := dk_seg dksX11_flow_2 23 rfl rfl
theorem dksX11_flow_4 : cX11_flow.data.toList.drop 91 = dktX11_flow_4 := dk_seg dksX11_flow_3 23 rfl rfl
theorem dksX11_flow_5 : cX11_flow.data.toList.drop 113 = dktX11_flow_5 := dk_seg dksX11_flow_4 22 rfl rfl
theorem dksX11_flow_6 : cX11_flow.data.toList.drop 136 = dktX11_flow_6 := dk_seg dksX11_flow_5 23 rfl rfl
theorem dX11_flow_0 : decode cX11_flow 0 = .ok (.aload_n 0, 1) := dk_42 (dk_at dksX11_flow_0 0 rfl rfl)
theorem dX11_flow_1 : decode cX11_flow 1 = .ok (.iload_n 1, 1) := dk_27 (dk_at dksX11_flow_0 1 rfl rfl)
theorem dX11_flow_2 : decode cX11_flow 2 = .ok (.iload_n 2, 1) := dk_28 (dk_at dksX11_flow_0 2 rfl rfl)
theorem dX11_flow_3 : decode cX11_flow 3 = .ok (.invokevirtual 154, 3) := dk_182 0 154 (dk_at dksX11_flow_0 3 rfl rfl)
theorem dX11_flow_6 : decode cX11_flow 6 = .ok (.ifCond .eq 12, 3) := dk_153 0 12 (dk_at dksX11_flow_0 6 rfl rfl)
theorem dX11_flow_9 : decode cX11_flow 9 = .ok (.iload_n 3, 1) := dk_29 (dk_at dksX11_flow_0 9 rfl rfl)
theorem dX11_flow_10 : decode cX11_flow 10 = .ok (.iconst 0, 1) := dk_3 (dk_at dksX11_flow_0 10 rfl rfl)
theorem dX11_flow_11 : decode cX11_flow 11 = .ok (.iconst 1, 1) := dk_4 (dk_at dksX11_flow_0 11 rfl rfl)
theorem dX11_flow_12 : decode cX11_flow 12 = .ok (.invokestatic 63, 3) := dk_184 0 63 (dk_at dksX11_flow_0 12 rfl rfl)
theorem dX11_flow_15 : decode cX11_flow 15 = .ok (.ifCond .ne 5, 3) := dk_154 0 5 (dk_at dksX11_flow_0 15 rfl rfl)
theorem dX11_flow_18 : decode cX11_flow 18 = .ok (.iconst (-1), 1) := dk_2 (dk_at dksX11_flow_0 18 rfl rfl)
theorem dX11_flow_19 : decode cX11_flow 19 = .ok (.ireturn, 1) := dk_172 (dk_at dksX11_flow_0 19 rfl rfl)
theorem dX11_flow_20 : decode cX11_flow 20 = .ok (.aload_n 0, 1) := dk_42 (dk_at dksX11_flow_0 20 rfl rfl)
theorem dX11_flow_21 : decode cX11_flow 21 = .ok (.iconst 0, 1) := dk_3 (dk_at dksX11_flow_0 21 rfl rfl)
theorem dX11_flow_22 : decode cX11_flow 22 = .ok (.invokevirtual 157, 3) := dk_182 0 157 (dk_at dksX11_flow_1 0 rfl rfl)
theorem dX11_flow_25 : decode cX11_flow 25 = .ok (.istore 4, 2) := dk_54 4 (dk_at dksX11_flow_1 3 rfl rfl)
theorem dX11_flow_27 : decode cX11_flow 27 = .ok (.bipush (-9), 2) := dk_16 247 (dk_at dksX11_flow_1 5 rfl rfl)
theorem dX11_flow_29 : decode cX11_flow 29 = .ok (.istore 5, 2) := dk_54 5 (dk_at dksX11_flow_1 7 rfl rfl)
theorem dX11_flow_31 : decode cX11_flow 31 = .ok (.iconst 0, 1) := dk_3 (dk_at dksX11_flow_1 9 rfl rfl)
theorem dX11_flow_32 : decode cX11_flow 32 = .ok (.istore 6, 2) := dk_54 6 (dk_at dksX11_flow_1 10 rfl rfl)
theorem dX11_flow_34 : decode cX11_flow 34 = .ok (.iconst 0, 1) := dk_3 (dk_at dksX11_flow_1 12 rfl rfl)
theorem dX11_flow_35 : decode cX11_flow 35 = .ok (.istore 7, 2) := dk_54 7 (dk_at dksX11_flow_1 13 rfl rfl)
theorem dX11_flow_37 : decode cX11_flow 37 = .ok (.iload 7, 2) := dk_21 7 (dk_at dksX11_flow_1 15 rfl rfl)
theorem dX11_flow_39 : decode cX11_flow 39 = .ok (.iload 4, 2) := dk_21 4 (dk_at dksX11_flow_1 17 rfl rfl)
theorem dX11_flow_41 : decode cX11_flow 41 = .ok (.if_icmp .gt 89, 3) := dk_163 0 89 (dk_at dksX11_flow_1 19 rfl rfl)
theorem dX11_flow_44 : decode cX11_flow 44 = .ok (.aload_n 0, 1) := dk_42 (dk_at dksX11_flow_1 22 rfl rfl)
theorem dX11_flow_45 : decode cX11_flow 45 = .ok (.iload 7, 2) := dk_21 7 (dk_at dksX11_flow_2 0 rfl rfl)
theorem dX11_flow_47 : decode cX11_flow 47 = .ok (.invokevirtual 164, 3) := dk_182 0 164 (dk_at dksX11_flow_2 2 rfl rfl)
theorem dX11_flow_50 : decode cX11_flow 50 = .ok (.istore 8, 2) := dk_54 8 (dk_at dksX11_flow_2 5 rfl rfl)
theorem dX11_flow_52 : decode cX11_flow 52 = .ok (.iload 5, 2) := dk_21 5 (dk_at dksX11_flow_2 7 rfl rfl)
theorem dX11_flow_54 : decode cX11_flow 54 = .ok (.bipush (-9), 2) := dk_16 247 (dk_at dksX11_flow_2 9 rfl rfl)
theorem dX11_flow_56 : decode cX11_flow 56 = .ok (.if_icmp .eq 30, 3) := dk_159 0 30 (dk_at dksX11_flow_2 11 rfl rfl)
theorem dX11_flow_59 : decode cX11_flow 59 = .ok (.iload 8, 2) := dk_21 8 (dk_at dksX11_flow_2 14 rfl rfl)
theorem dX11_flow_61 : decode cX11_flow 61 = .ok (.iload 6, 2) := dk_21 6 (dk_at dksX11_flow_2 16 rfl rfl)
theorem dX11_flow_63 : decode cX11_flow 63 = .ok (.if_icmp .lt 23, 3) := dk_161 0 23 (dk_at dksX11_flow_2 18 rfl rfl)
theorem dX11_flow_66 : decode cX11_flow 66 = .ok (.iload 8, 2) := dk_21 8 (dk_at dksX11_flow_2 21 rfl rfl)
theorem dX11_flow_68 : decode cX11_flow 68 = .ok (.iload 6, 2) := dk_21 6 (dk_at dksX11_flow_3 0 rfl rfl)
theorem dX11_flow_70 : decode cX11_flow 70 = .ok (.if_icmp .ne 20, 3) := dk_160 0 20 (dk_at dksX11_flow_3 2 rfl rfl)
theorem dX11_flow_73 : decode cX11_flow 73 = .ok (.iload 7, 2) := dk_21 7 (dk_at dksX11_flow_3 5 rfl rfl)
theorem dX11_flow_75 : decode cX11_flow 75 = .ok (.invokestatic 145, 3) := dk_184 0 145 (dk_at dksX11_flow_3 7 rfl rfl)
theorem dX11_flow_78 : decode cX11_flow 78 = .ok (.iload 5, 2) := dk_21 5 (dk_at dksX11_flow_3 10 rfl rfl)
theorem dX11_flow_80 : decode cX11_flow 80 = .ok (.invokestatic 145, 3) := dk_184 0 145 (dk_at dksX11_flow_3 12 rfl rfl)
theorem dX11_flow_83 : decode cX11_flow 83 = .ok (.if_icmp .ge 7, 3) := dk_162 0 7 (dk_at dksX11_flow_3 15 rfl rfl)
theorem dX11_flow_86 : decode cX11_flow 86 = .ok (.iconst 1, 1) := dk_4 (dk_at dksX11_flow_3 18 rfl rfl)
theorem dX11_flow_87 : decode cX11_flow 87 = .ok (.goto 4, 3) := dk_167 0 4 (dk_at dksX11_flow_3 19 rfl rfl)
theorem dX11_flow_90 : decode cX11_flow 90 = .ok (.iconst 0, 1) := dk_3 (dk_at dksX11_flow_3 22 rfl rfl)
theorem dX11_flow_91 : decode cX11_flow 91 = .ok (.istore 9, 2) := dk_54 9 (dk_at dksX11_flow_4 0 rfl rfl)
theorem dX11_flow_93 : decode cX11_flow 93 = .ok (.iload 9, 2) := dk_21 9 (dk_at dksX11_flow_4 2 rfl rfl)
theorem dX11_flow_95 : decode cX11_flow 95 = .ok (.ifCond .eq 29, 3) := dk_153 0 29 (dk_at dksX11_flow_4 4 rfl rfl)
theorem dX11_flow_98 : decode cX11_flow 98 = .ok (.aload_n 0, 1) := dk_42 (dk_at dksX11_flow_4 7 rfl rfl)
theorem dX11_flow_99 : decode cX11_flow 99 = .ok (.iload_n 1, 1) := dk_27 (dk_at dksX11_flow_4 8 rfl rfl)
theorem dX11_flow_100 : decode cX11_flow 100 = .ok (.iload_n 2, 1) := dk_28 (dk_at dksX11_flow_4 9 rfl rfl)
theorem dX11_flow_101 : decode cX11_flow 101 = .ok (.iload 4, 2) := dk_21 4 (dk_at dksX11_flow_4 10 rfl rfl)
theorem dX11_flow_103 : decode cX11_flow 103 = .ok (.iload 7, 2) := dk_21 7 (dk_at dksX11_flow_4 12 rfl rfl)
theorem dX11_flow_105 : decode cX11_flow 105 = .ok (.iconst (-1), 1) := dk_2 (dk_at dksX11_flow_4 14 rfl rfl)
theorem dX11_flow_106 : decode cX11_flow 106 = .ok (.ixor, 1) := dk_130 (dk_at dksX11_flow_4 15 rfl rfl)
theorem dX11_flow_107 : decode cX11_flow 107 = .ok (.iand, 1) := dk_126 (dk_at dksX11_flow_4 16 rfl rfl)
theorem dX11_flow_108 : decode cX11_flow 108 = .ok (.invokevirtual 160, 3) := dk_182 0 160 (dk_at dksX11_flow_4 17 rfl rfl)
theorem dX11_flow_111 : decode cX11_flow 111 = .ok (.bipush (-9), 2) := dk_16 247 (dk_at dksX11_flow_4 20 rfl rfl)
theorem dX11_flow_113 : decode cX11_flow 113 = .ok (.if_icmp .ne 11, 3) := dk_160 0 11 (dk_at dksX11_flow_5 0 rfl rfl)
theorem dX11_flow_116 : decode cX11_flow 116 = .ok (.iload 7, 2) := dk_21 7 (dk_at dksX11_flow_5 3 rfl rfl)
theorem dX11_flow_118 : decode cX11_flow 118 = .ok (.istore 5, 2) := dk_54 5 (dk_at dksX11_flow_5 5 rfl rfl)
theorem dX11_flow_120 : decode cX11_flow 120 = .ok (.iload 8, 2) := dk_21 8 (dk_at dksX11_flow_5 7 rfl rfl)
theorem dX11_flow_122 : decode cX11_flow 122 = .ok (.istore 6, 2) := dk_54 6 (dk_at dksX11_flow_5 9 rfl rfl)
theorem dX11_flow_124 : decode cX11_flow 124 = .ok (.iinc 7 1, 3) := dk_132 7 1 (dk_at dksX11_flow_5 11 rfl rfl)
theorem dX11_flow_127 : decode cX11_flow 127 = .ok (.goto (-90), 3) := dk_167 255 166 (dk_at dksX11_flow_5 14 rfl rfl)
theorem dX11_flow_130 : decode cX11_flow 130 = .ok (.iload_n 3, 1) := dk_29 (dk_at dksX11_flow_5 17 rfl rfl)
theorem dX11_flow_131 : decode cX11_flow 131 = .ok (.ifCond .ne 8, 3) := dk_154 0 8 (dk_at dksX11_flow_5 18 rfl rfl)
theorem dX11_flow_134 : decode cX11_flow 134 = .ok (.iload 6, 2) := dk_21 6 (dk_at dksX11_flow_5 21 rfl rfl)
theorem dX11_flow_136 : decode cX11_flow 136 = .ok (.goto 5, 3) := dk_167 0 5 (dk_at dksX11_flow_6 0 rfl rfl)
theorem dX11_flow_139 : decode cX11_flow 139 = .ok (.iload 5, 2) := dk_21 5 (dk_at dksX11_flow_6 3 rfl rfl)
theorem dX11_flow_141 : decode cX11_flow 141 = .ok (.ireturn, 1) := dk_172 (dk_at dksX11_flow_6 5 rfl rfl)
abbrev cX11_widthsOf : ByteArray := prog_14_method_38_code
def yX11_widthsOf : MethodName := ⟨RX11, "widthsOf", "(I)I"⟩
def dkwX11_widthsOf_1 : List UInt8 := [29, 182, 0, 122, 167, 0, 4, 3, 96, 61, 132, 3, 1, 167, 255, 223, 28, 172]
abbrev dktX11_widthsOf_1 : List UInt8 := dkwX11_widthsOf_1 ++ []
def dkwX11_widthsOf_0 : List UInt8 := [3, 61, 3, 62, 29, 42, 180, 0, 17, 3, 46, 162, 0, 29, 28, 27, 29, 184, 0, 151, 153, 0, 11, 42]
abbrev dktX11_widthsOf_0 : List UInt8 := dkwX11_widthsOf_0 ++ dktX11_widthsOf_1
theorem dksX11_widthsOf_0 : cX11_widthsOf.data.toList.drop 0 = dktX11_widthsOf_0 := by decide +kernel
theorem dksX11_widthsOf_1 : cX11_widthsOf.data.toList.drop 24 = dktX11_widthsOf_1 := dk_seg dksX11_widthsOf_0 24 rfl rfl
theorem dX11_widthsOf_0 : decode cX11_widthsOf 0 = .ok (.iconst 0, 1) := dk_3 (dk_at dksX11_widthsOf_0 0 rfl rfl)
theorem dX11_widthsOf_1 : decode cX11_widthsOf 1 = .ok (.istore_n 2, 1) := dk_61 (dk_at dksX11_widthsOf_0 1 rfl rfl)
theorem dX11_widthsOf_2 : decode cX11_widthsOf 2 = .ok (.iconst 0, 1) := dk_3 (dk_at dksX11_widthsOf_0 2 rfl rfl)
theorem dX11_widthsOf_3 : decode cX11_widthsOf 3 = .ok (.istore_n 3, 1) := dk_62 (dk_at dksX11_widthsOf_0 3 rfl rfl)
theorem dX11_widthsOf_4 : decode cX11_widthsOf 4 = .ok (.iload_n 3, 1) := dk_29 (dk_at dksX11_widthsOf_0 4 rfl rfl)
theorem dX11_widthsOf_5 : decode cX11_widthsOf 5 = .ok (.aload_n 0, 1) := dk_42 (dk_at dksX11_widthsOf_0 5 rfl rfl)
theorem dX11_widthsOf_6 : decode cX11_widthsOf 6 = .ok (.getfield 17, 3) := dk_180 0 17 (dk_at dksX11_widthsOf_0 6 rfl rfl)
theorem dX11_widthsOf_9 : decode cX11_widthsOf 9 = .ok (.iconst 0, 1) := dk_3 (dk_at dksX11_widthsOf_0 9 rfl rfl)
theorem dX11_widthsOf_10 : decode cX11_widthsOf 10 = .ok (.iaload, 1) := dk_46 (dk_at dksX11_widthsOf_0 10 rfl rfl)
theorem dX11_widthsOf_11 : decode cX11_widthsOf 11 = .ok (.if_icmp .ge 29, 3) := dk_162 0 29 (dk_at dksX11_widthsOf_0 11 rfl rfl)
theorem dX11_widthsOf_14 : decode cX11_widthsOf 14 = .ok (.iload_n 2, 1) := dk_28 (dk_at dksX11_widthsOf_0 14 rfl rfl)
theorem dX11_widthsOf_15 : decode cX11_widthsOf 15 = .ok (.iload_n 1, 1) := dk_27 (dk_at dksX11_widthsOf_0 15 rfl rfl)
theorem dX11_widthsOf_16 : decode cX11_widthsOf 16 = .ok (.iload_n 3, 1) := dk_29 (dk_at dksX11_widthsOf_0 16 rfl rfl)
theorem dX11_widthsOf_17 : decode cX11_widthsOf 17 = .ok (.invokestatic 151, 3) := dk_184 0 151 (dk_at dksX11_widthsOf_0 17 rfl rfl)
theorem dX11_widthsOf_20 : decode cX11_widthsOf 20 = .ok (.ifCond .eq 11, 3) := dk_153 0 11 (dk_at dksX11_widthsOf_0 20 rfl rfl)
theorem dX11_widthsOf_23 : decode cX11_widthsOf 23 = .ok (.aload_n 0, 1) := dk_42 (dk_at dksX11_widthsOf_0 23 rfl rfl)
theorem dX11_widthsOf_24 : decode cX11_widthsOf 24 = .ok (.iload_n 3, 1) := dk_29 (dk_at dksX11_widthsOf_1 0 rfl rfl)
theorem dX11_widthsOf_25 : decode cX11_widthsOf 25 = .ok (.invokevirtual 122, 3) := dk_182 0 122 (dk_at dksX11_widthsOf_1 1 rfl rfl)
theorem dX11_widthsOf_28 : decode cX11_widthsOf 28 = .ok (.goto 4, 3) := dk_167 0 4 (dk_at dksX11_widthsOf_1 4 rfl rfl)
theorem dX11_widthsOf_31 : decode cX11_widthsOf 31 = .ok (.iconst 0, 1) := dk_3 (dk_at dksX11_widthsOf_1 7 rfl rfl)
theorem dX11_widthsOf_32 : decode cX11_widthsOf 32 = .ok (.iadd, 1) := dk_96 (dk_at dksX11_widthsOf_1 8 rfl rfl)
theorem dX11_widthsOf_33 : decode cX11_widthsOf 33 = .ok (.istore_n 2, 1) := dk_61 (dk_at dksX11_widthsOf_1 9 rfl rfl)
theorem dX11_widthsOf_34 : decode cX11_widthsOf 34 = .ok (.iinc 3 1, 3) := dk_132 3 1 (dk_at dksX11_widthsOf_1 10 rfl rfl)
theorem dX11_widthsOf_37 : decode cX11_widthsOf 37 = .ok (.goto (-33), 3) := dk_167 255 223 (dk_at dksX11_widthsOf_1 13 rfl rfl)
theorem dX11_widthsOf_40 : decode cX11_widthsOf 40 = .ok (.iload_n 2, 1) := dk_28 (dk_at dksX11_widthsOf_1 16 rfl rfl)
theorem dX11_widthsOf_41 : decode cX11_widthsOf 41 = .ok (.ireturn, 1) := dk_172 (dk_at dksX11_widthsOf_1 17 rfl rfl)
abbrev cX11_need : ByteArray := prog_14_method_40_code
def yX11_need : MethodName := ⟨RX11, "need", "(III)I"⟩
def dkwX11_need_4 : List UInt8 := [167, 255, 206, 21, 6, 172]
abbrev dktX11_need_4 : List UInt8 := dkwX11_need_4 ++ []
def dkwX11_need_3 : List UInt8 := [27, 28, 21, 4, 21, 7, 128, 182, 0, 160, 16, 247, 159, 0, 7, 21, 7, 54, 6, 132, 7, 1]
abbrev dktX11_need_3 : List UInt8 := dkwX11_need_3 ++ dktX11_need_4
def dkwX11_need_2 : List UInt8 := [163, 0, 49, 21, 6, 16, 247, 159, 0, 16, 21, 7, 184, 0, 145, 21, 6, 184, 0, 145, 162, 0, 23, 42]
abbrev dktX11_need_2 : List UInt8 := dkwX11_need_2 ++ dktX11_need_3
def dkwX11_need_1 : List UInt8 := [182, 0, 157, 54, 4, 42, 3, 182, 0, 157, 54, 5, 16, 247, 54, 6, 3, 54, 7, 21, 7, 21, 5]
abbrev dktX11_need_1 : List UInt8 := dkwX11_need_1 ++ dktX11_need_2
def dkwX11_need_0 : List UInt8 := [42, 27, 28, 182, 0, 154, 153, 0, 13, 29, 4, 16, 10, 184, 0, 63, 154, 0, 5, 2, 172, 42, 29]
abbrev dktX11_need_0 : List UInt8 := dkwX11_need_0 ++ dktX11_need_1
theorem dksX11_need_0 : cX11_need.data.toList.drop 0 = dktX11_need_0 := by decide +kernel
theorem dksX11_need_1 : cX11_need.data.toList.drop 23 = dktX11_need_1 := dk_seg dksX11_need_0 23 rfl rfl
theorem dksX11_need_2 : cX11_need.data.toList.drop 46 = dktX11_need_2 := dk_seg dksX11_need_1 23 rfl rfl
theorem dksX11_need_3 : cX11_need.data.toList.drop 70 = dktX11_need_3 := dk_seg dksX11_need_2 24 rfl rfl
theorem dksX11_need_4 : cX11_need.data.toList.drop 92 = dktX11_need_4 := dk_seg dksX11_need_3 22 rfl rfl
theorem dX11_need_0 : decode cX11_need 0 = .ok (.aload_n 0, 1) := dk_42 (dk_at dksX11_need_0 0 rfl rfl)
theorem dX11_need_1 : decode cX11_need 1 = .ok (.iload_n 1, 1) := dk_27 (dk_at dksX11_need_0 1 rfl rfl)
theorem dX11_need_2 : decode cX11_need 2 = .ok (.iload_n 2, 1) := dk_28 (dk_at dksX11_need_0 2 rfl rfl)
theorem dX11_need_3 : decode cX11_need 3 = .ok (.invokevirtual 154, 3) := dk_182 0 154 (dk_at dksX11_need_0 3 rfl rfl)
theorem dX11_need_6 : decode cX11_need 6 = .ok (.ifCond .eq 13, 3) := dk_153 0 13 (dk_at dksX11_need_0 6 rfl rfl)
theorem dX11_need_9 : decode cX11_need 9 = .ok (.iload_n 3, 1) := dk_29 (dk_at dksX11_need_0 9 rfl rfl)
theorem dX11_need_10 : decode cX11_need 10 = .ok (.iconst 1, 1) := dk_4 (dk_at dksX11_need_0 10 rfl rfl)
theorem dX11_need_11 : decode cX11_need 11 = .ok (.bipush 10, 2) := dk_16 10 (dk_at dksX11_need_0 11 rfl rfl)
theorem dX11_need_13 : decode cX11_need 13 = .ok (.invokestatic 63, 3) := dk_184 0 63 (dk_at dksX11_need_0 13 rfl rfl)
theorem dX11_need_16 : decode cX11_need 16 = .ok (.ifCond .ne 5, 3) := dk_154 0 5 (dk_at dksX11_need_0 16 rfl rfl)
theorem dX11_need_19 : decode cX11_need 19 = .ok (.iconst (-1), 1) := dk_2 (dk_at dksX11_need_0 19 rfl rfl)
theorem dX11_need_20 : decode cX11_need 20 = .ok (.ireturn, 1) := dk_172 (dk_at dksX11_need_0 20 rfl rfl)
theorem dX11_need_21 : decode cX11_need 21 = .ok (.aload_n 0, 1) := dk_42 (dk_at dksX11_need_0 21 rfl rfl)
theorem dX11_need_22 : decode cX11_need 22 = .ok (.iload_n 3, 1) := dk_29 (dk_at dksX11_need_0 22 rfl rfl)
theorem dX11_need_23 : decode cX11_need 23 = .ok (.invokevirtual 157, 3) := dk_182 0 157 (dk_at dksX11_need_1 0 rfl rfl)
theorem dX11_need_26 : decode cX11_need 26 = .ok (.istore 4, 2) := dk_54 4 (dk_at dksX11_need_1 3 rfl rfl)
theorem dX11_need_28 : decode cX11_need 28 = .ok (.aload_n 0, 1) := dk_42 (dk_at dksX11_need_1 5 rfl rfl)
theorem dX11_need_29 : decode cX11_need 29 = .ok (.iconst 0, 1) := dk_3 (dk_at dksX11_need_1 6 rfl rfl)
theorem dX11_need_30 : decode cX11_need 30 = .ok (.invokevirtual 157, 3) := dk_182 0 157 (dk_at dksX11_need_1 7 rfl rfl)
theorem dX11_need_33 : decode cX11_need 33 = .ok (.istore 5, 2) := dk_54 5 (dk_at dksX11_need_1 10 rfl rfl)
theorem dX11_need_35 : decode cX11_need 35 = .ok (.bipush (-9), 2) := dk_16 247 (dk_at dksX11_need_1 12 rfl rfl)
theorem dX11_need_37 : decode cX11_need 37 = .ok (.istore 6, 2) := dk_54 6 (dk_at dksX11_need_1 14 rfl rfl)
theorem dX11_need_39 : decode cX11_need 39 = .ok (.iconst 0, 1) := dk_3 (dk_at dksX11_need_1 16 rfl rfl)
theorem dX11_need_40 : decode cX11_need 40 = .ok (.istore 7, 2) := dk_54 7 (dk_at dksX11_need_1 17 rfl rfl)
theorem dX11_need_42 : decode cX11_need 42 = .ok (.iload 7, 2) := dk_21 7 (dk_at dksX11_need_1 19 rfl rfl)
theorem dX11_need_44 : decode cX11_need 44 = .ok (.iload 5, 2) := dk_21 5 (dk_at dksX11_need_1 21 rfl rfl)
theorem dX11_need_46 : decode cX11_need 46 = .ok (.if_icmp .gt 49, 3) := dk_163 0 49 (dk_at dksX11_need_2 0 rfl rfl)
theorem dX11_need_49 : decode cX11_need 49 = .ok (.iload 6, 2) := dk_21 6 (dk_at dksX11_need_2 3 rfl rfl)
theorem dX11_need_51 : decode cX11_need 51 = .ok (.bipush (-9), 2) := dk_16 247 (dk_at dksX11_need_2 5 rfl rfl)
theorem dX11_need_53 : decode cX11_need 53 = .ok (.if_icmp .eq 16, 3) := dk_159 0 16 (dk_at dksX11_need_2 7 rfl rfl)
theorem dX11_need_56 : decode cX11_need 56 = .ok (.iload 7, 2) := dk_21 7 (dk_at dksX11_need_2 10 rfl rfl)
theorem dX11_need_58 : decode cX11_need 58 = .ok (.invokestatic 145, 3) := dk_184 0 145 (dk_at dksX11_need_2 12 rfl rfl)
theorem dX11_need_61 : decode cX11_need 61 = .ok (.iload 6, 2) := dk_21 6 (dk_at dksX11_need_2 15 rfl rfl)
theorem dX11_need_63 : decode cX11_need 63 = .ok (.invokestatic 145, 3) := dk_184 0 145 (dk_at dksX11_need_2 17 rfl rfl)
theorem dX11_need_66 : decode cX11_need 66 = .ok (.if_icmp .ge 23, 3) := dk_162 0 23 (dk_at dksX11_need_2 20 rfl rfl)
theorem dX11_need_69 : decode cX11_need 69 = .ok (.aload_n 0, 1) := dk_42 (dk_at dksX11_need_2 23 rfl rfl)
theorem dX11_need_70 : decode cX11_need 70 = .ok (.iload_n 1, 1) := dk_27 (dk_at dksX11_need_3 0 rfl rfl)
theorem dX11_need_71 : decode cX11_need 71 = .ok (.iload_n 2, 1) := dk_28 (dk_at dksX11_need_3 1 rfl rfl)
theorem dX11_need_72 : decode cX11_need 72 = .ok (.iload 4, 2) := dk_21 4 (dk_at dksX11_need_3 2 rfl rfl)
theorem dX11_need_74 : decode cX11_need 74 = .ok (.iload 7, 2) := dk_21 7 (dk_at dksX11_need_3 4 rfl rfl)
theorem dX11_need_76 : decode cX11_need 76 = .ok (.ior, 1) := dk_128 (dk_at dksX11_need_3 6 rfl rfl)
theorem dX11_need_77 : decode cX11_need 77 = .ok (.invokevirtual 160, 3) := dk_182 0 160 (dk_at dksX11_need_3 7 rfl rfl)
theorem dX11_need_80 : decode cX11_need 80 = .ok (.bipush (-9), 2) := dk_16 247 (dk_at dksX11_need_3 10 rfl rfl)
theorem dX11_need_82 : decode cX11_need 82 = .ok (.if_icmp .eq 7, 3) := dk_159 0 7 (dk_at dksX11_need_3 12 rfl rfl)
theorem dX11_need_85 : decode cX11_need 85 = .ok (.iload 7, 2) := dk_21 7 (dk_at dksX11_need_3 15 rfl rfl)
theorem dX11_need_87 : decode cX11_need 87 = .ok (.istore 6, 2) := dk_54 6 (dk_at dksX11_need_3 17 rfl rfl)
theorem dX11_need_89 : decode cX11_need 89 = .ok (.iinc 7 1, 3) := dk_132 7 1 (dk_at dksX11_need_3 19 rfl rfl)
theorem dX11_need_92 : decode cX11_need 92 = .ok (.goto (-50), 3) := dk_167 255 206 (dk_at dksX11_need_4 0 rfl rfl)
theorem dX11_need_95 : decode cX11_need 95 = .ok (.iload 6, 2) := dk_21 6 (dk_at dksX11_need_4 3 rfl rfl)
theorem dX11_need_97 : decode cX11_need 97 = .ok (.ireturn, 1) := dk_172 (dk_at dksX11_need_4 5 rfl rfl)
abbrev cX11_odds : ByteArray := prog_14_method_41_code
def yX11_odds : MethodName := ⟨RX11, "odds", "(IIII)I"⟩
def dkwX11_odds_9 : List UInt8 := [21, 6, 21, 8, 108, 172]
abbrev dktX11_odds_9 : List UInt8 := dkwX11_odds_9 ++ []
def dkwX11_odds_8 : List UInt8 := [21, 9, 54, 8, 21, 10, 54, 9, 167, 255, 236, 21, 4, 154, 0, 11, 21, 5, 21, 8, 108, 167, 0, 8]
abbrev dktX11_odds_8 : List UInt8 := dkwX11_odds_8 ++ dktX11_odds_9
def dkwX11_odds_7 : List UInt8 := [167, 255, 235, 21, 5, 54, 8, 21, 6, 54, 9, 21, 9, 153, 0, 21, 21, 8, 21, 9, 112, 54, 10]
abbrev dktX11_odds_7 : List UInt8 := dkwX11_odds_7 ++ dktX11_odds_8
def dkwX11_odds_6 : List UInt8 := [54, 8, 21, 8, 42, 180, 0, 17, 3, 46, 162, 0, 16, 21, 6, 16, 10, 104, 54, 6, 132, 8, 1]
abbrev dktX11_odds_6 : List UInt8 := dkwX11_odds_6 ++ dktX11_odds_7
def dkwX11_odds_5 : List UInt8 := [182, 0, 160, 16, 247, 159, 0, 8, 21, 9, 167, 0, 4, 3, 96, 54, 5, 132, 8, 1, 167, 255, 166, 3]
abbrev dktX11_odds_5 : List UInt8 := dkwX11_odds_5 ++ dktX11_odds_6
def dkwX11_odds_4 : List UInt8 := [132, 10, 1, 167, 255, 219, 21, 5, 21, 9, 158, 0, 26, 42, 27, 28, 21, 7, 21, 8, 2, 130, 126]
abbrev dktX11_odds_4 : List UInt8 := dkwX11_odds_4 ++ dktX11_odds_5
def dkwX11_odds_3 : List UInt8 := [21, 9, 21, 8, 21, 10, 184, 0, 151, 153, 0, 7, 29, 167, 0, 7, 16, 10, 29, 100, 104, 54, 9]
abbrev dktX11_odds_3 : List UInt8 := dkwX11_odds_3 ++ dktX11_odds_4
def dkwX11_odds_2 : List UInt8 := [21, 8, 21, 7, 163, 0, 89, 4, 54, 9, 3, 54, 10, 21, 10, 42, 180, 0, 17, 3, 46, 162, 0, 32]
abbrev dktX11_odds_2 : List UInt8 := dkwX11_odds_2 ++ dktX11_odds_3
def dkwX11_odds_1 : List UInt8 := [184, 0, 63, 154, 0, 5, 2, 172, 3, 54, 5, 4, 54, 6, 42, 3, 182, 0, 157, 54, 7, 3, 54, 8]
abbrev dktX11_odds_1 : List UInt8 := dkwX11_odds_1 ++ dktX11_odds_2
def dkwX11_odds_0 : List UInt8 := [42, 27, 28, 182, 0, 154, 153, 0, 23, 29, 3, 16, 10, 184, 0, 63, 153, 0, 13, 21, 4, 3, 4]
abbrev dktX11_odds_0 : List UInt8 := dkwX11_odds_0 ++ dktX11_odds_1
theorem dksX11_odds_0 : cX11_odds.data.toList.drop 0 = dktX11_odds_0 := by decide +kernel
theorem dksX11_odds_1 : cX11_odds.data.toList.drop 23 = dktX11_odds_1 := dk_seg dksX11_odds_0 23 rfl rfl
theorem dksX11_odds_2 : cX11_odds.data.toList.drop 47 = dktX11_odds_2 := dk_seg dksX11_odds_1 24 rfl rfl
theorem dksX11_odds_3 : cX11_odds.data.toList.drop 71 = dktX11_odds_3 := dk_seg dksX11_odds_2 24 rfl rfl
theorem dksX11_odds_4 : cX11_odds.data.toList.drop 94 = dktX11_odds_4 := dk_seg dksX11_odds_3 23 rfl rfl
theorem dksX11_odds_5 : cX11_odds.data.toList.drop 117 = dktX11_odds_5 := dk_seg dksX11_odds_4 23 rfl rfl
theorem dksX11_odds_6 : cX11_odds.data.toList.drop 141 = dktX11_odds_6 := dk_seg dksX11_odds_5 24 rfl rfl
theorem dksX11_odds_7 : cX11_odds.data.toList.drop 164 = dktX11_odds_7 := dk_seg dksX11_odds_6 23 rfl rfl
theorem dksX11_odds_8 : cX11_odds.data.toList.drop 187 = dktX11_odds_8 := dk_seg dksX11_odds_7 23 rfl rfl
theorem dksX11_odds_9 : cX11_odds.data.toList.drop 211 = dktX11_odds_9 := dk_seg dksX11_odds_8 24 rfl rfl
theorem dX11_odds_0 : decode cX11_odds 0 = .ok (.aload_n 0, 1) := dk_42 (dk_at dksX11_odds_0 0 rfl rfl)
theorem dX11_odds_1 : decode cX11_odds 1 = .ok (.iload_n 1, 1) := dk_27 (dk_at dksX11_odds_0 1 rfl rfl)
theorem dX11_odds_2 : decode cX11_odds 2 = .ok (.iload_n 2, 1) := dk_28 (dk_at dksX11_odds_0 2 rfl rfl)
theorem dX11_odds_3 : decode cX11_odds 3 = .ok (.invokevirtual 154, 3) := dk_182 0 154 (dk_at dksX11_odds_0 3 rfl rfl)
theorem dX11_odds_6 : decode cX11_odds 6 = .ok (.ifCond .eq 23, 3) := dk_153 0 23 (dk_at dksX11_odds_0 6 rfl rfl)
theorem dX11_odds_9 : decode cX11_odds 9 = .ok (.iload_n 3, 1) := dk_29 (dk_at dksX11_odds_0 9 rfl rfl)
theorem dX11_odds_10 : decode cX11_odds 10 = .ok (.iconst 0, 1) := dk_3 (dk_at dksX11_odds_0 10 rfl rfl)
theorem dX11_odds_11 : decode cX11_odds 11 = .ok (.bipush 10, 2) := dk_16 10 (dk_at dksX11_odds_0 11 rfl rfl)
theorem dX11_odds_13 : decode cX11_odds 13 = .ok (.invokestatic 63, 3) := dk_184 0 63 (dk_at dksX11_odds_0 13 rfl rfl)
theorem dX11_odds_16 : decode cX11_odds 16 = .ok (.ifCond .eq 13, 3) := dk_153 0 13 (dk_at dksX11_odds_0 16 rfl rfl)
theorem dX11_odds_19 : decode cX11_odds 19 = .ok (.iload 4, 2) := dk_21 4 (dk_at dksX11_odds_0 19 rfl rfl)
theorem dX11_odds_21 : decode cX11_odds 21 = .ok (.iconst 0, 1) := dk_3 (dk_at dksX11_odds_0 21 rfl rfl)
theorem dX11_odds_22 : decode cX11_odds 22 = .ok (.iconst 1, 1) := dk_4 (dk_at dksX11_odds_0 22 rfl rfl)
theorem dX11_odds_23 : decode cX11_odds 23 = .ok (.invokestatic 63, 3) := dk_184 0 63 (dk_at dksX11_odds_1 0 rfl rfl)
theorem dX11_odds_26 : decode cX11_odds 26 = .ok (.ifCond .ne 5, 3) := dk_154 0 5 (dk_at dksX11_odds_1 3 rfl rfl)
theorem dX11_odds_29 : decode cX11_odds 29 = .ok (.iconst (-1), 1) := dk_2 (dk_at dksX11_odds_1 6 rfl rfl)
theorem dX11_odds_30 : decode cX11_odds 30 = .ok (.ireturn, 1) := dk_172 (dk_at dksX11_odds_1 7 rfl rfl)
theorem dX11_odds_31 : decode cX11_odds 31 = .ok (.iconst 0, 1) := dk_3 (dk_at dksX11_odds_1 8 rfl rfl)
theorem dX11_odds_32 : decode cX11_odds 32 = .ok (.istore 5, 2) := dk_54 5 (dk_at dksX11_odds_1 9 rfl rfl)
theorem dX11_odds_34 : decode cX11_odds 34 = .ok (.iconst 1, 1) := dk_4 (dk_at dksX11_odds_1 11 rfl rfl)
theorem dX11_odds_35 : decode cX11_odds 35 = .ok (.istore 6, 2) := dk_54 6 (dk_at dksX11_odds_1 12 rfl rfl)
theorem dX11_odds_37 : decode cX11_odds 37 = .ok (.aload_n 0, 1) := dk_42 (dk_at dksX11_odds_1 14 rfl rfl)
theorem dX11_odds_38 : decode cX11_odds 38 = .ok (.iconst 0, 1) := dk_3 (dk_at dksX11_odds_1 15 rfl rfl)
theorem dX11_odds_39 : decode cX11_odds 39 = .ok (.invokevirtual 157, 3) := dk_182 0 157 (dk_at dksX11_odds_1 16 rfl rfl)
theorem dX11_odds_42 : decode cX11_odds 42 = .ok (.istore 7, 2) := dk_54 7 (dk_at dksX11_odds_1 19 rfl rfl)
theorem dX11_odds_44 : decode cX11_odds 44 = .ok (.iconst 0, 1) := dk_3 (dk_at dksX11_odds_1 21 rfl rfl)
theorem dX11_odds_45 : decode cX11_odds 45 = .ok (.istore 8, 2) := dk_54 8 (dk_at dksX11_odds_1 22 rfl rfl)
theorem dX11_odds_47 : decode cX11_odds 47 = .ok (.iload 8, 2) := dk_21 8 (dk_at dksX11_odds_2 0 rfl rfl)
theorem dX11_odds_49 : decode cX11_odds 49 = .ok (.iload 7, 2) := dk_21 7 (dk_at dksX11_odds_2 2 rfl rfl)
theorem dX11_odds_51 : decode cX11_odds 51 = .ok (.if_icmp .gt 89, 3) := dk_163 0 89 (dk_at dksX11_odds_2 4 rfl rfl)
theorem dX11_odds_54 : decode cX11_odds 54 = .ok (.iconst 1, 1) := dk_4 (dk_at dksX11_odds_2 7 rfl rfl)
theorem dX11_odds_55 : decode cX11_odds 55 = .ok (.istore 9, 2) := dk_54 9 (dk_at dksX11_odds_2 8 rfl rfl)
theorem dX11_odds_57 : decode cX11_odds 57 = .ok (.iconst 0, 1) := dk_3 (dk_at dksX11_odds_2 10 rfl rfl)
theorem dX11_odds_58 : decode cX11_odds 58 = .ok (.istore 10, 2) := dk_54 10 (dk_at dksX11_odds_2 11 rfl rfl)
theorem dX11_odds_60 : decode cX11_odds 60 = .ok (.iload 10, 2) := dk_21 10 (dk_at dksX11_odds_2 13 rfl rfl)
theorem dX11_odds_62 : decode cX11_odds 62 = .ok (.aload_n 0, 1) := dk_42 (dk_at dksX11_odds_2 15 rfl rfl)
theorem dX11_odds_63 : decode cX11_odds 63 = .ok (.getfield 17, 3) := dk_180 0 17 (dk_at dksX11_odds_2 16 rfl rfl)
theorem dX11_odds_66 : decode cX11_odds 66 = .ok (.iconst 0, 1) := dk_3 (dk_at dksX11_odds_2 19 rfl rfl)
theorem dX11_odds_67 : decode cX11_odds 67 = .ok (.iaload, 1) := dk_46 (dk_at dksX11_odds_2 20 rfl rfl)
theorem dX11_odds_68 : decode cX11_odds 68 = .ok (.if_icmp .ge 32, 3) := dk_162 0 32 (dk_at dksX11_odds_2 21 rfl rfl)
theorem dX11_odds_71 : decode cX11_odds 71 = .ok (.iload 9, 2) := dk_21 9 (dk_at dksX11_odds_3 0 rfl rfl)
theorem dX11_odds_73 : decode cX11_odds 73 = .ok (.iload 8, 2) := dk_21 8 (dk_at dksX11_odds_3 2 rfl rfl)
theorem dX11_odds_75 : decode cX11_odds 75 = .ok (.iload 10, 2) := dk_21 10 (dk_at dksX11_odds_3 4 rfl rfl)
theorem dX11_odds_77 : decode cX11_odds 77 = .ok (.invokestatic 151, 3) := dk_184 0 151 (dk_at dksX11_odds_3 6 rfl rfl)
theorem dX11_odds_80 : decode cX11_odds 80 = .ok (.ifCond .eq 7, 3) := dk_153 0 7 (dk_at dksX11_odds_3 9 rfl rfl)
theorem dX11_odds_83 : decode cX11_odds 83 = .ok (.iload_n 3, 1) := dk_29 (dk_at dksX11_odds_3 12 rfl rfl)
theorem dX11_odds_84 : decode cX11_odds 84 = .ok (.goto 7, 3) := dk_167 0 7 (dk_at dksX11_odds_3 13 rfl rfl)
theorem dX11_odds_87 : decode cX11_odds 87 = .ok (.bipush 10, 2) := dk_16 10 (dk_at dksX11_odds_3 16 rfl rfl)
theorem dX11_odds_89 : decode cX11_odds 89 = .ok (.iload_n 3, 1) := dk_29 (dk_at dksX11_odds_3 18 rfl rfl)
theorem dX11_odds_90 : decode cX11_odds 90 = .ok (.isub, 1) := dk_100 (dk_at dksX11_odds_3 19 rfl rfl)
theorem dX11_odds_91 : decode cX11_odds 91 = .ok (.imul, 1) := dk_104 (dk_at dksX11_odds_3 20 rfl rfl)
theorem dX11_odds_92 : decode cX11_odds 92 = .ok (.istore 9, 2) := dk_54 9 (dk_at dksX11_odds_3 21 rfl rfl)
theorem dX11_odds_94 : decode cX11_odds 94 = .ok (.iinc 10 1, 3) := dk_132 10 1 (dk_at dksX11_odds_4 0 rfl rfl)
theorem dX11_odds_97 : decode cX11_odds 97 = .ok (.goto (-37), 3) := dk_167 255 219 (dk_at dksX11_odds_4 3 rfl rfl)
theorem dX11_odds_100 : decode cX11_odds 100 = .ok (.iload 5, 2) := dk_21 5 (dk_at dksX11_odds_4 6 rfl rfl)
theorem dX11_odds_102 : decode cX11_odds 102 = .ok (.iload 9, 2) := dk_21 9 (dk_at dksX11_odds_4 8 rfl rfl)
theorem dX11_odds_104 : decode cX11_odds 104 = .ok (.ifCond .le 26, 3) := dk_158 0 26 (dk_at dksX11_odds_4 10 rfl rfl)
theorem dX11_odds_107 : decode cX11_odds 107 = .ok (.aload_n 0, 1) := dk_42 (dk_at dksX11_odds_4 13 rfl rfl)
theorem dX11_odds_108 : decode cX11_odds 108 = .ok (.iload_n 1, 1) := dk_27 (dk_at dksX11_odds_4 14 rfl rfl)
theorem dX11_odds_109 : decode cX11_odds 109 = .ok (.iload_n 2, 1) := dk_28 (dk_at dksX11_odds_4 15 rfl rfl)
theorem dX11_odds_110 : decode cX11_odds 110 = .ok (.iload 7, 2) := dk_21 7 (dk_at dksX11_odds_4 16 rfl rfl)
theorem dX11_odds_112 : decode cX11_odds 112 = .ok (.iload 8, 2) := dk_21 8 (dk_at dksX11_odds_4 18 rfl rfl)
theorem dX11_odds_114 : decode cX11_odds 114 = .ok (.iconst (-1), 1) := dk_2 (dk_at dksX11_odds_4 20 rfl rfl)
theorem dX11_odds_115 : decode cX11_odds 115 = .ok (.ixor, 1) := dk_130 (dk_at dksX11_odds_4 21 rfl rfl)
theorem dX11_odds_116 : decode cX11_odds 116 = .ok (.iand, 1) := dk_126 (dk_at dksX11_odds_4 22 rfl rfl)
theorem dX11_odds_117 : decode cX11_odds 117 = .ok (.invokevirtual 160, 3) := dk_182 0 160 (dk_at dksX11_odds_5 0 rfl rfl)
theorem dX11_odds_120 : decode cX11_odds 120 = .ok (.bipush (-9), 2) := dk_16 247 (dk_at dksX11_odds_5 3 rfl rfl)
theorem dX11_odds_122 : decode cX11_odds 122 = .ok (.if_icmp .eq 8, 3) := dk_159 0 8 (dk_at dksX11_odds_5 5 rfl rfl)
theorem dX11_odds_125 : decode cX11_odds 125 = .ok (.iload 9, 2) := dk_21 9 (dk_at dksX11_odds_5 8 rfl rfl)
theorem dX11_odds_127 : decode cX11_odds 127 = .ok (.goto 4, 3) := dk_167 0 4 (dk_at dksX11_odds_5 10 rfl rfl)
theorem dX11_odds_130 : decode cX11_odds 130 = .ok (.iconst 0, 1) := dk_3 (dk_at dksX11_odds_5 13 rfl rfl)
theorem dX11_odds_131 : decode cX11_odds 131 = .ok (.iadd, 1) := dk_96 (dk_at dksX11_odds_5 14 rfl rfl)
theorem dX11_odds_132 : decode cX11_odds 132 = .ok (.istore 5, 2) := dk_54 5 (dk_at dksX11_odds_5 15 rfl rfl)
theorem dX11_odds_134 : decode cX11_odds 134 = .ok (.iinc 8 1, 3) := dk_132 8 1 (dk_at dksX11_odds_5 17 rfl rfl)
theorem dX11_odds_137 : decode cX11_odds 137 = .ok (.goto (-90), 3) := dk_167 255 166 (dk_at dksX11_odds_5 20 rfl rfl)
theorem dX11_odds_140 : decode cX11_odds 140 = .ok (.iconst 0, 1) := dk_3 (dk_at dksX11_odds_5 23 rfl rfl)
theorem dX11_odds_141 : decode cX11_odds 141 = .ok (.istore 8, 2) := dk_54 8 (dk_at dksX11_odds_6 0 rfl rfl)
theorem dX11_odds_143 : decode cX11_odds 143 = .ok (.iload 8, 2) := dk_21 8 (dk_at dksX11_odds_6 2 rfl rfl)
theorem dX11_odds_145 : decode cX11_odds 145 = .ok (.aload_n 0, 1) := dk_42 (dk_at dksX11_odds_6 4 rfl rfl)
theorem dX11_odds_146 : decode cX11_odds 146 = .ok (.getfield 17, 3) := dk_180 0 17 (dk_at dksX11_odds_6 5 rfl rfl)
theorem dX11_odds_149 : decode cX11_odds 149 = .ok (.iconst 0, 1) := dk_3 (dk_at dksX11_odds_6 8 rfl rfl)
theorem dX11_odds_150 : decode cX11_odds 150 = .ok (.iaload, 1) := dk_46 (dk_at dksX11_odds_6 9 rfl rfl)
theorem dX11_odds_151 : decode cX11_odds 151 = .ok (.if_icmp .ge 16, 3) := dk_162 0 16 (dk_at dksX11_odds_6 10 rfl rfl)
theorem dX11_odds_154 : decode cX11_odds 154 = .ok (.iload 6, 2) := dk_21 6 (dk_at dksX11_odds_6 13 rfl rfl)
theorem dX11_odds_156 : decode cX11_odds 156 = .ok (.bipush 10, 2) := dk_16 10 (dk_at dksX11_odds_6 15 rfl rfl)
theorem dX11_odds_158 : decode cX11_odds 158 = .ok (.imul, 1) := dk_104 (dk_at dksX11_odds_6 17 rfl rfl)
theorem dX11_odds_159 : decode cX11_odds 159 = .ok (.istore 6, 2) := dk_54 6 (dk_at dksX11_odds_6 18 rfl rfl)
theorem dX11_odds_161 : decode cX11_odds 161 = .ok (.iinc 8 1, 3) := dk_132 8 1 (dk_at dksX11_odds_6 20 rfl rfl)
theorem dX11_odds_164 : decode cX11_odds 164 = .ok (.goto (-21), 3) := dk_167 255 235 (dk_at dksX11_odds_7 0 rfl rfl)
theorem dX11_odds_167 : decode cX11_odds 167 = .ok (.iload 5, 2) := dk_21 5 (dk_at dksX11_odds_7 3 rfl rfl)
theorem dX11_odds_169 : decode cX11_odds 169 = .ok (.istore 8, 2) := dk_54 8 (dk_at dksX11_odds_7 5 rfl rfl)
theorem dX11_odds_171 : decode cX11_odds 171 = .ok (.iload 6, 2) := dk_21 6 (dk_at dksX11_odds_7 7 rfl rfl)
theorem dX11_odds_173 : decode cX11_odds 173 = .ok (.istore 9, 2) := dk_54 9 (dk_at dksX11_odds_7 9 rfl rfl)
theorem dX11_odds_175 : decode cX11_odds 175 = .ok (.iload 9, 2) := dk_21 9 (dk_at dksX11_odds_7 11 rfl rfl)
theorem dX11_odds_177 : decode cX11_odds 177 = .ok (.ifCond .eq 21, 3) := dk_153 0 21 (dk_at dksX11_odds_7 13 rfl rfl)
theorem dX11_odds_180 : decode cX11_odds 180 = .ok (.iload 8, 2) := dk_21 8 (dk_at dksX11_odds_7 16 rfl rfl)
theorem dX11_odds_182 : decode cX11_odds 182 = .ok (.iload 9, 2) := dk_21 9 (dk_at dksX11_odds_7 18 rfl rfl)
theorem dX11_odds_184 : decode cX11_odds 184 = .ok (.irem, 1) := dk_112 (dk_at dksX11_odds_7 20 rfl rfl)
theorem dX11_odds_185 : decode cX11_odds 185 = .ok (.istore 10, 2) := dk_54 10 (dk_at dksX11_odds_7 21 rfl rfl)
theorem dX11_odds_187 : decode cX11_odds 187 = .ok (.iload 9, 2) := dk_21 9 (dk_at dksX11_odds_8 0 rfl rfl)
theorem dX11_odds_189 : decode cX11_odds 189 = .ok (.istore 8, 2) := dk_54 8 (dk_at dksX11_odds_8 2 rfl rfl)
theorem dX11_odds_191 : decode cX11_odds 191 = .ok (.iload 10, 2) := dk_21 10 (dk_at dksX11_odds_8 4 rfl rfl)
theorem dX11_odds_193 : decode cX11_odds 193 = .ok (.istore 9, 2) := dk_54 9 (dk_at dksX11_odds_8 6 rfl rfl)
theorem dX11_odds_195 : decode cX11_odds 195 = .ok (.goto (-20), 3) := dk_167 255 236 (dk_at dksX11_odds_8 8 rfl rfl)
theorem dX11_odds_198 : decode cX11_odds 198 = .ok (.iload 4, 2) := dk_21 4 (dk_at dksX11_odds_8 11 rfl rfl)
theorem dX11_odds_200 : decode cX11_odds 200 = .ok (.ifCond .ne 11, 3) := dk_154 0 11 (dk_at dksX11_odds_8 13 rfl rfl)
theorem dX11_odds_203 : decode cX11_odds 203 = .ok (.iload 5, 2) := dk_21 5 (dk_at dksX11_odds_8 16 rfl rfl)
theorem dX11_odds_205 : decode cX11_odds 205 = .ok (.iload 8, 2) := dk_21 8 (dk_at dksX11_odds_8 18 rfl rfl)
theorem dX11_odds_207 : decode cX11_odds 207 = .ok (.idiv, 1) := dk_108 (dk_at dksX11_odds_8 20 rfl rfl)
theorem dX11_odds_208 : decode cX11_odds 208 = .ok (.goto 8, 3) := dk_167 0 8 (dk_at dksX11_odds_8 21 rfl rfl)
theorem dX11_odds_211 : decode cX11_odds 211 = .ok (.iload 6, 2) := dk_21 6 (dk_at dksX11_odds_9 0 rfl rfl)
theorem dX11_odds_213 : decode cX11_odds 213 = .ok (.iload 8, 2) := dk_21 8 (dk_at dksX11_odds_9 2 rfl rfl)
theorem dX11_odds_215 : decode cX11_odds 215 = .ok (.idiv, 1) := dk_108 (dk_at dksX11_odds_9 4 rfl rfl)
theorem dX11_odds_216 : decode cX11_odds 216 = .ok (.ireturn, 1) := dk_172 (dk_at dksX11_odds_9 5 rfl rfl)
abbrev cX11_carriage : ByteArray := prog_14_method_44_code
def yX11_carriage : MethodName := ⟨RX11, "carriage", "(I)I"⟩
def dkwX11_carriage_7 : List UInt8 := [132, 4, 1, 167, 255, 130, 29, 172]
abbrev dktX11_carriage_7 : List UInt8 := dkwX11_carriage_7 ++ []
def dkwX11_carriage_6 : List UInt8 := [132, 5, 255, 167, 255, 171, 28, 29, 16, 247, 160, 0, 7, 3, 167, 0, 6, 4, 29, 120, 128, 61]
abbrev dktX11_carriage_6 : List UInt8 := dkwX11_carriage_6 ++ dktX11_carriage_7
def dkwX11_carriage_5 : List UInt8 := [180, 0, 54, 17, 2, 0, 21, 4, 104, 28, 96, 46, 160, 0, 8, 21, 5, 167, 0, 4, 29, 62]
abbrev dktX11_carriage_5 : List UInt8 := dkwX11_carriage_5 ++ dktX11_carriage_6
def dkwX11_carriage_4 : List UInt8 := [42, 180, 0, 54, 17, 2, 0, 21, 4, 4, 96, 104, 28, 4, 21, 5, 120, 128, 96, 46, 96, 42]
abbrev dktX11_carriage_4 : List UInt8 := dkwX11_carriage_4 ++ dktX11_carriage_5
def dkwX11_carriage_3 : List UInt8 := [42, 21, 4, 21, 5, 182, 0, 167, 153, 0, 7, 4, 167, 0, 4, 3, 54, 6, 21, 6, 153, 0, 46, 4]
abbrev dktX11_carriage_3 : List UInt8 := dkwX11_carriage_3 ++ dktX11_carriage_4
def dkwX11_carriage_2 : List UInt8 := [42, 180, 0, 17, 3, 46, 4, 100, 54, 5, 21, 5, 155, 0, 86, 28, 21, 5, 184, 0, 151, 154, 0, 18]
abbrev dktX11_carriage_2 : List UInt8 := dkwX11_carriage_2 ++ dktX11_carriage_3
def dkwX11_carriage_1 : List UInt8 := [42, 180, 0, 54, 3, 46, 172, 3, 61, 16, 247, 62, 3, 54, 4, 21, 4, 27, 163, 0, 126, 16, 247, 62]
abbrev dktX11_carriage_1 : List UInt8 := dkwX11_carriage_1 ++ dktX11_carriage_2
def dkwX11_carriage_0 : List UInt8 := [27, 2, 159, 0, 13, 42, 27, 182, 0, 136, 154, 0, 5, 2, 172, 42, 182, 0, 170, 27, 2, 160, 0, 10]
abbrev dktX11_carriage_0 : List UInt8 := dkwX11_carriage_0 ++ dktX11_carriage_1
theorem dksX11_carriage_0 : cX11_carriage.data.toList.drop 0 = dktX11_carriage_0 := by decide +kernel
theorem dksX11_carriage_1 : cX11_carriage.data.toList.drop 24 = dktX11_carriage_1 := dk_seg dksX11_carriage_0 24 rfl rfl
theorem dksX11_carriage_2 : cX11_carriage.data.toList.drop 48 = dktX11_carriage_2 := dk_seg dksX11_carriage_1 24 rfl rfl
theorem dksX11_carriage_3 : cX11_carriage.data.toList.drop 72 = dktX11_carriage_3 := dk_seg dksX11_carriage_2 24 rfl rfl
theorem dksX11_carriage_4 : cX11_carriage.data.toList.drop 96 = dktX11_carriage_4 := dk_seg dksX11_carriage_3 24 rfl rfl
theorem dksX11_carriage_5 : cX11_carriage.data.toList.drop 118 = dktX11_carriage_5 := dk_seg dksX11_carriage_4 22 rfl rfl
theorem dksX11_carriage_6 : cX11_carriage.data.toList.drop 140 = dktX11_carriage_6 := dk_seg dksX11_carriage_5 22 rfl rfl
theorem dksX11_carriage_7 : cX11_carriage.data.toList.drop 162 = dktX11_carriage_7 := dk_seg dksX11_carriage_6 22 rfl rfl
theorem dX11_carriage_0 : decode cX11_carriage 0 = .ok (.iload_n 1, 1) := dk_27 (dk_at dksX11_carriage_0 0 rfl rfl)
theorem dX11_carriage_1 : decode cX11_carriage 1 = .ok (.iconst (-1), 1) := dk_2 (dk_at dksX11_carriage_0 1 rfl rfl)
theorem dX11_carriage_2 : decode cX11_carriage 2 = .ok (.if_icmp .eq 13, 3) := dk_159 0 13 (dk_at dksX11_carriage_0 2 rfl rfl)
theorem dX11_carriage_5 : decode cX11_carriage 5 = .ok (.aload_n 0, 1) := dk_42 (dk_at dksX11_carriage_0 5 rfl rfl)
theorem dX11_carriage_6 : decode cX11_carriage 6 = .ok (.iload_n 1, 1) := dk_27 (dk_at dksX11_carriage_0 6 rfl rfl)
theorem dX11_carriage_7 : decode cX11_carriage 7 = .ok (.invokevirtual 136, 3) := dk_182 0 136 (dk_at dksX11_carriage_0 7 rfl rfl)
theorem dX11_carriage_10 : decode cX11_carriage 10 = .ok (.ifCond .ne 5, 3) := dk_154 0 5 (dk_at dksX11_carriage_0 10 rfl rfl)
theorem dX11_carriage_13 : decode cX11_carriage 13 = .ok (.iconst (-1), 1) := dk_2 (dk_at dksX11_carriage_0 13 rfl rfl)
theorem dX11_carriage_14 : decode cX11_carriage 14 = .ok (.ireturn, 1) := dk_172 (dk_at dksX11_carriage_0 14 rfl rfl)
theorem dX11_carriage_15 : decode cX11_carriage 15 = .ok (.aload_n 0, 1) := dk_42 (dk_at dksX11_carriage_0 15 rfl rfl)
theorem dX11_carriage_16 : decode cX11_carriage 16 = .ok (.invokevirtual 170, 3) := dk_182 0 170 (dk_at dksX11_carriage_0 16 rfl rfl)
theorem dX11_carriage_19 : decode cX11_carriage 19 = .ok (.iload_n 1, 1) := dk_27 (dk_at dksX11_carriage_0 19 rfl rfl)
theorem dX11_carriage_20 : decode cX11_carriage 20 = .ok (.iconst (-1), 1) := dk_2 (dk_at dksX11_carriage_0 20 rfl rfl)
theorem dX11_carriage_21 : decode cX11_carriage 21 = .ok (.if_icmp .ne 10, 3) := dk_160 0 10 (dk_at dksX11_carriage_0 21 rfl rfl)
theorem dX11_carriage_24 : decode cX11_carriage 24 = .ok (.aload_n 0, 1) := dk_42 (dk_at dksX11_carriage_1 0 rfl rfl)
theorem dX11_carriage_25 : decode cX11_carriage 25 = .ok (.getfield 54, 3) := dk_180 0 54 (dk_at dksX11_carriage_1 1 rfl rfl)
theorem dX11_carriage_28 : decode cX11_carriage 28 = .ok (.iconst 0, 1) := dk_3 (dk_at dksX11_carriage_1 4 rfl rfl)
theorem dX11_carriage_29 : decode cX11_carriage 29 = .ok (.iaload, 1) := dk_46 (dk_at dksX11_carriage_1 5 rfl rfl)
theorem dX11_carriage_30 : decode cX11_carriage 30 = .ok (.ireturn, 1) := dk_172 (dk_at dksX11_carriage_1 6 rfl rfl)
theorem dX11_carriage_31 : decode cX11_carriage 31 = .ok (.iconst 0, 1) := dk_3 (dk_at dksX11_carriage_1 7 rfl rfl)
theorem dX11_carriage_32 : decode cX11_carriage 32 = .ok (.istore_n 2, 1) := dk_61 (dk_at dksX11_carriage_1 8 rfl rfl)
theorem dX11_carriage_33 : decode cX11_carriage 33 = .ok (.bipush (-9), 2) := dk_16 247 (dk_at dksX11_carriage_1 9 rfl rfl)
theorem dX11_carriage_35 : decode cX11_carriage 35 = .ok (.istore_n 3, 1) := dk_62 (dk_at dksX11_carriage_1 11 rfl rfl)
theorem dX11_carriage_36 : decode cX11_carriage 36 = .ok (.iconst 0, 1) := dk_3 (dk_at dksX11_carriage_1 12 rfl rfl)
theorem dX11_carriage_37 : decode cX11_carriage 37 = .ok (.istore 4, 2) := dk_54 4 (dk_at dksX11_carriage_1 13 rfl rfl)
theorem dX11_carriage_39 : decode cX11_carriage 39 = .ok (.iload 4, 2) := dk_21 4 (dk_at dksX11_carriage_1 15 rfl rfl)
theorem dX11_carriage_41 : decode cX11_carriage 41 = .ok (.iload_n 1, 1) := dk_27 (dk_at dksX11_carriage_1 17 rfl rfl)
theorem dX11_carriage_42 : decode cX11_carriage 42 = .ok (.if_icmp .gt 126, 3) := dk_163 0 126 (dk_at dksX11_carriage_1 18 rfl rfl)
theorem dX11_carriage_45 : decode cX11_carriage 45 = .ok (.bipush (-9), 2) := dk_16 247 (dk_at dksX11_carriage_1 21 rfl rfl)
theorem dX11_carriage_47 : decode cX11_carriage 47 = .ok (.istore_n 3, 1) := dk_62 (dk_at dksX11_carriage_1 23 rfl rfl)
theorem dX11_carriage_48 : decode cX11_carriage 48 = .ok (.aload_n 0, 1) := dk_42 (dk_at dksX11_carriage_2 0 rfl rfl)
theorem dX11_carriage_49 : decode cX11_carriage 49 = .ok (.getfield 17, 3) := dk_180 0 17 (dk_at dksX11_carriage_2 1 rfl rfl)
theorem dX11_carriage_52 : decode cX11_carriage 52 = .ok (.iconst 0, 1) := dk_3 (dk_at dksX11_carriage_2 4 rfl rfl)
theorem dX11_carriage_53 : decode cX11_carriage 53 = .ok (.iaload, 1) := dk_46 (dk_at dksX11_carriage_2 5 rfl rfl)
theorem dX11_carriage_54 : decode cX11_carriage 54 = .ok (.iconst 1, 1) := dk_4 (dk_at dksX11_carriage_2 6 rfl rfl)
theorem dX11_carriage_55 : decode cX11_carriage 55 = .ok (.isub, 1) := dk_100 (dk_at dksX11_carriage_2 7 rfl rfl)
theorem dX11_carriage_56 : decode cX11_carriage 56 = .ok (.istore 5, 2) := dk_54 5 (dk_at dksX11_carriage_2 8 rfl rfl)
theorem dX11_carriage_58 : decode cX11_carriage 58 = .ok (.iload 5, 2) := dk_21 5 (dk_at dksX11_carriage_2 10 rfl rfl)
theorem dX11_carriage_60 : decode cX11_carriage 60 = .ok (.ifCond .lt 86, 3) := dk_155 0 86 (dk_at dksX11_carriage_2 12 rfl rfl)
theorem dX11_carriage_63 : decode cX11_carriage 63 = .ok (.iload_n 2, 1) := dk_28 (dk_at dksX11_carriage_2 15 rfl rfl)
theorem dX11_carriage_64 : decode cX11_carriage 64 = .ok (.iload 5, 2) := dk_21 5 (dk_at dksX11_carriage_2 16 rfl rfl)
theorem dX11_carriage_66 : decode cX11_carriage 66 = .ok (.invokestatic 151, 3) := dk_184 0 151 (dk_at dksX11_carriage_2 18 rfl rfl)
theorem dX11_carriage_69 : decode cX11_carriage 69 = .ok (.ifCond .ne 18, 3) := dk_154 0 18 (dk_at dksX11_carriage_2 21 rfl rfl)
theorem dX11_carriage_72 : decode cX11_carriage 72 = .ok (.aload_n 0, 1) := dk_42 (dk_at dksX11_carriage_3 0 rfl rfl)
theorem dX11_carriage_73 : decode cX11_carriage 73 = .ok (.iload 4, 2) := dk_21 4 (dk_at dksX11_carriage_3 1 rfl rfl)
theorem dX11_carriage_75 : decode cX11_carriage 75 = .ok (.iload 5, 2) := dk_21 5 (dk_at dksX11_carriage_3 3 rfl rfl)
theorem dX11_carriage_77 : decode cX11_carriage 77 = .ok (.invokevirtual 167, 3) := dk_182 0 167 (dk_at dksX11_carriage_3 5 rfl rfl)
theorem dX11_carriage_80 : decode cX11_carriage 80 = .ok (.ifCond .eq 7, 3) := dk_153 0 7 (dk_at dksX11_carriage_3 8 rfl rfl)
theorem dX11_carriage_83 : decode cX11_carriage 83 = .ok (.iconst 1, 1) := dk_4 (dk_at dksX11_carriage_3 11 rfl rfl)
theorem dX11_carriage_84 : decode cX11_carriage 84 = .ok (.goto 4, 3) := dk_167 0 4 (dk_at dksX11_carriage_3 12 rfl rfl)
theorem dX11_carriage_87 : decode cX11_carriage 87 = .ok (.iconst 0, 1) := dk_3 (dk_at dksX11_carriage_3 15 rfl rfl)
theorem dX11_carriage_88 : decode cX11_carriage 88 = .ok (.istore 6, 2) := dk_54 6 (dk_at dksX11_carriage_3 16 rfl rfl)
theorem dX11_carriage_90 : decode cX11_carriage 90 = .ok (.iload 6, 2) := dk_21 6 (dk_at dksX11_carriage_3 18 rfl rfl)
theorem dX11_carriage_92 : decode cX11_carriage 92 = .ok (.ifCond .eq 46, 3) := dk_153 0 46 (dk_at dksX11_carriage_3 20 rfl rfl)
theorem dX11_carriage_95 : decode cX11_carriage 95 = .ok (.iconst 1, 1) := dk_4 (dk_at dksX11_carriage_3 23 rfl rfl)
theorem dX11_carriage_96 : decode cX11_carriage 96 = .ok (.aload_n 0, 1) := dk_42 (dk_at dksX11_carriage_4 0 rfl rfl)
theorem dX11_carriage_97 : decode cX11_carriage 97 = .ok (.getfield 54, 3) := dk_180 0 54 (dk_at dksX11_carriage_4 1 rfl rfl)
theorem dX11_carriage_100 : decode cX11_carriage 100 = .ok (.sipush 512, 3) := dk_17 2 0 (dk_at dksX11_carriage_4 4 rfl rfl)
theorem dX11_carriage_103 : decode cX11_carriage 103 = .ok (.iload 4, 2) := dk_21 4 (dk_at dksX11_carriage_4 7 rfl rfl)
theorem dX11_carriage_105 : decode cX11_carriage 105 = .ok (.iconst 1, 1) := dk_4 (dk_at dksX11_carriage_4 9 rfl rfl)
theorem dX11_carriage_106 : decode cX11_carriage 106 = .ok (.iadd, 1) := dk_96 (dk_at dksX11_carriage_4 10 rfl rfl)
theorem dX11_carriage_107 : decode cX11_carriage 107 = .ok (.imul, 1) := dk_104 (dk_at dksX11_carriage_4 11 rfl rfl)
theorem dX11_carriage_108 : decode cX11_carriage 108 = .ok (.iload_n 2, 1) := dk_28 (dk_at dksX11_carriage_4 12 rfl rfl)
theorem dX11_carriage_109 : decode cX11_carriage 109 = .ok (.iconst 1, 1) := dk_4 (dk_at dksX11_carriage_4 13 rfl rfl)
theorem dX11_carriage_110 : decode cX11_carriage 110 = .ok (.iload 5, 2) := dk_21 5 (dk_at dksX11_carriage_4 14 rfl rfl)
theorem dX11_carriage_112 : decode cX11_carriage 112 = .ok (.ishl, 1) := dk_120 (dk_at dksX11_carriage_4 16 rfl rfl)
theorem dX11_carriage_113 : decode cX11_carriage 113 = .ok (.ior, 1) := dk_128 (dk_at dksX11_carriage_4 17 rfl rfl)
theorem dX11_carriage_114 : decode cX11_carriage 114 = .ok (.iadd, 1) := dk_96 (dk_at dksX11_carriage_4 18 rfl rfl)
theorem dX11_carriage_115 : decode cX11_carriage 115 = .ok (.iaload, 1) := dk_46 (dk_at dksX11_carriage_4 19 rfl rfl)
theorem dX11_carriage_116 : decode cX11_carriage 116 = .ok (.iadd, 1) := dk_96 (dk_at dksX11_carriage_4 20 rfl rfl)
theorem dX11_carriage_117 : decode cX11_carriage 117 = .ok (.aload_n 0, 1) := dk_42 (dk_at dksX11_carriage_4 21 rfl rfl)
theorem dX11_carriage_118 : decode cX11_carriage 118 = .ok (.getfield 54, 3) := dk_180 0 54 (dk_at dksX11_carriage_5 0 rfl rfl)
theorem dX11_carriage_121 : decode cX11_carriage 121 = .ok (.sipush 512, 3) := dk_17 2 0 (dk_at dksX11_carriage_5 3 rfl rfl)
theorem dX11_carriage_124 : decode cX11_carriage 124 = .ok (.iload 4, 2) := dk_21 4 (dk_at dksX11_carriage_5 6 rfl rfl)
theorem dX11_carriage_126 : decode cX11_carriage 126 = .ok (.imul, 1) := dk_104 (dk_at dksX11_carriage_5 8 rfl rfl)
theorem dX11_carriage_127 : decode cX11_carriage 127 = .ok (.iload_n 2, 1) := dk_28 (dk_at dksX11_carriage_5 9 rfl rfl)
theorem dX11_carriage_128 : decode cX11_carriage 128 = .ok (.iadd, 1) := dk_96 (dk_at dksX11_carriage_5 10 rfl rfl)
theorem dX11_carriage_129 : decode cX11_carriage 129 = .ok (.iaload, 1) := dk_46 (dk_at dksX11_carriage_5 11 rfl rfl)
theorem dX11_carriage_130 : decode cX11_carriage 130 = .ok (.if_icmp .ne 8, 3) := dk_160 0 8 (dk_at dksX11_carriage_5 12 rfl rfl)
theorem dX11_carriage_133 : decode cX11_carriage 133 = .ok (.iload 5, 2) := dk_21 5 (dk_at dksX11_carriage_5 15 rfl rfl)
theorem dX11_carriage_135 : decode cX11_carriage 135 = .ok (.goto 4, 3) := dk_167 0 4 (dk_at dksX11_carriage_5 17 rfl rfl)
theorem dX11_carriage_138 : decode cX11_carriage 138 = .ok (.iload_n 3, 1) := dk_29 (dk_at dksX11_carriage_5 20 rfl rfl)
theorem dX11_carriage_139 : decode cX11_carriage 139 = .ok (.istore_n 3, 1) := dk_62 (dk_at dksX11_carriage_5 21 rfl rfl)
theorem dX11_carriage_140 : decode cX11_carriage 140 = .ok (.iinc 5 (-1), 3) := dk_132 5 255 (dk_at dksX11_carriage_6 0 rfl rfl)
theorem dX11_carriage_143 : decode cX11_carriage 143 = .ok (.goto (-85), 3) := dk_167 255 171 (dk_at dksX11_carriage_6 3 rfl rfl)
theorem dX11_carriage_146 : decode cX11_carriage 146 = .ok (.iload_n 2, 1) := dk_28 (dk_at dksX11_carriage_6 6 rfl rfl)
theorem dX11_carriage_147 : decode cX11_carriage 147 = .ok (.iload_n 3, 1) := dk_29 (dk_at dksX11_carriage_6 7 rfl rfl)
theorem dX11_carriage_148 : decode cX11_carriage 148 = .ok (.bipush (-9), 2) := dk_16 247 (dk_at dksX11_carriage_6 8 rfl rfl)
theorem dX11_carriage_150 : decode cX11_carriage 150 = .ok (.if_icmp .ne 7, 3) := dk_160 0 7 (dk_at dksX11_carriage_6 10 rfl rfl)
theorem dX11_carriage_153 : decode cX11_carriage 153 = .ok (.iconst 0, 1) := dk_3 (dk_at dksX11_carriage_6 13 rfl rfl)
theorem dX11_carriage_154 : decode cX11_carriage 154 = .ok (.goto 6, 3) := dk_167 0 6 (dk_at dksX11_carriage_6 14 rfl rfl)
theorem dX11_carriage_157 : decode cX11_carriage 157 = .ok (.iconst 1, 1) := dk_4 (dk_at dksX11_carriage_6 17 rfl rfl)
theorem dX11_carriage_158 : decode cX11_carriage 158 = .ok (.iload_n 3, 1) := dk_29 (dk_at dksX11_carriage_6 18 rfl rfl)
theorem dX11_carriage_159 : decode cX11_carriage 159 = .ok (.ishl, 1) := dk_120 (dk_at dksX11_carriage_6 19 rfl rfl)
theorem dX11_carriage_160 : decode cX11_carriage 160 = .ok (.ior, 1) := dk_128 (dk_at dksX11_carriage_6 20 rfl rfl)
theorem dX11_carriage_161 : decode cX11_carriage 161 = .ok (.istore_n 2, 1) := dk_61 (dk_at dksX11_carriage_6 21 rfl rfl)
theorem dX11_carriage_162 : decode cX11_carriage 162 = .ok (.iinc 4 1, 3) := dk_132 4 1 (dk_at dksX11_carriage_7 0 rfl rfl)
theorem dX11_carriage_165 : decode cX11_carriage 165 = .ok (.goto (-126), 3) := dk_167 255 130 (dk_at dksX11_carriage_7 3 rfl rfl)
theorem dX11_carriage_168 : decode cX11_carriage 168 = .ok (.iload_n 3, 1) := dk_29 (dk_at dksX11_carriage_7 6 rfl rfl)
theorem dX11_carriage_169 : decode cX11_carriage 169 = .ok (.ireturn, 1) := dk_172 (dk_at dksX11_carriage_7 7 rfl rfl)
abbrev cX11_tellMost : ByteArray := prog_14_method_43_code
def yX11_tellMost : MethodName := ⟨RX11, "tellMost", "()V"⟩
def dkwX11_tellMost_7 : List UInt8 := [132, 3, 1, 167, 255, 140, 132, 2, 255, 167, 255, 128, 177]
abbrev dktX11_tellMost_7 : List UInt8 := dkwX11_tellMost_7 ++ []
def dkwX11_tellMost_6 : List UInt8 := [21, 4, 54, 4, 132, 5, 1, 167, 255, 184, 42, 180, 0, 54, 17, 2, 0, 28, 104, 29, 96, 21, 4, 79]
abbrev dktX11_tellMost_6 : List UInt8 := dkwX11_tellMost_6 ++ dktX11_tellMost_7
def dkwX11_tellMost_5 : List UInt8 := [104, 29, 4, 21, 5, 120, 128, 96, 46, 96, 54, 6, 21, 6, 21, 4, 164, 0, 8, 21, 6, 167, 0, 5]
abbrev dktX11_tellMost_5 : List UInt8 := dkwX11_tellMost_5 ++ dktX11_tellMost_6
def dkwX11_tellMost_4 : List UInt8 := [154, 0, 52, 42, 28, 21, 5, 182, 0, 167, 153, 0, 42, 4, 42, 180, 0, 54, 17, 2, 0, 28, 4, 96]
abbrev dktX11_tellMost_4 : List UInt8 := dkwX11_tellMost_4 ++ dktX11_tellMost_5
def dkwX11_tellMost_3 : List UInt8 := [96, 46, 54, 4, 3, 54, 5, 21, 5, 42, 180, 0, 17, 3, 46, 162, 0, 67, 29, 21, 5, 184, 0, 151]
abbrev dktX11_tellMost_3 : List UInt8 := dkwX11_tellMost_3 ++ dktX11_tellMost_4
def dkwX11_tellMost_2 : List UInt8 := [61, 28, 155, 0, 130, 3, 62, 29, 27, 162, 0, 117, 42, 180, 0, 54, 17, 2, 0, 28, 4, 96, 104, 29]
abbrev dktX11_tellMost_2 : List UInt8 := dkwX11_tellMost_2 ++ dktX11_tellMost_3
def dkwX11_tellMost_1 : List UInt8 := [180, 0, 29, 3, 46, 104, 28, 96, 3, 79, 132, 2, 1, 167, 255, 230, 42, 180, 0, 29, 3, 46, 4, 100]
abbrev dktX11_tellMost_1 : List UInt8 := dkwX11_tellMost_1 ++ dktX11_tellMost_2
def dkwX11_tellMost_0 : List UInt8 := [4, 42, 180, 0, 17, 3, 46, 120, 60, 3, 61, 28, 27, 162, 0, 27, 42, 180, 0, 54, 17, 2, 0, 42]
abbrev dktX11_tellMost_0 : List UInt8 := dkwX11_tellMost_0 ++ dktX11_tellMost_1
theorem dksX11_tellMost_0 : cX11_tellMost.data.toList.drop 0 = dktX11_tellMost_0 := by decide +kernel
theorem dksX11_tellMost_1 : cX11_tellMost.data.toList.drop 24 = dktX11_tellMost_1 := dk_seg dksX11_tellMost_0 24 rfl rfl
theorem dksX11_tellMost_2 : cX11_tellMost.data.toList.drop 48 = dktX11_tellMost_2 := dk_seg dksX11_tellMost_1 24 rfl rfl
theorem dksX11_tellMost_3 : cX11_tellMost.data.toList.drop 72 = dktX11_tellMost_3 := dk_seg dksX11_tellMost_2 24 rfl rfl
theorem dksX11_tellMost_4 : cX11_tellMost.data.toList.drop 96 = dktX11_tellMost_4 := dk_seg dksX11_tellMost_3 24 rfl rfl
theorem dksX11_tellMost_5 : cX11_tellMost.data.toList.drop 120 = dktX11_tellMost_5 := dk_seg dksX11_tellMost_4 24 rfl rfl
theorem dksX11_tellMost_6 : cX11_tellMost.data.toList.drop 144 = dktX11_tellMost_6 := dk_seg dksX11_tellMost_5 24 rfl rfl
theorem dksX11_tellMost_7 : cX11_tellMost.data.toList.drop 168 = dktX11_tellMost_7 := dk_seg dksX11_tellMost_6 24 rfl rfl
theorem dX11_tellMost_0 : decode cX11_tellMost 0 = .ok (.iconst 1, 1) := dk_4 (dk_at dksX11_tellMost_0 0 rfl rfl)
theorem dX11_tellMost_1 : decode cX11_tellMost 1 = .ok (.aload_n 0, 1) := dk_42 (dk_at dksX11_tellMost_0 1 rfl rfl)
theorem dX11_tellMost_2 : decode cX11_tellMost 2 = .ok (.getfield 17, 3) := dk_180 0 17 (dk_at dksX11_tellMost_0 2 rfl rfl)
theorem dX11_tellMost_5 : decode cX11_tellMost 5 = .ok (.iconst 0, 1) := dk_3 (dk_at dksX11_tellMost_0 5 rfl rfl)
theorem dX11_tellMost_6 : decode cX11_tellMost 6 = .ok (.iaload, 1) := dk_46 (dk_at dksX11_tellMost_0 6 rfl rfl)
theorem dX11_tellMost_7 : decode cX11_tellMost 7 = .ok (.ishl, 1) := dk_120 (dk_at dksX11_tellMost_0 7 rfl rfl)
theorem dX11_tellMost_8 : decode cX11_tellMost 8 = .ok (.istore_n 1, 1) := dk_60 (dk_at dksX11_tellMost_0 8 rfl rfl)
theorem dX11_tellMost_9 : decode cX11_tellMost 9 = .ok (.iconst 0, 1) := dk_3 (dk_at dksX11_tellMost_0 9 rfl rfl)
theorem dX11_tellMost_10 : decode cX11_tellMost 10 = .ok (.istore_n 2, 1) := dk_61 (dk_at dksX11_tellMost_0 10 rfl rfl)
theorem dX11_tellMost_11 : decode cX11_tellMost 11 = .ok (.iload_n 2, 1) := dk_28 (dk_at dksX11_tellMost_0 11 rfl rfl)
theorem dX11_tellMost_12 : decode cX11_tellMost 12 = .ok (.iload_n 1, 1) := dk_27 (dk_at dksX11_tellMost_0 12 rfl rfl)
theorem dX11_tellMost_13 : decode cX11_tellMost 13 = .ok (.if_icmp .ge 27, 3) := dk_162 0 27 (dk_at dksX11_tellMost_0 13 rfl rfl)
theorem dX11_tellMost_16 : decode cX11_tellMost 16 = .ok (.aload_n 0, 1) := dk_42 (dk_at dksX11_tellMost_0 16 rfl rfl)
theorem dX11_tellMost_17 : decode cX11_tellMost 17 = .ok (.getfield 54, 3) := dk_180 0 54 (dk_at dksX11_tellMost_0 17 rfl rfl)
theorem dX11_tellMost_20 : decode cX11_tellMost 20 = .ok (.sipush 512, 3) := dk_17 2 0 (dk_at dksX11_tellMost_0 20 rfl rfl)
theorem dX11_tellMost_23 : decode cX11_tellMost 23 = .ok (.aload_n 0, 1) := dk_42 (dk_at dksX11_tellMost_0 23 rfl rfl)
theorem dX11_tellMost_24 : decode cX11_tellMost 24 = .ok (.getfield 29, 3) := dk_180 0 29 (dk_at dksX11_tellMost_1 0 rfl rfl)
theorem dX11_tellMost_27 : decode cX11_tellMost 27 = .ok (.iconst 0, 1) := dk_3 (dk_at dksX11_tellMost_1 3 rfl rfl)
theorem dX11_tellMost_28 : decode cX11_tellMost 28 = .ok (.iaload, 1) := dk_46 (dk_at dksX11_tellMost_1 4 rfl rfl)
theorem dX11_tellMost_29 : decode cX11_tellMost 29 = .ok (.imul, 1) := dk_104 (dk_at dksX11_tellMost_1 5 rfl rfl)
theorem dX11_tellMost_30 : decode cX11_tellMost 30 = .ok (.iload_n 2, 1) := dk_28 (dk_at dksX11_tellMost_1 6 rfl rfl)
theorem dX11_tellMost_31 : decode cX11_tellMost 31 = .ok (.iadd, 1) := dk_96 (dk_at dksX11_tellMost_1 7 rfl rfl)
theorem dX11_tellMost_32 : decode cX11_tellMost 32 = .ok (.iconst 0, 1) := dk_3 (dk_at dksX11_tellMost_1 8 rfl rfl)
theorem dX11_tellMost_33 : decode cX11_tellMost 33 = .ok (.iastore, 1) := dk_79 (dk_at dksX11_tellMost_1 9 rfl rfl)
theorem dX11_tellMost_34 : decode cX11_tellMost 34 = .ok (.iinc 2 1, 3) := dk_132 2 1 (dk_at dksX11_tellMost_1 10 rfl rfl)
theorem dX11_tellMost_37 : decode cX11_tellMost 37 = .ok (.goto (-26), 3) := dk_167 255 230 (dk_at dksX11_tellMost_1 13 rfl rfl)
theorem dX11_tellMost_40 : decode cX11_tellMost 40 = .ok (.aload_n 0, 1) := dk_42 (dk_at dksX11_tellMost_1 16 rfl rfl)
theorem dX11_tellMost_41 : decode cX11_tellMost 41 = .ok (.getfield 29, 3) := dk_180 0 29 (dk_at dksX11_tellMost_1 17 rfl rfl)
theorem dX11_tellMost_44 : decode cX11_tellMost 44 = .ok (.iconst 0, 1) := dk_3 (dk_at dksX11_tellMost_1 20 rfl rfl)
theorem dX11_tellMost_45 : decode cX11_tellMost 45 = .ok (.iaload, 1) := dk_46 (dk_at dksX11_tellMost_1 21 rfl rfl)
theorem dX11_tellMost_46 : decode cX11_tellMost 46 = .ok (.iconst 1, 1) := dk_4 (dk_at dksX11_tellMost_1 22 rfl rfl)
theorem dX11_tellMost_47 : decode cX11_tellMost 47 = .ok (.isub, 1) := dk_100 (dk_at dksX11_tellMost_1 23 rfl rfl)
theorem dX11_tellMost_48 : decode cX11_tellMost 48 = .ok (.istore_n 2, 1) := dk_61 (dk_at dksX11_tellMost_2 0 rfl rfl)
theorem dX11_tellMost_49 : decode cX11_tellMost 49 = .ok (.iload_n 2, 1) := dk_28 (dk_at dksX11_tellMost_2 1 rfl rfl)
theorem dX11_tellMost_50 : decode cX11_tellMost 50 = .ok (.ifCond .lt 130, 3) := dk_155 0 130 (dk_at dksX11_tellMost_2 2 rfl rfl)
theorem dX11_tellMost_53 : decode cX11_tellMost 53 = .ok (.iconst 0, 1) := dk_3 (dk_at dksX11_tellMost_2 5 rfl rfl)
theorem dX11_tellMost_54 : decode cX11_tellMost 54 = .ok (.istore_n 3, 1) := dk_62 (dk_at dksX11_tellMost_2 6 rfl rfl)
theorem dX11_tellMost_55 : decode cX11_tellMost 55 = .ok (.iload_n 3, 1) := dk_29 (dk_at dksX11_tellMost_2 7 rfl rfl)
theorem dX11_tellMost_56 : decode cX11_tellMost 56 = .ok (.iload_n 1, 1) := dk_27 (dk_at dksX11_tellMost_2 8 rfl rfl)
theorem dX11_tellMost_57 : decode cX11_tellMost 57 = .ok (.if_icmp .ge 117, 3) := dk_162 0 117 (dk_at dksX11_tellMost_2 9 rfl rfl)
theorem dX11_tellMost_60 : decode cX11_tellMost 60 = .ok (.aload_n 0, 1) := dk_42 (dk_at dksX11_tellMost_2 12 rfl rfl)
theorem dX11_tellMost_61 : decode cX11_tellMost 61 = .ok (.getfield 54, 3) := dk_180 0 54 (dk_at dksX11_tellMost_2 13 rfl rfl)
theorem dX11_tellMost_64 : decode cX11_tellMost 64 = .ok (.sipush 512, 3) := dk_17 2 0 (dk_at dksX11_tellMost_2 16 rfl rfl)
theorem dX11_tellMost_67 : decode cX11_tellMost 67 = .ok (.iload_n 2, 1) := dk_28 (dk_at dksX11_tellMost_2 19 rfl rfl)
theorem dX11_tellMost_68 : decode cX11_tellMost 68 = .ok (.iconst 1, 1) := dk_4 (dk_at dksX11_tellMost_2 20 rfl rfl)
theorem dX11_tellMost_69 : decode cX11_tellMost 69 = .ok (.iadd, 1) := dk_96 (dk_at dksX11_tellMost_2 21 rfl rfl)
theorem dX11_tellMost_70 : decode cX11_tellMost 70 = .ok (.imul, 1) := dk_104 (dk_at dksX11_tellMost_2 22 rfl rfl)
theorem dX11_tellMost_71 : decode cX11_tellMost 71 = .ok (.iload_n 3, 1) := dk_29 (dk_at dksX11_tellMost_2 23 rfl rfl)
theorem dX11_tellMost_72 : decode cX11_tellMost 72 = .ok (.iadd, 1) := dk_96 (dk_at dksX11_tellMost_3 0 rfl rfl)
theorem dX11_tellMost_73 : decode cX11_tellMost 73 = .ok (.iaload, 1) := dk_46 (dk_at dksX11_tellMost_3 1 rfl rfl)
theorem dX11_tellMost_74 : decode cX11_tellMost 74 = .ok (.istore 4, 2) := dk_54 4 (dk_at dksX11_tellMost_3 2 rfl rfl)
theorem dX11_tellMost_76 : decode cX11_tellMost 76 = .ok (.iconst 0, 1) := dk_3 (dk_at dksX11_tellMost_3 4 rfl rfl)
theorem dX11_tellMost_77 : decode cX11_tellMost 77 = .ok (.istore 5, 2) := dk_54 5 (dk_at dksX11_tellMost_3 5 rfl rfl)
theorem dX11_tellMost_79 : decode cX11_tellMost 79 = .ok (.iload 5, 2) := dk_21 5 (dk_at dksX11_tellMost_3 7 rfl rfl)
theorem dX11_tellMost_81 : decode cX11_tellMost 81 = .ok (.aload_n 0, 1) := dk_42 (dk_at dksX11_tellMost_3 9 rfl rfl)
theorem dX11_tellMost_82 : decode cX11_tellMost 82 = .ok (.getfield 17, 3) := dk_180 0 17 (dk_at dksX11_tellMost_3 10 rfl rfl)
theorem dX11_tellMost_85 : decode cX11_tellMost 85 = .ok (.iconst 0, 1) := dk_3 (dk_at dksX11_tellMost_3 13 rfl rfl)
theorem dX11_tellMost_86 : decode cX11_tellMost 86 = .ok (.iaload, 1) := dk_46 (dk_at dksX11_tellMost_3 14 rfl rfl)
theorem dX11_tellMost_87 : decode cX11_tellMost 87 = .ok (.if_icmp .ge 67, 3) := dk_162 0 67 (dk_at dksX11_tellMost_3 15 rfl rfl)
theorem dX11_tellMost_90 : decode cX11_tellMost 90 = .ok (.iload_n 3, 1) := dk_29 (dk_at dksX11_tellMost_3 18 rfl rfl)
theorem dX11_tellMost_91 : decode cX11_tellMost 91 = .ok (.iload 5, 2) := dk_21 5 (dk_at dksX11_tellMost_3 19 rfl rfl)
theorem dX11_tellMost_93 : decode cX11_tellMost 93 = .ok (.invokestatic 151, 3) := dk_184 0 151 (dk_at dksX11_tellMost_3 21 rfl rfl)
theorem dX11_tellMost_96 : decode cX11_tellMost 96 = .ok (.ifCond .ne 52, 3) := dk_154 0 52 (dk_at dksX11_tellMost_4 0 rfl rfl)
theorem dX11_tellMost_99 : decode cX11_tellMost 99 = .ok (.aload_n 0, 1) := dk_42 (dk_at dksX11_tellMost_4 3 rfl rfl)
theorem dX11_tellMost_100 : decode cX11_tellMost 100 = .ok (.iload_n 2, 1) := dk_28 (dk_at dksX11_tellMost_4 4 rfl rfl)
theorem dX11_tellMost_101 : decode cX11_tellMost 101 = .ok (.iload 5, 2) := dk_21 5 (dk_at dksX11_tellMost_4 5 rfl rfl)
theorem dX11_tellMost_103 : decode cX11_tellMost 103 = .ok (.invokevirtual 167, 3) := dk_182 0 167 (dk_at dksX11_tellMost_4 7 rfl rfl)
theorem dX11_tellMost_106 : decode cX11_tellMost 106 = .ok (.ifCond .eq 42, 3) := dk_153 0 42 (dk_at dksX11_tellMost_4 10 rfl rfl)
theorem dX11_tellMost_109 : decode cX11_tellMost 109 = .ok (.iconst 1, 1) := dk_4 (dk_at dksX11_tellMost_4 13 rfl rfl)
theorem dX11_tellMost_110 : decode cX11_tellMost 110 = .ok (.aload_n 0, 1) := dk_42 (dk_at dksX11_tellMost_4 14 rfl rfl)
theorem dX11_tellMost_111 : decode cX11_tellMost 111 = .ok (.getfield 54, 3) := dk_180 0 54 (dk_at dksX11_tellMost_4 15 rfl rfl)
theorem dX11_tellMost_114 : decode cX11_tellMost 114 = .ok (.sipush 512, 3) := dk_17 2 0 (dk_at dksX11_tellMost_4 18 rfl rfl)
theorem dX11_tellMost_117 : decode cX11_tellMost 117 = .ok (.iload_n 2, 1) := dk_28 (dk_at dksX11_tellMost_4 21 rfl rfl)
theorem dX11_tellMost_118 : decode cX11_tellMost 118 = .ok (.iconst 1, 1) := dk_4 (dk_at dksX11_tellMost_4 22 rfl rfl)
theorem dX11_tellMost_119 : decode cX11_tellMost 119 = .ok (.iadd, 1) := dk_96 (dk_at dksX11_tellMost_4 23 rfl rfl)
theorem dX11_tellMost_120 : decode cX11_tellMost 120 = .ok (.imul, 1) := dk_104 (dk_at dksX11_tellMost_5 0 rfl rfl)
theorem dX11_tellMost_121 : decode cX11_tellMost 121 = .ok (.iload_n 3, 1) := dk_29 (dk_at dksX11_tellMost_5 1 rfl rfl)
theorem dX11_tellMost_122 : decode cX11_tellMost 122 = .ok (.iconst 1, 1) := dk_4 (dk_at dksX11_tellMost_5 2 rfl rfl)
theorem dX11_tellMost_123 : decode cX11_tellMost 123 = .ok (.iload 5, 2) := dk_21 5 (dk_at dksX11_tellMost_5 3 rfl rfl)
theorem dX11_tellMost_125 : decode cX11_tellMost 125 = .ok (.ishl, 1) := dk_120 (dk_at dksX11_tellMost_5 5 rfl rfl)
theorem dX11_tellMost_126 : decode cX11_tellMost 126 = .ok (.ior, 1) := dk_128 (dk_at dksX11_tellMost_5 6 rfl rfl)
theorem dX11_tellMost_127 : decode cX11_tellMost 127 = .ok (.iadd, 1) := dk_96 (dk_at dksX11_tellMost_5 7 rfl rfl)
theorem dX11_tellMost_128 : decode cX11_tellMost 128 = .ok (.iaload, 1) := dk_46 (dk_at dksX11_tellMost_5 8 rfl rfl)
theorem dX11_tellMost_129 : decode cX11_tellMost 129 = .ok (.iadd, 1) := dk_96 (dk_at dksX11_tellMost_5 9 rfl rfl)
theorem dX11_tellMost_130 : decode cX11_tellMost 130 = .ok (.istore 6, 2) := dk_54 6 (dk_at dksX11_tellMost_5 10 rfl rfl)
theorem dX11_tellMost_132 : decode cX11_tellMost 132 = .ok (.iload 6, 2) := dk_21 6 (dk_at dksX11_tellMost_5 12 rfl rfl)
theorem dX11_tellMost_134 : decode cX11_tellMost 134 = .ok (.iload 4, 2) := dk_21 4 (dk_at dksX11_tellMost_5 14 rfl rfl)
theorem dX11_tellMost_136 : decode cX11_tellMost 136 = .ok (.if_icmp .le 8, 3) := dk_164 0 8 (dk_at dksX11_tellMost_5 16 rfl rfl)
theorem dX11_tellMost_139 : decode cX11_tellMost 139 = .ok (.iload 6, 2) := dk_21 6 (dk_at dksX11_tellMost_5 19 rfl rfl)
theorem dX11_tellMost_141 : decode cX11_tellMost 141 = .ok (.goto 5, 3) := dk_167 0 5 (dk_at dksX11_tellMost_5 21 rfl rfl)
theorem dX11_tellMost_144 : decode cX11_tellMost 144 = .ok (.iload 4, 2) := dk_21 4 (dk_at dksX11_tellMost_6 0 rfl rfl)
theorem dX11_tellMost_146 : decode cX11_tellMost 146 = .ok (.istore 4, 2) := dk_54 4 (dk_at dksX11_tellMost_6 2 rfl rfl)
theorem dX11_tellMost_148 : decode cX11_tellMost 148 = .ok (.iinc 5 1, 3) := dk_132 5 1 (dk_at dksX11_tellMost_6 4 rfl rfl)
theorem dX11_tellMost_151 : decode cX11_tellMost 151 = .ok (.goto (-72), 3) := dk_167 255 184 (dk_at dksX11_tellMost_6 7 rfl rfl)
theorem dX11_tellMost_154 : decode cX11_tellMost 154 = .ok (.aload_n 0, 1) := dk_42 (dk_at dksX11_tellMost_6 10 rfl rfl)
theorem dX11_tellMost_155 : decode cX11_tellMost 155 = .ok (.getfield 54, 3) := dk_180 0 54 (dk_at dksX11_tellMost_6 11 rfl rfl)
theorem dX11_tellMost_158 : decode cX11_tellMost 158 = .ok (.sipush 512, 3) := dk_17 2 0 (dk_at dksX11_tellMost_6 14 rfl rfl)
theorem dX11_tellMost_161 : decode cX11_tellMost 161 = .ok (.iload_n 2, 1) := dk_28 (dk_at dksX11_tellMost_6 17 rfl rfl)
theorem dX11_tellMost_162 : decode cX11_tellMost 162 = .ok (.imul, 1) := dk_104 (dk_at dksX11_tellMost_6 18 rfl rfl)
theorem dX11_tellMost_163 : decode cX11_tellMost 163 = .ok (.iload_n 3, 1) := dk_29 (dk_at dksX11_tellMost_6 19 rfl rfl)
theorem dX11_tellMost_164 : decode cX11_tellMost 164 = .ok (.iadd, 1) := dk_96 (dk_at dksX11_tellMost_6 20 rfl rfl)
theorem dX11_tellMost_165 : decode cX11_tellMost 165 = .ok (.iload 4, 2) := dk_21 4 (dk_at dksX11_tellMost_6 21 rfl rfl)
theorem dX11_tellMost_167 : decode cX11_tellMost 167 = .ok (.iastore, 1) := dk_79 (dk_at dksX11_tellMost_6 23 rfl rfl)
theorem dX11_tellMost_168 : decode cX11_tellMost 168 = .ok (.iinc 3 1, 3) := dk_132 3 1 (dk_at dksX11_tellMost_7 0 rfl rfl)
theorem dX11_tellMost_171 : decode cX11_tellMost 171 = .ok (.goto (-116), 3) := dk_167 255 140 (dk_at dksX11_tellMost_7 3 rfl rfl)
theorem dX11_tellMost_174 : decode cX11_tellMost 174 = .ok (.iinc 2 (-1), 3) := dk_132 2 255 (dk_at dksX11_tellMost_7 6 rfl rfl)
theorem dX11_tellMost_177 : decode cX11_tellMost 177 = .ok (.goto (-128), 3) := dk_167 255 128 (dk_at dksX11_tellMost_7 9 rfl rfl)
theorem dX11_tellMost_180 : decode cX11_tellMost 180 = .ok (.return_, 1) := dk_177 (dk_at dksX11_tellMost_7 12 rfl rfl)
abbrev cX11_canHave : ByteArray := prog_14_method_42_code
def yX11_canHave : MethodName := ⟨RX11, "canHave", "(II)Z"⟩
def dkwX11_canHave_0 : List UInt8 := [42, 28, 182, 0, 122, 42, 180, 0, 35, 27, 46, 161, 0, 7, 4, 167, 0, 4, 3, 172]
abbrev dktX11_canHave_0 : List UInt8 := dkwX11_canHave_0 ++ []
theorem dksX11_canHave_0 : cX11_canHave.data.toList.drop 0 = dktX11_canHave_0 := by decide +kernel
theorem dX11_canHave_0 : decode cX11_canHave 0 = .ok (.aload_n 0, 1) := dk_42 (dk_at dksX11_canHave_0 0 rfl rfl)
theorem dX11_canHave_1 : decode cX11_canHave 1 = .ok (.iload_n 2, 1) := dk_28 (dk_at dksX11_canHave_0 1 rfl rfl)
theorem dX11_canHave_2 : decode cX11_canHave 2 = .ok (.invokevirtual 122, 3) := dk_182 0 122 (dk_at dksX11_canHave_0 2 rfl rfl)
theorem dX11_canHave_5 : decode cX11_canHave 5 = .ok (.aload_n 0, 1) := dk_42 (dk_at dksX11_canHave_0 5 rfl rfl)
theorem dX11_canHave_6 : decode cX11_canHave 6 = .ok (.getfield 35, 3) := dk_180 0 35 (dk_at dksX11_canHave_0 6 rfl rfl)
theorem dX11_canHave_9 : decode cX11_canHave 9 = .ok (.iload_n 1, 1) := dk_27 (dk_at dksX11_canHave_0 9 rfl rfl)
theorem dX11_canHave_10 : decode cX11_canHave 10 = .ok (.iaload, 1) := dk_46 (dk_at dksX11_canHave_0 10 rfl rfl)
theorem dX11_canHave_11 : decode cX11_canHave 11 = .ok (.if_icmp .lt 7, 3) := dk_161 0 7 (dk_at dksX11_canHave_0 11 rfl rfl)
theorem dX11_canHave_14 : decode cX11_canHave 14 = .ok (.iconst 1, 1) := dk_4 (dk_at dksX11_canHave_0 14 rfl rfl)
theorem dX11_canHave_15 : decode cX11_canHave 15 = .ok (.goto 4, 3) := dk_167 0 4 (dk_at dksX11_canHave_0 15 rfl rfl)
theorem dX11_canHave_18 : decode cX11_canHave 18 = .ok (.iconst 0, 1) := dk_3 (dk_at dksX11_canHave_0 18 rfl rfl)
theorem dX11_canHave_19 : decode cX11_canHave 19 = .ok (.ireturn, 1) := dk_172 (dk_at dksX11_canHave_0 19 rfl rfl)
abbrev cX11_measures : ByteArray := prog_14_method_45_code
def yX11_measures : MethodName := ⟨RX11, "measures", "(II)I"⟩
def dkwX11_measures_2 : List UInt8 := [42, 180, 0, 116, 28, 79, 42, 89, 180, 0, 116, 4, 96, 181, 0, 116, 42, 180, 0, 116, 172]
abbrev dktX11_measures_2 : List UInt8 := dkwX11_measures_2 ++ []
def dkwX11_measures_1 : List UInt8 := [180, 0, 116, 7, 160, 0, 6, 16, 253, 172, 42, 180, 0, 57, 42, 180, 0, 116, 27, 79, 42, 180, 0, 60]
abbrev dktX11_measures_1 : List UInt8 := dkwX11_measures_1 ++ dktX11_measures_2
def dkwX11_measures_0 : List UInt8 := [27, 4, 16, 10, 184, 0, 63, 153, 0, 12, 28, 3, 4, 184, 0, 63, 154, 0, 5, 2, 172, 42]
abbrev dktX11_measures_0 : List UInt8 := dkwX11_measures_0 ++ dktX11_measures_1
theorem dksX11_measures_0 : cX11_measures.data.toList.drop 0 = dktX11_measures_0 := by decide +kernel
theorem dksX11_measures_1 : cX11_measures.data.toList.drop 22 = dktX11_measures_1 := dk_seg dksX11_measures_0 22 rfl rfl
theorem dksX11_measures_2 : cX11_measures.data.toList.drop 46 = dktX11_measures_2 := dk_seg dksX11_measures_1 24 rfl rfl
theorem dX11_measures_0 : decode cX11_measures 0 = .ok (.iload_n 1, 1) := dk_27 (dk_at dksX11_measures_0 0 rfl rfl)
theorem dX11_measures_1 : decode cX11_measures 1 = .ok (.iconst 1, 1) := dk_4 (dk_at dksX11_measures_0 1 rfl rfl)
theorem dX11_measures_2 : decode cX11_measures 2 = .ok (.bipush 10, 2) := dk_16 10 (dk_at dksX11_measures_0 2 rfl rfl)
theorem dX11_measures_4 : decode cX11_measures 4 = .ok (.invokestatic 63, 3) := dk_184 0 63 (dk_at dksX11_measures_0 4 rfl rfl)
theorem dX11_measures_7 : decode cX11_measures 7 = .ok (.ifCond .eq 12, 3) := dk_153 0 12 (dk_at dksX11_measures_0 7 rfl rfl)
theorem dX11_measures_10 : decode cX11_measures 10 = .ok (.iload_n 2, 1) := dk_28 (dk_at dksX11_measures_0 10 rfl rfl)
theorem dX11_measures_11 : decode cX11_measures 11 = .ok (.iconst 0, 1) := dk_3 (dk_at dksX11_measures_0 11 rfl rfl)
theorem dX11_measures_12 : decode cX11_measures 12 = .ok (.iconst 1, 1) := dk_4 (dk_at dksX11_measures_0 12 rfl rfl)
theorem dX11_measures_13 : decode cX11_measures 13 = .ok (.invokestatic 63, 3) := dk_184 0 63 (dk_at dksX11_measures_0 13 rfl rfl)
theorem dX11_measures_16 : decode cX11_measures 16 = .ok (.ifCond .ne 5, 3) := dk_154 0 5 (dk_at dksX11_measures_0 16 rfl rfl)
theorem dX11_measures_19 : decode cX11_measures 19 = .ok (.iconst (-1), 1) := dk_2 (dk_at dksX11_measures_0 19 rfl rfl)
theorem dX11_measures_20 : decode cX11_measures 20 = .ok (.ireturn, 1) := dk_172 (dk_at dksX11_measures_0 20 rfl rfl)
theorem dX11_measures_21 : decode cX11_measures 21 = .ok (.aload_n 0, 1) := dk_42 (dk_at dksX11_measures_0 21 rfl rfl)
theorem dX11_measures_22 : decode cX11_measures 22 = .ok (.getfield 116, 3) := dk_180 0 116 (dk_at dksX11_measures_1 0 rfl rfl)
theorem dX11_measures_25 : decode cX11_measures 25 = .ok (.iconst 4, 1) := dk_7 (dk_at dksX11_measures_1 3 rfl rfl)
theorem dX11_measures_26 : decode cX11_measures 26 = .ok (.if_icmp .ne 6, 3) := dk_160 0 6 (dk_at dksX11_measures_1 4 rfl rfl)
theorem dX11_measures_29 : decode cX11_measures 29 = .ok (.bipush (-3), 2) := dk_16 253 (dk_at dksX11_measures_1 7 rfl rfl)
theorem dX11_measures_31 : decode cX11_measures 31 = .ok (.ireturn, 1) := dk_172 (dk_at dksX11_measures_1 9 rfl rfl)
theorem dX11_measures_32 : decode cX11_measures 32 = .ok (.aload_n 0, 1) := dk_42 (dk_at dksX11_measures_1 10 rfl rfl)
theorem dX11_measures_33 : decode cX11_measures 33 = .ok (.getfield 57, 3) := dk_180 0 57 (dk_at dksX11_measures_1 11 rfl rfl)
theorem dX11_measures_36 : decode cX11_measures 36 = .ok (.aload_n 0, 1) := dk_42 (dk_at dksX11_measures_1 14 rfl rfl)
theorem dX11_measures_37 : decode cX11_measures 37 = .ok (.getfield 116, 3) := dk_180 0 116 (dk_at dksX11_measures_1 15 rfl rfl)
theorem dX11_measures_40 : decode cX11_measures 40 = .ok (.iload_n 1, 1) := dk_27 (dk_at dksX11_measures_1 18 rfl rfl)
theorem dX11_measures_41 : decode cX11_measures 41 = .ok (.iastore, 1) := dk_79 (dk_at dksX11_measures_1 19 rfl rfl)
theorem dX11_measures_42 : decode cX11_measures 42 = .ok (.aload_n 0, 1) := dk_42 (dk_at dksX11_measures_1 20 rfl rfl)
theorem dX11_measures_43 : decode cX11_measures 43 = .ok (.getfield 60, 3) := dk_180 0 60 (dk_at dksX11_measures_1 21 rfl rfl)
theorem dX11_measures_46 : decode cX11_measures 46 = .ok (.aload_n 0, 1) := dk_42 (dk_at dksX11_measures_2 0 rfl rfl)
theorem dX11_measures_47 : decode cX11_measures 47 = .ok (.getfield 116, 3) := dk_180 0 116 (dk_at dksX11_measures_2 1 rfl rfl)
theorem dX11_measures_50 : decode cX11_measures 50 = .ok (.iload_n 2, 1) := dk_28 (dk_at dksX11_measures_2 4 rfl rfl)
theorem dX11_measures_51 : decode cX11_measures 51 = .ok (.iastore, 1) := dk_79 (dk_at dksX11_measures_2 5 rfl rfl)
theorem dX11_measures_52 : decode cX11_measures 52 = .ok (.aload_n 0, 1) := dk_42 (dk_at dksX11_measures_2 6 rfl rfl)
theorem dX11_measures_53 : decode cX11_measures 53 = .ok (.dup, 1) := dk_89 (dk_at dksX11_measures_2 7 rfl rfl)
theorem dX11_measures_54 : decode cX11_measures 54 = .ok (.getfield 116, 3) := dk_180 0 116 (dk_at dksX11_measures_2 8 rfl rfl)
theorem dX11_measures_57 : decode cX11_measures 57 = .ok (.iconst 1, 1) := dk_4 (dk_at dksX11_measures_2 11 rfl rfl)
theorem dX11_measures_58 : decode cX11_measures 58 = .ok (.iadd, 1) := dk_96 (dk_at dksX11_measures_2 12 rfl rfl)
theorem dX11_measures_59 : decode cX11_measures 59 = .ok (.putfield 116, 3) := dk_181 0 116 (dk_at dksX11_measures_2 13 rfl rfl)
theorem dX11_measures_62 : decode cX11_measures 62 = .ok (.aload_n 0, 1) := dk_42 (dk_at dksX11_measures_2 16 rfl rfl)
theorem dX11_measures_63 : decode cX11_measures 63 = .ok (.getfield 116, 3) := dk_180 0 116 (dk_at dksX11_measures_2 17 rfl rfl)
theorem dX11_measures_66 : decode cX11_measures 66 = .ok (.ireturn, 1) := dk_172 (dk_at dksX11_measures_2 20 rfl rfl)
abbrev cX11_forget : ByteArray := prog_14_method_46_code
def yX11_forget : MethodName := ⟨RX11, "forget", "()I"⟩
def dkwX11_forget_0 : List UInt8 := [42, 180, 0, 116, 60, 42, 3, 181, 0, 116, 27, 172]
abbrev dktX11_forget_0 : List UInt8 := dkwX11_forget_0 ++ []
theorem dksX11_forget_0 : cX11_forget.data.toList.drop 0 = dktX11_forget_0 := by decide +kernel
theorem dX11_forget_0 : decode cX11_forget 0 = .ok (.aload_n 0, 1) := dk_42 (dk_at dksX11_forget_0 0 rfl rfl)
theorem dX11_forget_1 : decode cX11_forget 1 = .ok (.getfield 116, 3) := dk_180 0 116 (dk_at dksX11_forget_0 1 rfl rfl)
theorem dX11_forget_4 : decode cX11_forget 4 = .ok (.istore_n 1, 1) := dk_60 (dk_at dksX11_forget_0 4 rfl rfl)
theorem dX11_forget_5 : decode cX11_forget 5 = .ok (.aload_n 0, 1) := dk_42 (dk_at dksX11_forget_0 5 rfl rfl)
theorem dX11_forget_6 : decode cX11_forget 6 = .ok (.iconst 0, 1) := dk_3 (dk_at dksX11_forget_0 6 rfl rfl)
theorem dX11_forget_7 : decode cX11_forget 7 = .ok (.putfield 116, 3) := dk_181 0 116 (dk_at dksX11_forget_0 7 rfl rfl)
theorem dX11_forget_10 : decode cX11_forget 10 = .ok (.iload_n 1, 1) := dk_27 (dk_at dksX11_forget_0 10 rfl rfl)
theorem dX11_forget_11 : decode cX11_forget 11 = .ok (.ireturn, 1) := dk_172 (dk_at dksX11_forget_0 11 rfl rfl)
abbrev cX11_deeds : ByteArray := prog_14_method_49_code
def yX11_deeds : MethodName := ⟨RX11, "deeds", "(I)I"⟩
def dkwX11_deeds_2 : List UInt8 := [27, 154, 0, 7, 28, 167, 0, 4, 29, 172]
abbrev dktX11_deeds_2 : List UInt8 := dkwX11_deeds_2 ++ []
def dkwX11_deeds_1 : List UInt8 := [155, 0, 24, 42, 21, 4, 182, 0, 176, 153, 0, 9, 132, 2, 1, 21, 4, 62, 132, 4, 255, 167, 255, 233]
abbrev dktX11_deeds_1 : List UInt8 := dkwX11_deeds_1 ++ dktX11_deeds_2
def dkwX11_deeds_0 : List UInt8 := [27, 3, 4, 184, 0, 63, 154, 0, 5, 2, 172, 3, 61, 16, 247, 62, 16, 99, 54, 4, 21, 4]
abbrev dktX11_deeds_0 : List UInt8 := dkwX11_deeds_0 ++ dktX11_deeds_1
theorem dksX11_deeds_0 : cX11_deeds.data.toList.drop 0 = dktX11_deeds_0 := by decide +kernel
theorem dksX11_deeds_1 : cX11_deeds.data.toList.drop 22 = dktX11_deeds_1 := dk_seg dksX11_deeds_0 22 rfl rfl
theorem dksX11_deeds_2 : cX11_deeds.data.toList.drop 46 = dktX11_deeds_2 := dk_seg dksX11_deeds_1 24 rfl rfl
theorem dX11_deeds_0 : decode cX11_deeds 0 = .ok (.iload_n 1, 1) := dk_27 (dk_at dksX11_deeds_0 0 rfl rfl)
theorem dX11_deeds_1 : decode cX11_deeds 1 = .ok (.iconst 0, 1) := dk_3 (dk_at dksX11_deeds_0 1 rfl rfl)
theorem dX11_deeds_2 : decode cX11_deeds 2 = .ok (.iconst 1, 1) := dk_4 (dk_at dksX11_deeds_0 2 rfl rfl)
theorem dX11_deeds_3 : decode cX11_deeds 3 = .ok (.invokestatic 63, 3) := dk_184 0 63 (dk_at dksX11_deeds_0 3 rfl rfl)
theorem dX11_deeds_6 : decode cX11_deeds 6 = .ok (.ifCond .ne 5, 3) := dk_154 0 5 (dk_at dksX11_deeds_0 6 rfl rfl)
theorem dX11_deeds_9 : decode cX11_deeds 9 = .ok (.iconst (-1), 1) := dk_2 (dk_at dksX11_deeds_0 9 rfl rfl)
theorem dX11_deeds_10 : decode cX11_deeds 10 = .ok (.ireturn, 1) := dk_172 (dk_at dksX11_deeds_0 10 rfl rfl)
theorem dX11_deeds_11 : decode cX11_deeds 11 = .ok (.iconst 0, 1) := dk_3 (dk_at dksX11_deeds_0 11 rfl rfl)
theorem dX11_deeds_12 : decode cX11_deeds 12 = .ok (.istore_n 2, 1) := dk_61 (dk_at dksX11_deeds_0 12 rfl rfl)
theorem dX11_deeds_13 : decode cX11_deeds 13 = .ok (.bipush (-9), 2) := dk_16 247 (dk_at dksX11_deeds_0 13 rfl rfl)
theorem dX11_deeds_15 : decode cX11_deeds 15 = .ok (.istore_n 3, 1) := dk_62 (dk_at dksX11_deeds_0 15 rfl rfl)
theorem dX11_deeds_16 : decode cX11_deeds 16 = .ok (.bipush 99, 2) := dk_16 99 (dk_at dksX11_deeds_0 16 rfl rfl)
theorem dX11_deeds_18 : decode cX11_deeds 18 = .ok (.istore 4, 2) := dk_54 4 (dk_at dksX11_deeds_0 18 rfl rfl)
theorem dX11_deeds_20 : decode cX11_deeds 20 = .ok (.iload 4, 2) := dk_21 4 (dk_at dksX11_deeds_0 20 rfl rfl)
theorem dX11_deeds_22 : decode cX11_deeds 22 = .ok (.ifCond .lt 24, 3) := dk_155 0 24 (dk_at dksX11_deeds_1 0 rfl rfl)
theorem dX11_deeds_25 : decode cX11_deeds 25 = .ok (.aload_n 0, 1) := dk_42 (dk_at dksX11_deeds_1 3 rfl rfl)
theorem dX11_deeds_26 : decode cX11_deeds 26 = .ok (.iload 4, 2) := dk_21 4 (dk_at dksX11_deeds_1 4 rfl rfl)
theorem dX11_deeds_28 : decode cX11_deeds 28 = .ok (.invokevirtual 176, 3) := dk_182 0 176 (dk_at dksX11_deeds_1 6 rfl rfl)
theorem dX11_deeds_31 : decode cX11_deeds 31 = .ok (.ifCond .eq 9, 3) := dk_153 0 9 (dk_at dksX11_deeds_1 9 rfl rfl)
theorem dX11_deeds_34 : decode cX11_deeds 34 = .ok (.iinc 2 1, 3) := dk_132 2 1 (dk_at dksX11_deeds_1 12 rfl rfl)
theorem dX11_deeds_37 : decode cX11_deeds 37 = .ok (.iload 4, 2) := dk_21 4 (dk_at dksX11_deeds_1 15 rfl rfl)
theorem dX11_deeds_39 : decode cX11_deeds 39 = .ok (.istore_n 3, 1) := dk_62 (dk_at dksX11_deeds_1 17 rfl rfl)
theorem dX11_deeds_40 : decode cX11_deeds 40 = .ok (.iinc 4 (-1), 3) := dk_132 4 255 (dk_at dksX11_deeds_1 18 rfl rfl)
theorem dX11_deeds_43 : decode cX11_deeds 43 = .ok (.goto (-23), 3) := dk_167 255 233 (dk_at dksX11_deeds_1 21 rfl rfl)
theorem dX11_deeds_46 : decode cX11_deeds 46 = .ok (.iload_n 1, 1) := dk_27 (dk_at dksX11_deeds_2 0 rfl rfl)
theorem dX11_deeds_47 : decode cX11_deeds 47 = .ok (.ifCond .ne 7, 3) := dk_154 0 7 (dk_at dksX11_deeds_2 1 rfl rfl)
theorem dX11_deeds_50 : decode cX11_deeds 50 = .ok (.iload_n 2, 1) := dk_28 (dk_at dksX11_deeds_2 4 rfl rfl)
theorem dX11_deeds_51 : decode cX11_deeds 51 = .ok (.goto 4, 3) := dk_167 0 4 (dk_at dksX11_deeds_2 5 rfl rfl)
theorem dX11_deeds_54 : decode cX11_deeds 54 = .ok (.iload_n 3, 1) := dk_29 (dk_at dksX11_deeds_2 8 rfl rfl)
theorem dX11_deeds_55 : decode cX11_deeds 55 = .ok (.ireturn, 1) := dk_172 (dk_at dksX11_deeds_2 9 rfl rfl)
abbrev cX11_isSo : ByteArray := prog_14_method_48_code
def yX11_isSo : MethodName := ⟨RX11, "isSo", "(I)Z"⟩
def dkwX11_isSo_2 : List UInt8 := [28, 172]
abbrev dktX11_isSo_2 : List UInt8 := dkwX11_isSo_2 ++ []
def dkwX11_isSo_1 : List UInt8 := [184, 0, 173, 42, 180, 0, 57, 29, 46, 160, 0, 7, 4, 167, 0, 4, 3, 61, 132, 3, 1, 167, 255, 216]
abbrev dktX11_isSo_1 : List UInt8 := dkwX11_isSo_1 ++ dktX11_isSo_2
def dkwX11_isSo_0 : List UInt8 := [4, 61, 3, 62, 29, 42, 180, 0, 116, 162, 0, 38, 28, 153, 0, 26, 27, 42, 180, 0, 60, 29, 46]
abbrev dktX11_isSo_0 : List UInt8 := dkwX11_isSo_0 ++ dktX11_isSo_1
theorem dksX11_isSo_0 : cX11_isSo.data.toList.drop 0 = dktX11_isSo_0 := by decide +kernel
theorem dksX11_isSo_1 : cX11_isSo.data.toList.drop 23 = dktX11_isSo_1 := dk_seg dksX11_isSo_0 23 rfl rfl
theorem dksX11_isSo_2 : cX11_isSo.data.toList.drop 47 = dktX11_isSo_2 := dk_seg dksX11_isSo_1 24 rfl rfl
theorem dX11_isSo_0 : decode cX11_isSo 0 = .ok (.iconst 1, 1) := dk_4 (dk_at dksX11_isSo_0 0 rfl rfl)
theorem dX11_isSo_1 : decode cX11_isSo 1 = .ok (.istore_n 2, 1) := dk_61 (dk_at dksX11_isSo_0 1 rfl rfl)
theorem dX11_isSo_2 : decode cX11_isSo 2 = .ok (.iconst 0, 1) := dk_3 (dk_at dksX11_isSo_0 2 rfl rfl)
theorem dX11_isSo_3 : decode cX11_isSo 3 = .ok (.istore_n 3, 1) := dk_62 (dk_at dksX11_isSo_0 3 rfl rfl)
theorem dX11_isSo_4 : decode cX11_isSo 4 = .ok (.iload_n 3, 1) := dk_29 (dk_at dksX11_isSo_0 4 rfl rfl)
theorem dX11_isSo_5 : decode cX11_isSo 5 = .ok (.aload_n 0, 1) := dk_42 (dk_at dksX11_isSo_0 5 rfl rfl)
theorem dX11_isSo_6 : decode cX11_isSo 6 = .ok (.getfield 116, 3) := dk_180 0 116 (dk_at dksX11_isSo_0 6 rfl rfl)
theorem dX11_isSo_9 : decode cX11_isSo 9 = .ok (.if_icmp .ge 38, 3) := dk_162 0 38 (dk_at dksX11_isSo_0 9 rfl rfl)
theorem dX11_isSo_12 : decode cX11_isSo 12 = .ok (.iload_n 2, 1) := dk_28 (dk_at dksX11_isSo_0 12 rfl rfl)
theorem dX11_isSo_13 : decode cX11_isSo 13 = .ok (.ifCond .eq 26, 3) := dk_153 0 26 (dk_at dksX11_isSo_0 13 rfl rfl)
theorem dX11_isSo_16 : decode cX11_isSo 16 = .ok (.iload_n 1, 1) := dk_27 (dk_at dksX11_isSo_0 16 rfl rfl)
theorem dX11_isSo_17 : decode cX11_isSo 17 = .ok (.aload_n 0, 1) := dk_42 (dk_at dksX11_isSo_0 17 rfl rfl)
theorem dX11_isSo_18 : decode cX11_isSo 18 = .ok (.getfield 60, 3) := dk_180 0 60 (dk_at dksX11_isSo_0 18 rfl rfl)
theorem dX11_isSo_21 : decode cX11_isSo 21 = .ok (.iload_n 3, 1) := dk_29 (dk_at dksX11_isSo_0 21 rfl rfl)
theorem dX11_isSo_22 : decode cX11_isSo 22 = .ok (.iaload, 1) := dk_46 (dk_at dksX11_isSo_0 22 rfl rfl)
theorem dX11_isSo_23 : decode cX11_isSo 23 = .ok (.invokestatic 173, 3) := dk_184 0 173 (dk_at dksX11_isSo_1 0 rfl rfl)
theorem dX11_isSo_26 : decode cX11_isSo 26 = .ok (.aload_n 0, 1) := dk_42 (dk_at dksX11_isSo_1 3 rfl rfl)
theorem dX11_isSo_27 : decode cX11_isSo 27 = .ok (.getfield 57, 3) := dk_180 0 57 (dk_at dksX11_isSo_1 4 rfl rfl)
theorem dX11_isSo_30 : decode cX11_isSo 30 = .ok (.iload_n 3, 1) := dk_29 (dk_at dksX11_isSo_1 7 rfl rfl)
theorem dX11_isSo_31 : decode cX11_isSo 31 = .ok (.iaload, 1) := dk_46 (dk_at dksX11_isSo_1 8 rfl rfl)
theorem dX11_isSo_32 : decode cX11_isSo 32 = .ok (.if_icmp .ne 7, 3) := dk_160 0 7 (dk_at dksX11_isSo_1 9 rfl rfl)
theorem dX11_isSo_35 : decode cX11_isSo 35 = .ok (.iconst 1, 1) := dk_4 (dk_at dksX11_isSo_1 12 rfl rfl)
theorem dX11_isSo_36 : decode cX11_isSo 36 = .ok (.goto 4, 3) := dk_167 0 4 (dk_at dksX11_isSo_1 13 rfl rfl)
theorem dX11_isSo_39 : decode cX11_isSo 39 = .ok (.iconst 0, 1) := dk_3 (dk_at dksX11_isSo_1 16 rfl rfl)
theorem dX11_isSo_40 : decode cX11_isSo 40 = .ok (.istore_n 2, 1) := dk_61 (dk_at dksX11_isSo_1 17 rfl rfl)
theorem dX11_isSo_41 : decode cX11_isSo 41 = .ok (.iinc 3 1, 3) := dk_132 3 1 (dk_at dksX11_isSo_1 18 rfl rfl)
theorem dX11_isSo_44 : decode cX11_isSo 44 = .ok (.goto (-40), 3) := dk_167 255 216 (dk_at dksX11_isSo_1 21 rfl rfl)
theorem dX11_isSo_47 : decode cX11_isSo 47 = .ok (.iload_n 2, 1) := dk_28 (dk_at dksX11_isSo_2 0 rfl rfl)
theorem dX11_isSo_48 : decode cX11_isSo 48 = .ok (.ireturn, 1) := dk_172 (dk_at dksX11_isSo_2 1 rfl rfl)
abbrev cX11_widthBy : ByteArray := prog_14_method_47_code
def yX11_widthBy : MethodName := ⟨RX11, "widthBy", "(II)I"⟩
def dkwX11_widthBy_1 : List UInt8 := [164, 0, 7, 28, 167, 0, 4, 29, 96, 172]
abbrev dktX11_widthBy_1 : List UInt8 := dkwX11_widthBy_1 ++ []
def dkwX11_widthBy_0 : List UInt8 := [26, 16, 10, 108, 61, 27, 4, 160, 0, 7, 3, 167, 0, 7, 26, 16, 10, 112, 62, 4, 28, 29]
abbrev dktX11_widthBy_0 : List UInt8 := dkwX11_widthBy_0 ++ dktX11_widthBy_1
theorem dksX11_widthBy_0 : cX11_widthBy.data.toList.drop 0 = dktX11_widthBy_0 := by decide +kernel
theorem dksX11_widthBy_1 : cX11_widthBy.data.toList.drop 22 = dktX11_widthBy_1 := dk_seg dksX11_widthBy_0 22 rfl rfl
theorem dX11_widthBy_0 : decode cX11_widthBy 0 = .ok (.iload_n 0, 1) := dk_26 (dk_at dksX11_widthBy_0 0 rfl rfl)
theorem dX11_widthBy_1 : decode cX11_widthBy 1 = .ok (.bipush 10, 2) := dk_16 10 (dk_at dksX11_widthBy_0 1 rfl rfl)
theorem dX11_widthBy_3 : decode cX11_widthBy 3 = .ok (.idiv, 1) := dk_108 (dk_at dksX11_widthBy_0 3 rfl rfl)
theorem dX11_widthBy_4 : decode cX11_widthBy 4 = .ok (.istore_n 2, 1) := dk_61 (dk_at dksX11_widthBy_0 4 rfl rfl)
theorem dX11_widthBy_5 : decode cX11_widthBy 5 = .ok (.iload_n 1, 1) := dk_27 (dk_at dksX11_widthBy_0 5 rfl rfl)
theorem dX11_widthBy_6 : decode cX11_widthBy 6 = .ok (.iconst 1, 1) := dk_4 (dk_at dksX11_widthBy_0 6 rfl rfl)
theorem dX11_widthBy_7 : decode cX11_widthBy 7 = .ok (.if_icmp .ne 7, 3) := dk_160 0 7 (dk_at dksX11_widthBy_0 7 rfl rfl)
theorem dX11_widthBy_10 : decode cX11_widthBy 10 = .ok (.iconst 0, 1) := dk_3 (dk_at dksX11_widthBy_0 10 rfl rfl)
theorem dX11_widthBy_11 : decode cX11_widthBy 11 = .ok (.goto 7, 3) := dk_167 0 7 (dk_at dksX11_widthBy_0 11 rfl rfl)
theorem dX11_widthBy_14 : decode cX11_widthBy 14 = .ok (.iload_n 0, 1) := dk_26 (dk_at dksX11_widthBy_0 14 rfl rfl)
theorem dX11_widthBy_15 : decode cX11_widthBy 15 = .ok (.bipush 10, 2) := dk_16 10 (dk_at dksX11_widthBy_0 15 rfl rfl)
theorem dX11_widthBy_17 : decode cX11_widthBy 17 = .ok (.irem, 1) := dk_112 (dk_at dksX11_widthBy_0 17 rfl rfl)
theorem dX11_widthBy_18 : decode cX11_widthBy 18 = .ok (.istore_n 3, 1) := dk_62 (dk_at dksX11_widthBy_0 18 rfl rfl)
theorem dX11_widthBy_19 : decode cX11_widthBy 19 = .ok (.iconst 1, 1) := dk_4 (dk_at dksX11_widthBy_0 19 rfl rfl)
theorem dX11_widthBy_20 : decode cX11_widthBy 20 = .ok (.iload_n 2, 1) := dk_28 (dk_at dksX11_widthBy_0 20 rfl rfl)
theorem dX11_widthBy_21 : decode cX11_widthBy 21 = .ok (.iload_n 3, 1) := dk_29 (dk_at dksX11_widthBy_0 21 rfl rfl)
theorem dX11_widthBy_22 : decode cX11_widthBy 22 = .ok (.if_icmp .le 7, 3) := dk_164 0 7 (dk_at dksX11_widthBy_1 0 rfl rfl)
theorem dX11_widthBy_25 : decode cX11_widthBy 25 = .ok (.iload_n 2, 1) := dk_28 (dk_at dksX11_widthBy_1 3 rfl rfl)
theorem dX11_widthBy_26 : decode cX11_widthBy 26 = .ok (.goto 4, 3) := dk_167 0 4 (dk_at dksX11_widthBy_1 4 rfl rfl)
theorem dX11_widthBy_29 : decode cX11_widthBy 29 = .ok (.iload_n 3, 1) := dk_29 (dk_at dksX11_widthBy_1 7 rfl rfl)
theorem dX11_widthBy_30 : decode cX11_widthBy 30 = .ok (.iadd, 1) := dk_96 (dk_at dksX11_widthBy_1 8 rfl rfl)
theorem dX11_widthBy_31 : decode cX11_widthBy 31 = .ok (.ireturn, 1) := dk_172 (dk_at dksX11_widthBy_1 9 rfl rfl)
abbrev cX11_when : ByteArray := prog_14_method_51_code
def yX11_when : MethodName := ⟨RX11, "when", "()I"⟩
def dkwX11_when_1 : List UInt8 := [4, 167, 0, 4, 3, 172]
abbrev dktX11_when_1 : List UInt8 := dkwX11_when_1 ++ []
def dkwX11_when_0 : List UInt8 := [42, 3, 182, 0, 179, 60, 27, 154, 0, 8, 16, 247, 167, 0, 17, 42, 4, 182, 0, 179, 27, 162, 0, 7]
abbrev dktX11_when_0 : List UInt8 := dkwX11_when_0 ++ dktX11_when_1
theorem dksX11_when_0 : cX11_when.data.toList.drop 0 = dktX11_when_0 := by decide +kernel
theorem dksX11_when_1 : cX11_when.data.toList.drop 24 = dktX11_when_1 := dk_seg dksX11_when_0 24 rfl rfl
theorem dX11_when_0 : decode cX11_when 0 = .ok (.aload_n 0, 1) := dk_42 (dk_at dksX11_when_0 0 rfl rfl)
theorem dX11_when_1 : decode cX11_when 1 = .ok (.iconst 0, 1) := dk_3 (dk_at dksX11_when_0 1 rfl rfl)
theorem dX11_when_2 : decode cX11_when 2 = .ok (.invokevirtual 179, 3) := dk_182 0 179 (dk_at dksX11_when_0 2 rfl rfl)
theorem dX11_when_5 : decode cX11_when 5 = .ok (.istore_n 1, 1) := dk_60 (dk_at dksX11_when_0 5 rfl rfl)
theorem dX11_when_6 : decode cX11_when 6 = .ok (.iload_n 1, 1) := dk_27 (dk_at dksX11_when_0 6 rfl rfl)
theorem dX11_when_7 : decode cX11_when 7 = .ok (.ifCond .ne 8, 3) := dk_154 0 8 (dk_at dksX11_when_0 7 rfl rfl)
theorem dX11_when_10 : decode cX11_when 10 = .ok (.bipush (-9), 2) := dk_16 247 (dk_at dksX11_when_0 10 rfl rfl)
theorem dX11_when_12 : decode cX11_when 12 = .ok (.goto 17, 3) := dk_167 0 17 (dk_at dksX11_when_0 12 rfl rfl)
theorem dX11_when_15 : decode cX11_when 15 = .ok (.aload_n 0, 1) := dk_42 (dk_at dksX11_when_0 15 rfl rfl)
theorem dX11_when_16 : decode cX11_when 16 = .ok (.iconst 1, 1) := dk_4 (dk_at dksX11_when_0 16 rfl rfl)
theorem dX11_when_17 : decode cX11_when 17 = .ok (.invokevirtual 179, 3) := dk_182 0 179 (dk_at dksX11_when_0 17 rfl rfl)
theorem dX11_when_20 : decode cX11_when 20 = .ok (.iload_n 1, 1) := dk_27 (dk_at dksX11_when_0 20 rfl rfl)
theorem dX11_when_21 : decode cX11_when 21 = .ok (.if_icmp .ge 7, 3) := dk_162 0 7 (dk_at dksX11_when_0 21 rfl rfl)
theorem dX11_when_24 : decode cX11_when 24 = .ok (.iconst 1, 1) := dk_4 (dk_at dksX11_when_1 0 rfl rfl)
theorem dX11_when_25 : decode cX11_when 25 = .ok (.goto 4, 3) := dk_167 0 4 (dk_at dksX11_when_1 1 rfl rfl)
theorem dX11_when_28 : decode cX11_when 28 = .ok (.iconst 0, 1) := dk_3 (dk_at dksX11_when_1 4 rfl rfl)
theorem dX11_when_29 : decode cX11_when 29 = .ok (.ireturn, 1) := dk_172 (dk_at dksX11_when_1 5 rfl rfl)
abbrev cX11_greatest : ByteArray := prog_14_method_50_code
def yX11_greatest : MethodName := ⟨RX11, "greatest", "(I)I"⟩
def dkwX11_greatest_3 : List UInt8 := [28, 61, 132, 3, 1, 167, 255, 186, 28, 172]
abbrev dktX11_greatest_3 : List UInt8 := dkwX11_greatest_3 ++ []
def dkwX11_greatest_2 : List UInt8 := [167, 0, 4, 3, 96, 54, 4, 132, 5, 1, 167, 255, 217, 21, 4, 28, 164, 0, 8, 21, 4, 167, 0, 4]
abbrev dktX11_greatest_2 : List UInt8 := dkwX11_greatest_2 ++ dktX11_greatest_3
def dkwX11_greatest_1 : List UInt8 := [21, 4, 42, 21, 5, 182, 0, 176, 153, 0, 17, 21, 5, 27, 184, 0, 173, 29, 160, 0, 7, 4]
abbrev dktX11_greatest_1 : List UInt8 := dkwX11_greatest_1 ++ dktX11_greatest_2
def dkwX11_greatest_0 : List UInt8 := [3, 61, 4, 62, 29, 16, 10, 163, 0, 70, 3, 54, 4, 3, 54, 5, 21, 5, 16, 100, 162, 0, 38]
abbrev dktX11_greatest_0 : List UInt8 := dkwX11_greatest_0 ++ dktX11_greatest_1
theorem dksX11_greatest_0 : cX11_greatest.data.toList.drop 0 = dktX11_greatest_0 := by decide +kernel
theorem dksX11_greatest_1 : cX11_greatest.data.toList.drop 23 = dktX11_greatest_1 := dk_seg dksX11_greatest_0 23 rfl rfl
theorem dksX11_greatest_2 : cX11_greatest.data.toList.drop 45 = dktX11_greatest_2 := dk_seg dksX11_greatest_1 22 rfl rfl
theorem dksX11_greatest_3 : cX11_greatest.data.toList.drop 69 = dktX11_greatest_3 := dk_seg dksX11_greatest_2 24 rfl rfl
theorem dX11_greatest_0 : decode cX11_greatest 0 = .ok (.iconst 0, 1) := dk_3 (dk_at dksX11_greatest_0 0 rfl rfl)
theorem dX11_greatest_1 : decode cX11_greatest 1 = .ok (.istore_n 2, 1) := dk_61 (dk_at dksX11_greatest_0 1 rfl rfl)
theorem dX11_greatest_2 : decode cX11_greatest 2 = .ok (.iconst 1, 1) := dk_4 (dk_at dksX11_greatest_0 2 rfl rfl)
theorem dX11_greatest_3 : decode cX11_greatest 3 = .ok (.istore_n 3, 1) := dk_62 (dk_at dksX11_greatest_0 3 rfl rfl)
theorem dX11_greatest_4 : decode cX11_greatest 4 = .ok (.iload_n 3, 1) := dk_29 (dk_at dksX11_greatest_0 4 rfl rfl)
theorem dX11_greatest_5 : decode cX11_greatest 5 = .ok (.bipush 10, 2) := dk_16 10 (dk_at dksX11_greatest_0 5 rfl rfl)
theorem dX11_greatest_7 : decode cX11_greatest 7 = .ok (.if_icmp .gt 70, 3) := dk_163 0 70 (dk_at dksX11_greatest_0 7 rfl rfl)
theorem dX11_greatest_10 : decode cX11_greatest 10 = .ok (.iconst 0, 1) := dk_3 (dk_at dksX11_greatest_0 10 rfl rfl)
theorem dX11_greatest_11 : decode cX11_greatest 11 = .ok (.istore 4, 2) := dk_54 4 (dk_at dksX11_greatest_0 11 rfl rfl)
theorem dX11_greatest_13 : decode cX11_greatest 13 = .ok (.iconst 0, 1) := dk_3 (dk_at dksX11_greatest_0 13 rfl rfl)
theorem dX11_greatest_14 : decode cX11_greatest 14 = .ok (.istore 5, 2) := dk_54 5 (dk_at dksX11_greatest_0 14 rfl rfl)
theorem dX11_greatest_16 : decode cX11_greatest 16 = .ok (.iload 5, 2) := dk_21 5 (dk_at dksX11_greatest_0 16 rfl rfl)
theorem dX11_greatest_18 : decode cX11_greatest 18 = .ok (.bipush 100, 2) := dk_16 100 (dk_at dksX11_greatest_0 18 rfl rfl)
theorem dX11_greatest_20 : decode cX11_greatest 20 = .ok (.if_icmp .ge 38, 3) := dk_162 0 38 (dk_at dksX11_greatest_0 20 rfl rfl)
theorem dX11_greatest_23 : decode cX11_greatest 23 = .ok (.iload 4, 2) := dk_21 4 (dk_at dksX11_greatest_1 0 rfl rfl)
theorem dX11_greatest_25 : decode cX11_greatest 25 = .ok (.aload_n 0, 1) := dk_42 (dk_at dksX11_greatest_1 2 rfl rfl)
theorem dX11_greatest_26 : decode cX11_greatest 26 = .ok (.iload 5, 2) := dk_21 5 (dk_at dksX11_greatest_1 3 rfl rfl)
theorem dX11_greatest_28 : decode cX11_greatest 28 = .ok (.invokevirtual 176, 3) := dk_182 0 176 (dk_at dksX11_greatest_1 5 rfl rfl)
theorem dX11_greatest_31 : decode cX11_greatest 31 = .ok (.ifCond .eq 17, 3) := dk_153 0 17 (dk_at dksX11_greatest_1 8 rfl rfl)
theorem dX11_greatest_34 : decode cX11_greatest 34 = .ok (.iload 5, 2) := dk_21 5 (dk_at dksX11_greatest_1 11 rfl rfl)
theorem dX11_greatest_36 : decode cX11_greatest 36 = .ok (.iload_n 1, 1) := dk_27 (dk_at dksX11_greatest_1 13 rfl rfl)
theorem dX11_greatest_37 : decode cX11_greatest 37 = .ok (.invokestatic 173, 3) := dk_184 0 173 (dk_at dksX11_greatest_1 14 rfl rfl)
theorem dX11_greatest_40 : decode cX11_greatest 40 = .ok (.iload_n 3, 1) := dk_29 (dk_at dksX11_greatest_1 17 rfl rfl)
theorem dX11_greatest_41 : decode cX11_greatest 41 = .ok (.if_icmp .ne 7, 3) := dk_160 0 7 (dk_at dksX11_greatest_1 18 rfl rfl)
theorem dX11_greatest_44 : decode cX11_greatest 44 = .ok (.iconst 1, 1) := dk_4 (dk_at dksX11_greatest_1 21 rfl rfl)
theorem dX11_greatest_45 : decode cX11_greatest 45 = .ok (.goto 4, 3) := dk_167 0 4 (dk_at dksX11_greatest_2 0 rfl rfl)
theorem dX11_greatest_48 : decode cX11_greatest 48 = .ok (.iconst 0, 1) := dk_3 (dk_at dksX11_greatest_2 3 rfl rfl)
theorem dX11_greatest_49 : decode cX11_greatest 49 = .ok (.iadd, 1) := dk_96 (dk_at dksX11_greatest_2 4 rfl rfl)
theorem dX11_greatest_50 : decode cX11_greatest 50 = .ok (.istore 4, 2) := dk_54 4 (dk_at dksX11_greatest_2 5 rfl rfl)
theorem dX11_greatest_52 : decode cX11_greatest 52 = .ok (.iinc 5 1, 3) := dk_132 5 1 (dk_at dksX11_greatest_2 7 rfl rfl)
theorem dX11_greatest_55 : decode cX11_greatest 55 = .ok (.goto (-39), 3) := dk_167 255 217 (dk_at dksX11_greatest_2 10 rfl rfl)
theorem dX11_greatest_58 : decode cX11_greatest 58 = .ok (.iload 4, 2) := dk_21 4 (dk_at dksX11_greatest_2 13 rfl rfl)
theorem dX11_greatest_60 : decode cX11_greatest 60 = .ok (.iload_n 2, 1) := dk_28 (dk_at dksX11_greatest_2 15 rfl rfl)
theorem dX11_greatest_61 : decode cX11_greatest 61 = .ok (.if_icmp .le 8, 3) := dk_164 0 8 (dk_at dksX11_greatest_2 16 rfl rfl)
theorem dX11_greatest_64 : decode cX11_greatest 64 = .ok (.iload 4, 2) := dk_21 4 (dk_at dksX11_greatest_2 19 rfl rfl)
theorem dX11_greatest_66 : decode cX11_greatest 66 = .ok (.goto 4, 3) := dk_167 0 4 (dk_at dksX11_greatest_2 21 rfl rfl)
theorem dX11_greatest_69 : decode cX11_greatest 69 = .ok (.iload_n 2, 1) := dk_28 (dk_at dksX11_greatest_3 0 rfl rfl)
theorem dX11_greatest_70 : decode cX11_greatest 70 = .ok (.istore_n 2, 1) := dk_61 (dk_at dksX11_greatest_3 1 rfl rfl)
theorem dX11_greatest_71 : decode cX11_greatest 71 = .ok (.iinc 3 1, 3) := dk_132 3 1 (dk_at dksX11_greatest_3 2 rfl rfl)
theorem dX11_greatest_74 : decode cX11_greatest 74 = .ok (.goto (-70), 3) := dk_167 255 186 (dk_at dksX11_greatest_3 5 rfl rfl)
theorem dX11_greatest_77 : decode cX11_greatest 77 = .ok (.iload_n 2, 1) := dk_28 (dk_at dksX11_greatest_3 8 rfl rfl)
theorem dX11_greatest_78 : decode cX11_greatest 78 = .ok (.ireturn, 1) := dk_172 (dk_at dksX11_greatest_3 9 rfl rfl)
abbrev cX11_mark : ByteArray := prog_14_method_53_code
def yX11_mark : MethodName := ⟨RX11, "mark", "(II)I"⟩
def dkwX11_mark_9 : List UInt8 := [54, 6, 132, 7, 1, 167, 255, 214, 21, 6, 172]
abbrev dktX11_mark_9 : List UInt8 := dkwX11_mark_9 ++ []
def dkwX11_mark_8 : List UInt8 := [8, 184, 0, 151, 153, 0, 17, 42, 28, 21, 7, 182, 0, 126, 153, 0, 7, 4, 167, 0, 4, 3, 96]
abbrev dktX11_mark_8 : List UInt8 := dkwX11_mark_8 ++ dktX11_mark_9
def dkwX11_mark_7 : List UInt8 := [167, 0, 4, 3, 96, 54, 6, 3, 54, 7, 21, 7, 42, 180, 0, 17, 3, 46, 162, 0, 37, 21, 6, 29]
abbrev dktX11_mark_7 : List UInt8 := dkwX11_mark_7 ++ dktX11_mark_8
def dkwX11_mark_6 : List UInt8 := [5, 21, 6, 104, 167, 0, 5, 21, 6, 54, 6, 21, 6, 29, 7, 184, 0, 151, 153, 0, 7, 28]
abbrev dktX11_mark_6 : List UInt8 := dkwX11_mark_6 ++ dktX11_mark_7
def dkwX11_mark_5 : List UInt8 := [42, 180, 0, 38, 16, 10, 28, 96, 46, 167, 0, 4, 3, 100, 54, 6, 29, 6, 184, 0, 151, 153, 0, 10]
abbrev dktX11_mark_5 : List UInt8 := dkwX11_mark_5 ++ dktX11_mark_6
def dkwX11_mark_4 : List UInt8 := [28, 182, 0, 133, 184, 0, 145, 167, 0, 4, 3, 96, 54, 6, 21, 6, 29, 5, 184, 0, 151, 153, 0, 15]
abbrev dktX11_mark_4 : List UInt8 := dkwX11_mark_4 ++ dktX11_mark_5
def dkwX11_mark_3 : List UInt8 := [132, 6, 1, 167, 255, 214, 42, 28, 182, 0, 122, 54, 6, 21, 6, 29, 4, 184, 0, 151, 153, 0, 14, 42]
abbrev dktX11_mark_3 : List UInt8 := dkwX11_mark_3 ++ dktX11_mark_4
def dkwX11_mark_2 : List UInt8 := [184, 0, 151, 153, 0, 8, 22, 4, 167, 0, 4, 9, 97, 181, 0, 186, 22, 4, 20, 0, 190, 105, 55, 4]
abbrev dktX11_mark_2 : List UInt8 := dkwX11_mark_2 ++ dktX11_mark_3
def dkwX11_mark_1 : List UInt8 := [62, 10, 55, 4, 3, 54, 6, 21, 6, 16, 6, 162, 0, 41, 42, 89, 180, 0, 186, 29, 21, 6]
abbrev dktX11_mark_1 : List UInt8 := dkwX11_mark_1 ++ dktX11_mark_2
def dkwX11_mark_0 : List UInt8 := [27, 3, 8, 184, 0, 63, 153, 0, 11, 42, 28, 182, 0, 130, 154, 0, 6, 18, 182, 172, 27, 184, 0, 183]
abbrev dktX11_mark_0 : List UInt8 := dkwX11_mark_0 ++ dktX11_mark_1
theorem dksX11_mark_0 : cX11_mark.data.toList.drop 0 = dktX11_mark_0 := by decide +kernel
theorem dksX11_mark_1 : cX11_mark.data.toList.drop 24 = dktX11_mark_1 := dk_seg dksX11_mark_0 24 rfl rfl
theorem dksX11_mark_2 : cX11_mark.data.toList.drop 46 = dktX11_mark_2 := dk_seg dksX11_mark_1 22 rfl rfl
theorem dksX11_mark_3 : cX11_mark.data.toList.drop 70 = dktX11_mark_3 := dk_seg dksX11_mark_2 24 rfl rfl
theorem dksX11_mark_4 : cX11_mark.data.toList.drop 94 = dktX11_mark_4 := dk_seg dksX11_mark_3 24 rfl rfl
theorem dksX11_mark_5 : cX11_mark.data.toList.drop 118 = dktX11_mark_5 := dk_seg dksX11_mark_4 24 rfl rfl
theorem dksX11_mark_6 : cX11_mark.data.toList.drop 142 = dktX11_mark_6 := dk_seg dksX11_mark_5 24 rfl rfl
theorem dksX11_mark_7 : cX11_mark.data.toList.drop 164 = dktX11_mark_7 := dk_seg dksX11_mark_6 22 rfl rfl
theorem dksX11_mark_8 : cX11_mark.data.toList.drop 188 = dktX11_mark_8 := dk_seg dksX11_mark_7 24 rfl rfl
theorem dksX11_mark_9 : cX11_mark.data.toList.drop 211 = dktX11_mark_9 := dk_seg dksX11_mark_8 23 rfl rfl
theorem dX11_mark_0 : decode cX11_mark 0 = .ok (.iload_n 1, 1) := dk_27 (dk_at dksX11_mark_0 0 rfl rfl)
theorem dX11_mark_1 : decode cX11_mark 1 = .ok (.iconst 0, 1) := dk_3 (dk_at dksX11_mark_0 1 rfl rfl)
theorem dX11_mark_2 : decode cX11_mark 2 = .ok (.iconst 5, 1) := dk_8 (dk_at dksX11_mark_0 2 rfl rfl)
theorem dX11_mark_3 : decode cX11_mark 3 = .ok (.invokestatic 63, 3) := dk_184 0 63 (dk_at dksX11_mark_0 3 rfl rfl)
theorem dX11_mark_6 : decode cX11_mark 6 = .ok (.ifCond .eq 11, 3) := dk_153 0 11 (dk_at dksX11_mark_0 6 rfl rfl)
theorem dX11_mark_9 : decode cX11_mark 9 = .ok (.aload_n 0, 1) := dk_42 (dk_at dksX11_mark_0 9 rfl rfl)
theorem dX11_mark_10 : decode cX11_mark 10 = .ok (.iload_n 2, 1) := dk_28 (dk_at dksX11_mark_0 10 rfl rfl)
theorem dX11_mark_11 : decode cX11_mark 11 = .ok (.invokevirtual 130, 3) := dk_182 0 130 (dk_at dksX11_mark_0 11 rfl rfl)
theorem dX11_mark_14 : decode cX11_mark 14 = .ok (.ifCond .ne 6, 3) := dk_154 0 6 (dk_at dksX11_mark_0 14 rfl rfl)
theorem dX11_mark_17 : decode cX11_mark 17 = .ok (.ldc 182, 2) := dk_18 182 (dk_at dksX11_mark_0 17 rfl rfl)
theorem dX11_mark_19 : decode cX11_mark 19 = .ok (.ireturn, 1) := dk_172 (dk_at dksX11_mark_0 19 rfl rfl)
theorem dX11_mark_20 : decode cX11_mark 20 = .ok (.iload_n 1, 1) := dk_27 (dk_at dksX11_mark_0 20 rfl rfl)
theorem dX11_mark_21 : decode cX11_mark 21 = .ok (.invokestatic 183, 3) := dk_184 0 183 (dk_at dksX11_mark_0 21 rfl rfl)
theorem dX11_mark_24 : decode cX11_mark 24 = .ok (.istore_n 3, 1) := dk_62 (dk_at dksX11_mark_1 0 rfl rfl)
theorem dX11_mark_25 : decode cX11_mark 25 = .ok (.lconst 1, 1) := dk_10 (dk_at dksX11_mark_1 1 rfl rfl)
theorem dX11_mark_26 : decode cX11_mark 26 = .ok (.lstore 4, 2) := dk_55 4 (dk_at dksX11_mark_1 2 rfl rfl)
theorem dX11_mark_28 : decode cX11_mark 28 = .ok (.iconst 0, 1) := dk_3 (dk_at dksX11_mark_1 4 rfl rfl)
theorem dX11_mark_29 : decode cX11_mark 29 = .ok (.istore 6, 2) := dk_54 6 (dk_at dksX11_mark_1 5 rfl rfl)
theorem dX11_mark_31 : decode cX11_mark 31 = .ok (.iload 6, 2) := dk_21 6 (dk_at dksX11_mark_1 7 rfl rfl)
theorem dX11_mark_33 : decode cX11_mark 33 = .ok (.bipush 6, 2) := dk_16 6 (dk_at dksX11_mark_1 9 rfl rfl)
theorem dX11_mark_35 : decode cX11_mark 35 = .ok (.if_icmp .ge 41, 3) := dk_162 0 41 (dk_at dksX11_mark_1 11 rfl rfl)
theorem dX11_mark_38 : decode cX11_mark 38 = .ok (.aload_n 0, 1) := dk_42 (dk_at dksX11_mark_1 14 rfl rfl)
theorem dX11_mark_39 : decode cX11_mark 39 = .ok (.dup, 1) := dk_89 (dk_at dksX11_mark_1 15 rfl rfl)
theorem dX11_mark_40 : decode cX11_mark 40 = .ok (.getfield 186, 3) := dk_180 0 186 (dk_at dksX11_mark_1 16 rfl rfl)
theorem dX11_mark_43 : decode cX11_mark 43 = .ok (.iload_n 3, 1) := dk_29 (dk_at dksX11_mark_1 19 rfl rfl)
theorem dX11_mark_44 : decode cX11_mark 44 = .ok (.iload 6, 2) := dk_21 6 (dk_at dksX11_mark_1 20 rfl rfl)
theorem dX11_mark_46 : decode cX11_mark 46 = .ok (.invokestatic 151, 3) := dk_184 0 151 (dk_at dksX11_mark_2 0 rfl rfl)
theorem dX11_mark_49 : decode cX11_mark 49 = .ok (.ifCond .eq 8, 3) := dk_153 0 8 (dk_at dksX11_mark_2 3 rfl rfl)
theorem dX11_mark_52 : decode cX11_mark 52 = .ok (.lload 4, 2) := dk_22 4 (dk_at dksX11_mark_2 6 rfl rfl)
theorem dX11_mark_54 : decode cX11_mark 54 = .ok (.goto 4, 3) := dk_167 0 4 (dk_at dksX11_mark_2 8 rfl rfl)
theorem dX11_mark_57 : decode cX11_mark 57 = .ok (.lconst 0, 1) := dk_9 (dk_at dksX11_mark_2 11 rfl rfl)
theorem dX11_mark_58 : decode cX11_mark 58 = .ok (.ladd, 1) := dk_97 (dk_at dksX11_mark_2 12 rfl rfl)
theorem dX11_mark_59 : decode cX11_mark 59 = .ok (.putfield 186, 3) := dk_181 0 186 (dk_at dksX11_mark_2 13 rfl rfl)
theorem dX11_mark_62 : decode cX11_mark 62 = .ok (.lload 4, 2) := dk_22 4 (dk_at dksX11_mark_2 16 rfl rfl)
theorem dX11_mark_64 : decode cX11_mark 64 = .ok (.ldc2_w 190, 3) := dk_20 0 190 (dk_at dksX11_mark_2 18 rfl rfl)
theorem dX11_mark_67 : decode cX11_mark 67 = .ok (.lmul, 1) := dk_105 (dk_at dksX11_mark_2 21 rfl rfl)
theorem dX11_mark_68 : decode cX11_mark 68 = .ok (.lstore 4, 2) := dk_55 4 (dk_at dksX11_mark_2 22 rfl rfl)
theorem dX11_mark_70 : decode cX11_mark 70 = .ok (.iinc 6 1, 3) := dk_132 6 1 (dk_at dksX11_mark_3 0 rfl rfl)
theorem dX11_mark_73 : decode cX11_mark 73 = .ok (.goto (-42), 3) := dk_167 255 214 (dk_at dksX11_mark_3 3 rfl rfl)
theorem dX11_mark_76 : decode cX11_mark 76 = .ok (.aload_n 0, 1) := dk_42 (dk_at dksX11_mark_3 6 rfl rfl)
theorem dX11_mark_77 : decode cX11_mark 77 = .ok (.iload_n 2, 1) := dk_28 (dk_at dksX11_mark_3 7 rfl rfl)
theorem dX11_mark_78 : decode cX11_mark 78 = .ok (.invokevirtual 122, 3) := dk_182 0 122 (dk_at dksX11_mark_3 8 rfl rfl)
theorem dX11_mark_81 : decode cX11_mark 81 = .ok (.istore 6, 2) := dk_54 6 (dk_at dksX11_mark_3 11 rfl rfl)
theorem dX11_mark_83 : decode cX11_mark 83 = .ok (.iload 6, 2) := dk_21 6 (dk_at dksX11_mark_3 13 rfl rfl)
theorem dX11_mark_85 : decode cX11_mark 85 = .ok (.iload_n 3, 1) := dk_29 (dk_at dksX11_mark_3 15 rfl rfl)
theorem dX11_mark_86 : decode cX11_mark 86 = .ok (.iconst 1, 1) := dk_4 (dk_at dksX11_mark_3 16 rfl rfl)
theorem dX11_mark_87 : decode cX11_mark 87 = .ok (.invokestatic 151, 3) := dk_184 0 151 (dk_at dksX11_mark_3 17 rfl rfl)
theorem dX11_mark_90 : decode cX11_mark 90 = .ok (.ifCond .eq 14, 3) := dk_153 0 14 (dk_at dksX11_mark_3 20 rfl rfl)
theorem dX11_mark_93 : decode cX11_mark 93 = .ok (.aload_n 0, 1) := dk_42 (dk_at dksX11_mark_3 23 rfl rfl)
theorem dX11_mark_94 : decode cX11_mark 94 = .ok (.iload_n 2, 1) := dk_28 (dk_at dksX11_mark_4 0 rfl rfl)
theorem dX11_mark_95 : decode cX11_mark 95 = .ok (.invokevirtual 133, 3) := dk_182 0 133 (dk_at dksX11_mark_4 1 rfl rfl)
theorem dX11_mark_98 : decode cX11_mark 98 = .ok (.invokestatic 145, 3) := dk_184 0 145 (dk_at dksX11_mark_4 4 rfl rfl)
theorem dX11_mark_101 : decode cX11_mark 101 = .ok (.goto 4, 3) := dk_167 0 4 (dk_at dksX11_mark_4 7 rfl rfl)
theorem dX11_mark_104 : decode cX11_mark 104 = .ok (.iconst 0, 1) := dk_3 (dk_at dksX11_mark_4 10 rfl rfl)
theorem dX11_mark_105 : decode cX11_mark 105 = .ok (.iadd, 1) := dk_96 (dk_at dksX11_mark_4 11 rfl rfl)
theorem dX11_mark_106 : decode cX11_mark 106 = .ok (.istore 6, 2) := dk_54 6 (dk_at dksX11_mark_4 12 rfl rfl)
theorem dX11_mark_108 : decode cX11_mark 108 = .ok (.iload 6, 2) := dk_21 6 (dk_at dksX11_mark_4 14 rfl rfl)
theorem dX11_mark_110 : decode cX11_mark 110 = .ok (.iload_n 3, 1) := dk_29 (dk_at dksX11_mark_4 16 rfl rfl)
theorem dX11_mark_111 : decode cX11_mark 111 = .ok (.iconst 2, 1) := dk_5 (dk_at dksX11_mark_4 17 rfl rfl)
theorem dX11_mark_112 : decode cX11_mark 112 = .ok (.invokestatic 151, 3) := dk_184 0 151 (dk_at dksX11_mark_4 18 rfl rfl)
theorem dX11_mark_115 : decode cX11_mark 115 = .ok (.ifCond .eq 15, 3) := dk_153 0 15 (dk_at dksX11_mark_4 21 rfl rfl)
theorem dX11_mark_118 : decode cX11_mark 118 = .ok (.aload_n 0, 1) := dk_42 (dk_at dksX11_mark_5 0 rfl rfl)
theorem dX11_mark_119 : decode cX11_mark 119 = .ok (.getfield 38, 3) := dk_180 0 38 (dk_at dksX11_mark_5 1 rfl rfl)
theorem dX11_mark_122 : decode cX11_mark 122 = .ok (.bipush 10, 2) := dk_16 10 (dk_at dksX11_mark_5 4 rfl rfl)
theorem dX11_mark_124 : decode cX11_mark 124 = .ok (.iload_n 2, 1) := dk_28 (dk_at dksX11_mark_5 6 rfl rfl)
theorem dX11_mark_125 : decode cX11_mark 125 = .ok (.iadd, 1) := dk_96 (dk_at dksX11_mark_5 7 rfl rfl)
theorem dX11_mark_126 : decode cX11_mark 126 = .ok (.iaload, 1) := dk_46 (dk_at dksX11_mark_5 8 rfl rfl)
theorem dX11_mark_127 : decode cX11_mark 127 = .ok (.goto 4, 3) := dk_167 0 4 (dk_at dksX11_mark_5 9 rfl rfl)
theorem dX11_mark_130 : decode cX11_mark 130 = .ok (.iconst 0, 1) := dk_3 (dk_at dksX11_mark_5 12 rfl rfl)
theorem dX11_mark_131 : decode cX11_mark 131 = .ok (.isub, 1) := dk_100 (dk_at dksX11_mark_5 13 rfl rfl)
theorem dX11_mark_132 : decode cX11_mark 132 = .ok (.istore 6, 2) := dk_54 6 (dk_at dksX11_mark_5 14 rfl rfl)
theorem dX11_mark_134 : decode cX11_mark 134 = .ok (.iload_n 3, 1) := dk_29 (dk_at dksX11_mark_5 16 rfl rfl)
theorem dX11_mark_135 : decode cX11_mark 135 = .ok (.iconst 3, 1) := dk_6 (dk_at dksX11_mark_5 17 rfl rfl)
theorem dX11_mark_136 : decode cX11_mark 136 = .ok (.invokestatic 151, 3) := dk_184 0 151 (dk_at dksX11_mark_5 18 rfl rfl)
theorem dX11_mark_139 : decode cX11_mark 139 = .ok (.ifCond .eq 10, 3) := dk_153 0 10 (dk_at dksX11_mark_5 21 rfl rfl)
theorem dX11_mark_142 : decode cX11_mark 142 = .ok (.iconst 2, 1) := dk_5 (dk_at dksX11_mark_6 0 rfl rfl)
theorem dX11_mark_143 : decode cX11_mark 143 = .ok (.iload 6, 2) := dk_21 6 (dk_at dksX11_mark_6 1 rfl rfl)
theorem dX11_mark_145 : decode cX11_mark 145 = .ok (.imul, 1) := dk_104 (dk_at dksX11_mark_6 3 rfl rfl)
theorem dX11_mark_146 : decode cX11_mark 146 = .ok (.goto 5, 3) := dk_167 0 5 (dk_at dksX11_mark_6 4 rfl rfl)
theorem dX11_mark_149 : decode cX11_mark 149 = .ok (.iload 6, 2) := dk_21 6 (dk_at dksX11_mark_6 7 rfl rfl)
theorem dX11_mark_151 : decode cX11_mark 151 = .ok (.istore 6, 2) := dk_54 6 (dk_at dksX11_mark_6 9 rfl rfl)
theorem dX11_mark_153 : decode cX11_mark 153 = .ok (.iload 6, 2) := dk_21 6 (dk_at dksX11_mark_6 11 rfl rfl)
theorem dX11_mark_155 : decode cX11_mark 155 = .ok (.iload_n 3, 1) := dk_29 (dk_at dksX11_mark_6 13 rfl rfl)
theorem dX11_mark_156 : decode cX11_mark 156 = .ok (.iconst 4, 1) := dk_7 (dk_at dksX11_mark_6 14 rfl rfl)
theorem dX11_mark_157 : decode cX11_mark 157 = .ok (.invokestatic 151, 3) := dk_184 0 151 (dk_at dksX11_mark_6 15 rfl rfl)
theorem dX11_mark_160 : decode cX11_mark 160 = .ok (.ifCond .eq 7, 3) := dk_153 0 7 (dk_at dksX11_mark_6 18 rfl rfl)
theorem dX11_mark_163 : decode cX11_mark 163 = .ok (.iload_n 2, 1) := dk_28 (dk_at dksX11_mark_6 21 rfl rfl)
theorem dX11_mark_164 : decode cX11_mark 164 = .ok (.goto 4, 3) := dk_167 0 4 (dk_at dksX11_mark_7 0 rfl rfl)
theorem dX11_mark_167 : decode cX11_mark 167 = .ok (.iconst 0, 1) := dk_3 (dk_at dksX11_mark_7 3 rfl rfl)
theorem dX11_mark_168 : decode cX11_mark 168 = .ok (.iadd, 1) := dk_96 (dk_at dksX11_mark_7 4 rfl rfl)
theorem dX11_mark_169 : decode cX11_mark 169 = .ok (.istore 6, 2) := dk_54 6 (dk_at dksX11_mark_7 5 rfl rfl)
theorem dX11_mark_171 : decode cX11_mark 171 = .ok (.iconst 0, 1) := dk_3 (dk_at dksX11_mark_7 7 rfl rfl)
theorem dX11_mark_172 : decode cX11_mark 172 = .ok (.istore 7, 2) := dk_54 7 (dk_at dksX11_mark_7 8 rfl rfl)
theorem dX11_mark_174 : decode cX11_mark 174 = .ok (.iload 7, 2) := dk_21 7 (dk_at dksX11_mark_7 10 rfl rfl)
theorem dX11_mark_176 : decode cX11_mark 176 = .ok (.aload_n 0, 1) := dk_42 (dk_at dksX11_mark_7 12 rfl rfl)
theorem dX11_mark_177 : decode cX11_mark 177 = .ok (.getfield 17, 3) := dk_180 0 17 (dk_at dksX11_mark_7 13 rfl rfl)
theorem dX11_mark_180 : decode cX11_mark 180 = .ok (.iconst 0, 1) := dk_3 (dk_at dksX11_mark_7 16 rfl rfl)
theorem dX11_mark_181 : decode cX11_mark 181 = .ok (.iaload, 1) := dk_46 (dk_at dksX11_mark_7 17 rfl rfl)
theorem dX11_mark_182 : decode cX11_mark 182 = .ok (.if_icmp .ge 37, 3) := dk_162 0 37 (dk_at dksX11_mark_7 18 rfl rfl)
theorem dX11_mark_185 : decode cX11_mark 185 = .ok (.iload 6, 2) := dk_21 6 (dk_at dksX11_mark_7 21 rfl rfl)
theorem dX11_mark_187 : decode cX11_mark 187 = .ok (.iload_n 3, 1) := dk_29 (dk_at dksX11_mark_7 23 rfl rfl)
theorem dX11_mark_188 : decode cX11_mark 188 = .ok (.iconst 5, 1) := dk_8 (dk_at dksX11_mark_8 0 rfl rfl)
theorem dX11_mark_189 : decode cX11_mark 189 = .ok (.invokestatic 151, 3) := dk_184 0 151 (dk_at dksX11_mark_8 1 rfl rfl)
theorem dX11_mark_192 : decode cX11_mark 192 = .ok (.ifCond .eq 17, 3) := dk_153 0 17 (dk_at dksX11_mark_8 4 rfl rfl)
theorem dX11_mark_195 : decode cX11_mark 195 = .ok (.aload_n 0, 1) := dk_42 (dk_at dksX11_mark_8 7 rfl rfl)
theorem dX11_mark_196 : decode cX11_mark 196 = .ok (.iload_n 2, 1) := dk_28 (dk_at dksX11_mark_8 8 rfl rfl)
theorem dX11_mark_197 : decode cX11_mark 197 = .ok (.iload 7, 2) := dk_21 7 (dk_at dksX11_mark_8 9 rfl rfl)
theorem dX11_mark_199 : decode cX11_mark 199 = .ok (.invokevirtual 126, 3) := dk_182 0 126 (dk_at dksX11_mark_8 11 rfl rfl)
theorem dX11_mark_202 : decode cX11_mark 202 = .ok (.ifCond .eq 7, 3) := dk_153 0 7 (dk_at dksX11_mark_8 14 rfl rfl)
theorem dX11_mark_205 : decode cX11_mark 205 = .ok (.iconst 1, 1) := dk_4 (dk_at dksX11_mark_8 17 rfl rfl)
theorem dX11_mark_206 : decode cX11_mark 206 = .ok (.goto 4, 3) := dk_167 0 4 (dk_at dksX11_mark_8 18 rfl rfl)
theorem dX11_mark_209 : decode cX11_mark 209 = .ok (.iconst 0, 1) := dk_3 (dk_at dksX11_mark_8 21 rfl rfl)
theorem dX11_mark_210 : decode cX11_mark 210 = .ok (.iadd, 1) := dk_96 (dk_at dksX11_mark_8 22 rfl rfl)
theorem dX11_mark_211 : decode cX11_mark 211 = .ok (.istore 6, 2) := dk_54 6 (dk_at dksX11_mark_9 0 rfl rfl)
theorem dX11_mark_213 : decode cX11_mark 213 = .ok (.iinc 7 1, 3) := dk_132 7 1 (dk_at dksX11_mark_9 2 rfl rfl)
theorem dX11_mark_216 : decode cX11_mark 216 = .ok (.goto (-42), 3) := dk_167 255 214 (dk_at dksX11_mark_9 5 rfl rfl)
theorem dX11_mark_219 : decode cX11_mark 219 = .ok (.iload 6, 2) := dk_21 6 (dk_at dksX11_mark_9 8 rfl rfl)
theorem dX11_mark_221 : decode cX11_mark 221 = .ok (.ireturn, 1) := dk_172 (dk_at dksX11_mark_9 10 rfl rfl)
abbrev cX11_bodiesOf : ByteArray := prog_14_method_52_code
def yX11_bodiesOf : MethodName := ⟨RX11, "bodiesOf", "(I)I"⟩
def dkwX11_bodiesOf_2 : List UInt8 := [4, 172, 6, 172, 8, 172, 16, 11, 172, 16, 21, 172, 16, 33, 172]
abbrev dktX11_bodiesOf_2 : List UInt8 := dkwX11_bodiesOf_2 ++ []
def dkwX11_bodiesOf_1 : List UInt8 := [170, 0, 0, 0, 0, 0, 47, 0, 0, 0, 0, 0, 0, 0, 4, 0, 0, 0, 35, 0, 0, 0, 37, 0, 0, 0, 39, 0, 0, 0, 41, 0, 0, 0, 44]
abbrev dktX11_bodiesOf_1 : List UInt8 := dkwX11_bodiesOf_1 ++ dktX11_bodiesOf_2
def dkwX11_bodiesOf_0 : List UInt8 := [26]
abbrev dktX11_bodiesOf_0 : List UInt8 := dkwX11_bodiesOf_0 ++ dktX11_bodiesOf_1
theorem dksX11_bodiesOf_0 : cX11_bodiesOf.data.toList.drop 0 = dktX11_bodiesOf_0 := by decide +kernel
theorem dksX11_bodiesOf_1 : cX11_bodiesOf.data.toList.drop 1 = dktX11_bodiesOf_1 := dk_seg dksX11_bodiesOf_0 1 rfl rfl
theorem dksX11_bodiesOf_2 : cX11_bodiesOf.data.toList.drop 36 = dktX11_bodiesOf_2 := dk_seg dksX11_bodiesOf_1 35 rfl rfl
theorem dX11_bodiesOf_0 : decode cX11_bodiesOf 0 = .ok (.iload_n 0, 1) := dk_26 (dk_at dksX11_bodiesOf_0 0 rfl rfl)
theorem dX11_bodiesOf_1 : decode cX11_bodiesOf 1 = .ok (.tableswitch 47 0 4 #[35, 37, 39, 41, 44], 35) := by decide +kernel
theorem dX11_bodiesOf_36 : decode cX11_bodiesOf 36 = .ok (.iconst 1, 1) := dk_4 (dk_at dksX11_bodiesOf_2 0 rfl rfl)
theorem dX11_bodiesOf_37 : decode cX11_bodiesOf 37 = .ok (.ireturn, 1) := dk_172 (dk_at dksX11_bodiesOf_2 1 rfl rfl)
theorem dX11_bodiesOf_38 : decode cX11_bodiesOf 38 = .ok (.iconst 3, 1) := dk_6 (dk_at dksX11_bodiesOf_2 2 rfl rfl)
theorem dX11_bodiesOf_39 : decode cX11_bodiesOf 39 = .ok (.ireturn, 1) := dk_172 (dk_at dksX11_bodiesOf_2 3 rfl rfl)
theorem dX11_bodiesOf_40 : decode cX11_bodiesOf 40 = .ok (.iconst 5, 1) := dk_8 (dk_at dksX11_bodiesOf_2 4 rfl rfl)
theorem dX11_bodiesOf_41 : decode cX11_bodiesOf 41 = .ok (.ireturn, 1) := dk_172 (dk_at dksX11_bodiesOf_2 5 rfl rfl)
theorem dX11_bodiesOf_42 : decode cX11_bodiesOf 42 = .ok (.bipush 11, 2) := dk_16 11 (dk_at dksX11_bodiesOf_2 6 rfl rfl)
theorem dX11_bodiesOf_44 : decode cX11_bodiesOf 44 = .ok (.ireturn, 1) := dk_172 (dk_at dksX11_bodiesOf_2 8 rfl rfl)
theorem dX11_bodiesOf_45 : decode cX11_bodiesOf 45 = .ok (.bipush 21, 2) := dk_16 21 (dk_at dksX11_bodiesOf_2 9 rfl rfl)
theorem dX11_bodiesOf_47 : decode cX11_bodiesOf 47 = .ok (.ireturn, 1) := dk_172 (dk_at dksX11_bodiesOf_2 11 rfl rfl)
theorem dX11_bodiesOf_48 : decode cX11_bodiesOf 48 = .ok (.bipush 33, 2) := dk_16 33 (dk_at dksX11_bodiesOf_2 12 rfl rfl)
theorem dX11_bodiesOf_50 : decode cX11_bodiesOf 50 = .ok (.ireturn, 1) := dk_172 (dk_at dksX11_bodiesOf_2 14 rfl rfl)
abbrev cX11_trace : ByteArray := prog_14_method_54_code
def yX11_trace : MethodName := ⟨RX11, "trace", "()J"⟩
theorem dX11_trace_0 : decode cX11_trace 0 = .ok (.aload_n 0, 1) := by decide +kernel
theorem dX11_trace_1 : decode cX11_trace 1 = .ok (.getfield 186, 3) := by decide +kernel
theorem dX11_trace_4 : decode cX11_trace 4 = .ok (.lreturn, 1) := by decide +kernel
abbrev cX11_keep : ByteArray := prog_14_method_55_code
def yX11_keep : MethodName := ⟨RX11, "keep", "(I)I"⟩
def dkwX11_keep_4 : List UInt8 := [180, 0, 50, 27, 4, 84, 42, 180, 0, 38, 3, 46, 172]
abbrev dktX11_keep_4 : List UInt8 := dkwX11_keep_4 ++ []
def dkwX11_keep_3 : List UInt8 := [46, 79, 132, 2, 1, 167, 255, 226, 42, 180, 0, 41, 4, 27, 96, 42, 180, 0, 41, 3, 46, 79, 42]
abbrev dktX11_keep_3 : List UInt8 := dkwX11_keep_3 ++ dktX11_keep_4
def dkwX11_keep_2 : List UInt8 := [17, 1, 84, 162, 0, 29, 42, 180, 0, 44, 17, 1, 84, 4, 27, 96, 104, 28, 96, 42, 180, 0, 44, 28]
abbrev dktX11_keep_2 : List UInt8 := dkwX11_keep_2 ++ dktX11_keep_3
def dkwX11_keep_1 : List UInt8 := [16, 34, 27, 104, 28, 96, 42, 180, 0, 38, 28, 46, 79, 132, 2, 1, 167, 255, 230, 3, 61, 28]
abbrev dktX11_keep_1 : List UInt8 := dkwX11_keep_1 ++ dktX11_keep_2
def dkwX11_keep_0 : List UInt8 := [27, 3, 4, 184, 0, 63, 154, 0, 5, 2, 172, 3, 61, 28, 16, 34, 162, 0, 26, 42, 180, 0, 47]
abbrev dktX11_keep_0 : List UInt8 := dkwX11_keep_0 ++ dktX11_keep_1
theorem dksX11_keep_0 : cX11_keep.data.toList.drop 0 = dktX11_keep_0 := by decide +kernel
theorem dksX11_keep_1 : cX11_keep.data.toList.drop 23 = dktX11_keep_1 := dk_seg dksX11_keep_0 23 rfl rfl
theorem dksX11_keep_2 : cX11_keep.data.toList.drop 45 = dktX11_keep_2 := dk_seg dksX11_keep_1 22 rfl rfl
theorem dksX11_keep_3 : cX11_keep.data.toList.drop 69 = dktX11_keep_3 := dk_seg dksX11_keep_2 24 rfl rfl
theorem dksX11_keep_4 : cX11_keep.data.toList.drop 92 = dktX11_keep_4 := dk_seg dksX11_keep_3 23 rfl rfl
theorem dX11_keep_0 : decode cX11_keep 0 = .ok (.iload_n 1, 1) := dk_27 (dk_at dksX11_keep_0 0 rfl rfl)
theorem dX11_keep_1 : decode cX11_keep 1 = .ok (.iconst 0, 1) := dk_3 (dk_at dksX11_keep_0 1 rfl rfl)
theorem dX11_keep_2 : decode cX11_keep 2 = .ok (.iconst 1, 1) := dk_4 (dk_at dksX11_keep_0 2 rfl rfl)
theorem dX11_keep_3 : decode cX11_keep 3 = .ok (.invokestatic 63, 3) := dk_184 0 63 (dk_at dksX11_keep_0 3 rfl rfl)
theorem dX11_keep_6 : decode cX11_keep 6 = .ok (.ifCond .ne 5, 3) := dk_154 0 5 (dk_at dksX11_keep_0 6 rfl rfl)
theorem dX11_keep_9 : decode cX11_keep 9 = .ok (.iconst (-1), 1) := dk_2 (dk_at dksX11_keep_0 9 rfl rfl)
theorem dX11_keep_10 : decode cX11_keep 10 = .ok (.ireturn, 1) := dk_172 (dk_at dksX11_keep_0 10 rfl rfl)
theorem dX11_keep_11 : decode cX11_keep 11 = .ok (.iconst 0, 1) := dk_3 (dk_at dksX11_keep_0 11 rfl rfl)
theorem dX11_keep_12 : decode cX11_keep 12 = .ok (.istore_n 2, 1) := dk_61 (dk_at dksX11_keep_0 12 rfl rfl)
theorem dX11_keep_13 : decode cX11_keep 13 = .ok (.iload_n 2, 1) := dk_28 (dk_at dksX11_keep_0 13 rfl rfl)
theorem dX11_keep_14 : decode cX11_keep 14 = .ok (.bipush 34, 2) := dk_16 34 (dk_at dksX11_keep_0 14 rfl rfl)
theorem dX11_keep_16 : decode cX11_keep 16 = .ok (.if_icmp .ge 26, 3) := dk_162 0 26 (dk_at dksX11_keep_0 16 rfl rfl)
theorem dX11_keep_19 : decode cX11_keep 19 = .ok (.aload_n 0, 1) := dk_42 (dk_at dksX11_keep_0 19 rfl rfl)
theorem dX11_keep_20 : decode cX11_keep 20 = .ok (.getfield 47, 3) := dk_180 0 47 (dk_at dksX11_keep_0 20 rfl rfl)
theorem dX11_keep_23 : decode cX11_keep 23 = .ok (.bipush 34, 2) := dk_16 34 (dk_at dksX11_keep_1 0 rfl rfl)
theorem dX11_keep_25 : decode cX11_keep 25 = .ok (.iload_n 1, 1) := dk_27 (dk_at dksX11_keep_1 2 rfl rfl)
theorem dX11_keep_26 : decode cX11_keep 26 = .ok (.imul, 1) := dk_104 (dk_at dksX11_keep_1 3 rfl rfl)
theorem dX11_keep_27 : decode cX11_keep 27 = .ok (.iload_n 2, 1) := dk_28 (dk_at dksX11_keep_1 4 rfl rfl)
theorem dX11_keep_28 : decode cX11_keep 28 = .ok (.iadd, 1) := dk_96 (dk_at dksX11_keep_1 5 rfl rfl)
theorem dX11_keep_29 : decode cX11_keep 29 = .ok (.aload_n 0, 1) := dk_42 (dk_at dksX11_keep_1 6 rfl rfl)
theorem dX11_keep_30 : decode cX11_keep 30 = .ok (.getfield 38, 3) := dk_180 0 38 (dk_at dksX11_keep_1 7 rfl rfl)
theorem dX11_keep_33 : decode cX11_keep 33 = .ok (.iload_n 2, 1) := dk_28 (dk_at dksX11_keep_1 10 rfl rfl)
theorem dX11_keep_34 : decode cX11_keep 34 = .ok (.iaload, 1) := dk_46 (dk_at dksX11_keep_1 11 rfl rfl)
theorem dX11_keep_35 : decode cX11_keep 35 = .ok (.iastore, 1) := dk_79 (dk_at dksX11_keep_1 12 rfl rfl)
theorem dX11_keep_36 : decode cX11_keep 36 = .ok (.iinc 2 1, 3) := dk_132 2 1 (dk_at dksX11_keep_1 13 rfl rfl)
theorem dX11_keep_39 : decode cX11_keep 39 = .ok (.goto (-26), 3) := dk_167 255 230 (dk_at dksX11_keep_1 16 rfl rfl)
theorem dX11_keep_42 : decode cX11_keep 42 = .ok (.iconst 0, 1) := dk_3 (dk_at dksX11_keep_1 19 rfl rfl)
theorem dX11_keep_43 : decode cX11_keep 43 = .ok (.istore_n 2, 1) := dk_61 (dk_at dksX11_keep_1 20 rfl rfl)
theorem dX11_keep_44 : decode cX11_keep 44 = .ok (.iload_n 2, 1) := dk_28 (dk_at dksX11_keep_1 21 rfl rfl)
theorem dX11_keep_45 : decode cX11_keep 45 = .ok (.sipush 340, 3) := dk_17 1 84 (dk_at dksX11_keep_2 0 rfl rfl)
theorem dX11_keep_48 : decode cX11_keep 48 = .ok (.if_icmp .ge 29, 3) := dk_162 0 29 (dk_at dksX11_keep_2 3 rfl rfl)
theorem dX11_keep_51 : decode cX11_keep 51 = .ok (.aload_n 0, 1) := dk_42 (dk_at dksX11_keep_2 6 rfl rfl)
theorem dX11_keep_52 : decode cX11_keep 52 = .ok (.getfield 44, 3) := dk_180 0 44 (dk_at dksX11_keep_2 7 rfl rfl)
theorem dX11_keep_55 : decode cX11_keep 55 = .ok (.sipush 340, 3) := dk_17 1 84 (dk_at dksX11_keep_2 10 rfl rfl)
theorem dX11_keep_58 : decode cX11_keep 58 = .ok (.iconst 1, 1) := dk_4 (dk_at dksX11_keep_2 13 rfl rfl)
theorem dX11_keep_59 : decode cX11_keep 59 = .ok (.iload_n 1, 1) := dk_27 (dk_at dksX11_keep_2 14 rfl rfl)
theorem dX11_keep_60 : decode cX11_keep 60 = .ok (.iadd, 1) := dk_96 (dk_at dksX11_keep_2 15 rfl rfl)
theorem dX11_keep_61 : decode cX11_keep 61 = .ok (.imul, 1) := dk_104 (dk_at dksX11_keep_2 16 rfl rfl)
theorem dX11_keep_62 : decode cX11_keep 62 = .ok (.iload_n 2, 1) := dk_28 (dk_at dksX11_keep_2 17 rfl rfl)
theorem dX11_keep_63 : decode cX11_keep 63 = .ok (.iadd, 1) := dk_96 (dk_at dksX11_keep_2 18 rfl rfl)
theorem dX11_keep_64 : decode cX11_keep 64 = .ok (.aload_n 0, 1) := dk_42 (dk_at dksX11_keep_2 19 rfl rfl)
theorem dX11_keep_65 : decode cX11_keep 65 = .ok (.getfield 44, 3) := dk_180 0 44 (dk_at dksX11_keep_2 20 rfl rfl)
theorem dX11_keep_68 : decode cX11_keep 68 = .ok (.iload_n 2, 1) := dk_28 (dk_at dksX11_keep_2 23 rfl rfl)
theorem dX11_keep_69 : decode cX11_keep 69 = .ok (.iaload, 1) := dk_46 (dk_at dksX11_keep_3 0 rfl rfl)
theorem dX11_keep_70 : decode cX11_keep 70 = .ok (.iastore, 1) := dk_79 (dk_at dksX11_keep_3 1 rfl rfl)
theorem dX11_keep_71 : decode cX11_keep 71 = .ok (.iinc 2 1, 3) := dk_132 2 1 (dk_at dksX11_keep_3 2 rfl rfl)
theorem dX11_keep_74 : decode cX11_keep 74 = .ok (.goto (-30), 3) := dk_167 255 226 (dk_at dksX11_keep_3 5 rfl rfl)
theorem dX11_keep_77 : decode cX11_keep 77 = .ok (.aload_n 0, 1) := dk_42 (dk_at dksX11_keep_3 8 rfl rfl)
theorem dX11_keep_78 : decode cX11_keep 78 = .ok (.getfield 41, 3) := dk_180 0 41 (dk_at dksX11_keep_3 9 rfl rfl)
theorem dX11_keep_81 : decode cX11_keep 81 = .ok (.iconst 1, 1) := dk_4 (dk_at dksX11_keep_3 12 rfl rfl)
theorem dX11_keep_82 : decode cX11_keep 82 = .ok (.iload_n 1, 1) := dk_27 (dk_at dksX11_keep_3 13 rfl rfl)
theorem dX11_keep_83 : decode cX11_keep 83 = .ok (.iadd, 1) := dk_96 (dk_at dksX11_keep_3 14 rfl rfl)
theorem dX11_keep_84 : decode cX11_keep 84 = .ok (.aload_n 0, 1) := dk_42 (dk_at dksX11_keep_3 15 rfl rfl)
theorem dX11_keep_85 : decode cX11_keep 85 = .ok (.getfield 41, 3) := dk_180 0 41 (dk_at dksX11_keep_3 16 rfl rfl)
theorem dX11_keep_88 : decode cX11_keep 88 = .ok (.iconst 0, 1) := dk_3 (dk_at dksX11_keep_3 19 rfl rfl)
theorem dX11_keep_89 : decode cX11_keep 89 = .ok (.iaload, 1) := dk_46 (dk_at dksX11_keep_3 20 rfl rfl)
theorem dX11_keep_90 : decode cX11_keep 90 = .ok (.iastore, 1) := dk_79 (dk_at dksX11_keep_3 21 rfl rfl)
theorem dX11_keep_91 : decode cX11_keep 91 = .ok (.aload_n 0, 1) := dk_42 (dk_at dksX11_keep_3 22 rfl rfl)
theorem dX11_keep_92 : decode cX11_keep 92 = .ok (.getfield 50, 3) := dk_180 0 50 (dk_at dksX11_keep_4 0 rfl rfl)
theorem dX11_keep_95 : decode cX11_keep 95 = .ok (.iload_n 1, 1) := dk_27 (dk_at dksX11_keep_4 3 rfl rfl)
theorem dX11_keep_96 : decode cX11_keep 96 = .ok (.iconst 1, 1) := dk_4 (dk_at dksX11_keep_4 4 rfl rfl)
theorem dX11_keep_97 : decode cX11_keep 97 = .ok (.bastore, 1) := dk_84 (dk_at dksX11_keep_4 5 rfl rfl)
theorem dX11_keep_98 : decode cX11_keep 98 = .ok (.aload_n 0, 1) := dk_42 (dk_at dksX11_keep_4 6 rfl rfl)
theorem dX11_keep_99 : decode cX11_keep 99 = .ok (.getfield 38, 3) := dk_180 0 38 (dk_at dksX11_keep_4 7 rfl rfl)
theorem dX11_keep_102 : decode cX11_keep 102 = .ok (.iconst 0, 1) := dk_3 (dk_at dksX11_keep_4 10 rfl rfl)
theorem dX11_keep_103 : decode cX11_keep 103 = .ok (.iaload, 1) := dk_46 (dk_at dksX11_keep_4 11 rfl rfl)
theorem dX11_keep_104 : decode cX11_keep 104 = .ok (.ireturn, 1) := dk_172 (dk_at dksX11_keep_4 12 rfl rfl)
abbrev cX11_back : ByteArray := prog_14_method_56_code
def yX11_back : MethodName := ⟨RX11, "back", "(I)I"⟩
def dkwX11_back_4 : List UInt8 := [180, 0, 41, 4, 27, 96, 46, 79, 42, 180, 0, 38, 3, 46, 172]
abbrev dktX11_back_4 : List UInt8 := dkwX11_back_4 ++ []
def dkwX11_back_3 : List UInt8 := [17, 1, 84, 4, 27, 96, 104, 28, 96, 46, 79, 132, 2, 1, 167, 255, 226, 42, 180, 0, 41, 3, 42]
abbrev dktX11_back_3 : List UInt8 := dkwX11_back_3 ++ dktX11_back_4
def dkwX11_back_2 : List UInt8 := [132, 2, 1, 167, 255, 230, 3, 61, 28, 17, 1, 84, 162, 0, 29, 42, 180, 0, 44, 28, 42, 180, 0, 44]
abbrev dktX11_back_2 : List UInt8 := dkwX11_back_2 ++ dktX11_back_3
def dkwX11_back_1 : List UInt8 := [61, 28, 16, 34, 162, 0, 26, 42, 180, 0, 38, 28, 42, 180, 0, 47, 16, 34, 27, 104, 28, 96, 46, 79]
abbrev dktX11_back_1 : List UInt8 := dkwX11_back_1 ++ dktX11_back_2
def dkwX11_back_0 : List UInt8 := [27, 3, 4, 184, 0, 63, 154, 0, 5, 2, 172, 42, 180, 0, 50, 27, 51, 154, 0, 6, 16, 254, 172, 3]
abbrev dktX11_back_0 : List UInt8 := dkwX11_back_0 ++ dktX11_back_1
theorem dksX11_back_0 : cX11_back.data.toList.drop 0 = dktX11_back_0 := by decide +kernel
theorem dksX11_back_1 : cX11_back.data.toList.drop 24 = dktX11_back_1 := dk_seg dksX11_back_0 24 rfl rfl
theorem dksX11_back_2 : cX11_back.data.toList.drop 48 = dktX11_back_2 := dk_seg dksX11_back_1 24 rfl rfl
theorem dksX11_back_3 : cX11_back.data.toList.drop 72 = dktX11_back_3 := dk_seg dksX11_back_2 24 rfl rfl
theorem dksX11_back_4 : cX11_back.data.toList.drop 95 = dktX11_back_4 := dk_seg dksX11_back_3 23 rfl rfl
theorem dX11_back_0 : decode cX11_back 0 = .ok (.iload_n 1, 1) := dk_27 (dk_at dksX11_back_0 0 rfl rfl)
theorem dX11_back_1 : decode cX11_back 1 = .ok (.iconst 0, 1) := dk_3 (dk_at dksX11_back_0 1 rfl rfl)
theorem dX11_back_2 : decode cX11_back 2 = .ok (.iconst 1, 1) := dk_4 (dk_at dksX11_back_0 2 rfl rfl)
theorem dX11_back_3 : decode cX11_back 3 = .ok (.invokestatic 63, 3) := dk_184 0 63 (dk_at dksX11_back_0 3 rfl rfl)
theorem dX11_back_6 : decode cX11_back 6 = .ok (.ifCond .ne 5, 3) := dk_154 0 5 (dk_at dksX11_back_0 6 rfl rfl)
theorem dX11_back_9 : decode cX11_back 9 = .ok (.iconst (-1), 1) := dk_2 (dk_at dksX11_back_0 9 rfl rfl)
theorem dX11_back_10 : decode cX11_back 10 = .ok (.ireturn, 1) := dk_172 (dk_at dksX11_back_0 10 rfl rfl)
theorem dX11_back_11 : decode cX11_back 11 = .ok (.aload_n 0, 1) := dk_42 (dk_at dksX11_back_0 11 rfl rfl)
theorem dX11_back_12 : decode cX11_back 12 = .ok (.getfield 50, 3) := dk_180 0 50 (dk_at dksX11_back_0 12 rfl rfl)
theorem dX11_back_15 : decode cX11_back 15 = .ok (.iload_n 1, 1) := dk_27 (dk_at dksX11_back_0 15 rfl rfl)
theorem dX11_back_16 : decode cX11_back 16 = .ok (.baload, 1) := dk_51 (dk_at dksX11_back_0 16 rfl rfl)
theorem dX11_back_17 : decode cX11_back 17 = .ok (.ifCond .ne 6, 3) := dk_154 0 6 (dk_at dksX11_back_0 17 rfl rfl)
theorem dX11_back_20 : decode cX11_back 20 = .ok (.bipush (-2), 2) := dk_16 254 (dk_at dksX11_back_0 20 rfl rfl)
theorem dX11_back_22 : decode cX11_back 22 = .ok (.ireturn, 1) := dk_172 (dk_at dksX11_back_0 22 rfl rfl)
theorem dX11_back_23 : decode cX11_back 23 = .ok (.iconst 0, 1) := dk_3 (dk_at dksX11_back_0 23 rfl rfl)
theorem dX11_back_24 : decode cX11_back 24 = .ok (.istore_n 2, 1) := dk_61 (dk_at dksX11_back_1 0 rfl rfl)
theorem dX11_back_25 : decode cX11_back 25 = .ok (.iload_n 2, 1) := dk_28 (dk_at dksX11_back_1 1 rfl rfl)
theorem dX11_back_26 : decode cX11_back 26 = .ok (.bipush 34, 2) := dk_16 34 (dk_at dksX11_back_1 2 rfl rfl)
theorem dX11_back_28 : decode cX11_back 28 = .ok (.if_icmp .ge 26, 3) := dk_162 0 26 (dk_at dksX11_back_1 4 rfl rfl)
theorem dX11_back_31 : decode cX11_back 31 = .ok (.aload_n 0, 1) := dk_42 (dk_at dksX11_back_1 7 rfl rfl)
theorem dX11_back_32 : decode cX11_back 32 = .ok (.getfield 38, 3) := dk_180 0 38 (dk_at dksX11_back_1 8 rfl rfl)
theorem dX11_back_35 : decode cX11_back 35 = .ok (.iload_n 2, 1) := dk_28 (dk_at dksX11_back_1 11 rfl rfl)
theorem dX11_back_36 : decode cX11_back 36 = .ok (.aload_n 0, 1) := dk_42 (dk_at dksX11_back_1 12 rfl rfl)
theorem dX11_back_37 : decode cX11_back 37 = .ok (.getfield 47, 3) := dk_180 0 47 (dk_at dksX11_back_1 13 rfl rfl)
theorem dX11_back_40 : decode cX11_back 40 = .ok (.bipush 34, 2) := dk_16 34 (dk_at dksX11_back_1 16 rfl rfl)
theorem dX11_back_42 : decode cX11_back 42 = .ok (.iload_n 1, 1) := dk_27 (dk_at dksX11_back_1 18 rfl rfl)
theorem dX11_back_43 : decode cX11_back 43 = .ok (.imul, 1) := dk_104 (dk_at dksX11_back_1 19 rfl rfl)
theorem dX11_back_44 : decode cX11_back 44 = .ok (.iload_n 2, 1) := dk_28 (dk_at dksX11_back_1 20 rfl rfl)
theorem dX11_back_45 : decode cX11_back 45 = .ok (.iadd, 1) := dk_96 (dk_at dksX11_back_1 21 rfl rfl)
theorem dX11_back_46 : decode cX11_back 46 = .ok (.iaload, 1) := dk_46 (dk_at dksX11_back_1 22 rfl rfl)
theorem dX11_back_47 : decode cX11_back 47 = .ok (.iastore, 1) := dk_79 (dk_at dksX11_back_1 23 rfl rfl)
theorem dX11_back_48 : decode cX11_back 48 = .ok (.iinc 2 1, 3) := dk_132 2 1 (dk_at dksX11_back_2 0 rfl rfl)
theorem dX11_back_51 : decode cX11_back 51 = .ok (.goto (-26), 3) := dk_167 255 230 (dk_at dksX11_back_2 3 rfl rfl)
theorem dX11_back_54 : decode cX11_back 54 = .ok (.iconst 0, 1) := dk_3 (dk_at dksX11_back_2 6 rfl rfl)
theorem dX11_back_55 : decode cX11_back 55 = .ok (.istore_n 2, 1) := dk_61 (dk_at dksX11_back_2 7 rfl rfl)
theorem dX11_back_56 : decode cX11_back 56 = .ok (.iload_n 2, 1) := dk_28 (dk_at dksX11_back_2 8 rfl rfl)
theorem dX11_back_57 : decode cX11_back 57 = .ok (.sipush 340, 3) := dk_17 1 84 (dk_at dksX11_back_2 9 rfl rfl)
theorem dX11_back_60 : decode cX11_back 60 = .ok (.if_icmp .ge 29, 3) := dk_162 0 29 (dk_at dksX11_back_2 12 rfl rfl)
theorem dX11_back_63 : decode cX11_back 63 = .ok (.aload_n 0, 1) := dk_42 (dk_at dksX11_back_2 15 rfl rfl)
theorem dX11_back_64 : decode cX11_back 64 = .ok (.getfield 44, 3) := dk_180 0 44 (dk_at dksX11_back_2 16 rfl rfl)
theorem dX11_back_67 : decode cX11_back 67 = .ok (.iload_n 2, 1) := dk_28 (dk_at dksX11_back_2 19 rfl rfl)
theorem dX11_back_68 : decode cX11_back 68 = .ok (.aload_n 0, 1) := dk_42 (dk_at dksX11_back_2 20 rfl rfl)
theorem dX11_back_69 : decode cX11_back 69 = .ok (.getfield 44, 3) := dk_180 0 44 (dk_at dksX11_back_2 21 rfl rfl)
theorem dX11_back_72 : decode cX11_back 72 = .ok (.sipush 340, 3) := dk_17 1 84 (dk_at dksX11_back_3 0 rfl rfl)
theorem dX11_back_75 : decode cX11_back 75 = .ok (.iconst 1, 1) := dk_4 (dk_at dksX11_back_3 3 rfl rfl)
theorem dX11_back_76 : decode cX11_back 76 = .ok (.iload_n 1, 1) := dk_27 (dk_at dksX11_back_3 4 rfl rfl)
theorem dX11_back_77 : decode cX11_back 77 = .ok (.iadd, 1) := dk_96 (dk_at dksX11_back_3 5 rfl rfl)
theorem dX11_back_78 : decode cX11_back 78 = .ok (.imul, 1) := dk_104 (dk_at dksX11_back_3 6 rfl rfl)
theorem dX11_back_79 : decode cX11_back 79 = .ok (.iload_n 2, 1) := dk_28 (dk_at dksX11_back_3 7 rfl rfl)
theorem dX11_back_80 : decode cX11_back 80 = .ok (.iadd, 1) := dk_96 (dk_at dksX11_back_3 8 rfl rfl)
theorem dX11_back_81 : decode cX11_back 81 = .ok (.iaload, 1) := dk_46 (dk_at dksX11_back_3 9 rfl rfl)
theorem dX11_back_82 : decode cX11_back 82 = .ok (.iastore, 1) := dk_79 (dk_at dksX11_back_3 10 rfl rfl)
theorem dX11_back_83 : decode cX11_back 83 = .ok (.iinc 2 1, 3) := dk_132 2 1 (dk_at dksX11_back_3 11 rfl rfl)
theorem dX11_back_86 : decode cX11_back 86 = .ok (.goto (-30), 3) := dk_167 255 226 (dk_at dksX11_back_3 14 rfl rfl)
theorem dX11_back_89 : decode cX11_back 89 = .ok (.aload_n 0, 1) := dk_42 (dk_at dksX11_back_3 17 rfl rfl)
theorem dX11_back_90 : decode cX11_back 90 = .ok (.getfield 41, 3) := dk_180 0 41 (dk_at dksX11_back_3 18 rfl rfl)
theorem dX11_back_93 : decode cX11_back 93 = .ok (.iconst 0, 1) := dk_3 (dk_at dksX11_back_3 21 rfl rfl)
theorem dX11_back_94 : decode cX11_back 94 = .ok (.aload_n 0, 1) := dk_42 (dk_at dksX11_back_3 22 rfl rfl)
theorem dX11_back_95 : decode cX11_back 95 = .ok (.getfield 41, 3) := dk_180 0 41 (dk_at dksX11_back_4 0 rfl rfl)
theorem dX11_back_98 : decode cX11_back 98 = .ok (.iconst 1, 1) := dk_4 (dk_at dksX11_back_4 3 rfl rfl)
theorem dX11_back_99 : decode cX11_back 99 = .ok (.iload_n 1, 1) := dk_27 (dk_at dksX11_back_4 4 rfl rfl)
theorem dX11_back_100 : decode cX11_back 100 = .ok (.iadd, 1) := dk_96 (dk_at dksX11_back_4 5 rfl rfl)
theorem dX11_back_101 : decode cX11_back 101 = .ok (.iaload, 1) := dk_46 (dk_at dksX11_back_4 6 rfl rfl)
theorem dX11_back_102 : decode cX11_back 102 = .ok (.iastore, 1) := dk_79 (dk_at dksX11_back_4 7 rfl rfl)
theorem dX11_back_103 : decode cX11_back 103 = .ok (.aload_n 0, 1) := dk_42 (dk_at dksX11_back_4 8 rfl rfl)
theorem dX11_back_104 : decode cX11_back 104 = .ok (.getfield 38, 3) := dk_180 0 38 (dk_at dksX11_back_4 9 rfl rfl)
theorem dX11_back_107 : decode cX11_back 107 = .ok (.iconst 0, 1) := dk_3 (dk_at dksX11_back_4 12 rfl rfl)
theorem dX11_back_108 : decode cX11_back 108 = .ok (.iaload, 1) := dk_46 (dk_at dksX11_back_4 13 rfl rfl)
theorem dX11_back_109 : decode cX11_back 109 = .ok (.ireturn, 1) := dk_172 (dk_at dksX11_back_4 14 rfl rfl)
abbrev cX11_count : ByteArray := prog_14_method_57_code
def yX11_count : MethodName := ⟨RX11, "count", "(I)I"⟩
def dkwX11_count_3 : List UInt8 := [180, 0, 116, 172, 42, 180, 0, 41, 3, 46, 172, 42, 180, 0, 67, 172, 2, 172]
abbrev dktX11_count_3 : List UInt8 := dkwX11_count_3 ++ []
def dkwX11_count_2 : List UInt8 := [42, 180, 0, 13, 3, 46, 172, 42, 180, 0, 17, 3, 46, 172, 42, 180, 0, 29, 3, 46, 172, 42]
abbrev dktX11_count_2 : List UInt8 := dkwX11_count_2 ++ dktX11_count_3
def dkwX11_count_1 : List UInt8 := [170, 0, 0, 0, 0, 0, 77, 0, 0, 0, 0, 0, 0, 0, 5, 0, 0, 0, 39, 0, 0, 0, 46, 0, 0, 0, 53, 0, 0, 0, 60, 0, 0, 0, 65, 0, 0, 0, 72]
abbrev dktX11_count_1 : List UInt8 := dkwX11_count_1 ++ dktX11_count_2
def dkwX11_count_0 : List UInt8 := [27]
abbrev dktX11_count_0 : List UInt8 := dkwX11_count_0 ++ dktX11_count_1
theorem dksX11_count_0 : cX11_count.data.toList.drop 0 = dktX11_count_0 := by decide +kernel
theorem dksX11_count_1 : cX11_count.data.toList.drop 1 = dktX11_count_1 := dk_seg dksX11_count_0 1 rfl rfl
theorem dksX11_count_2 : cX11_count.data.toList.drop 40 = dktX11_count_2 := dk_seg dksX11_count_1 39 rfl rfl
theorem dksX11_count_3 : cX11_count.data.toList.drop 62 = dktX11_count_3 := dk_seg dksX11_count_2 22 rfl rfl
theorem dX11_count_0 : decode cX11_count 0 = .ok (.iload_n 1, 1) := dk_27 (dk_at dksX11_count_0 0 rfl rfl)
theorem dX11_count_1 : decode cX11_count 1 = .ok (.tableswitch 77 0 5 #[39, 46, 53, 60, 65, 72], 39) := by decide +kernel
theorem dX11_count_40 : decode cX11_count 40 = .ok (.aload_n 0, 1) := dk_42 (dk_at dksX11_count_2 0 rfl rfl)
theorem dX11_count_41 : decode cX11_count 41 = .ok (.getfield 13, 3) := dk_180 0 13 (dk_at dksX11_count_2 1 rfl rfl)
theorem dX11_count_44 : decode cX11_count 44 = .ok (.iconst 0, 1) := dk_3 (dk_at dksX11_count_2 4 rfl rfl)
theorem dX11_count_45 : decode cX11_count 45 = .ok (.iaload, 1) := dk_46 (dk_at dksX11_count_2 5 rfl rfl)
theorem dX11_count_46 : decode cX11_count 46 = .ok (.ireturn, 1) := dk_172 (dk_at dksX11_count_2 6 rfl rfl)
theorem dX11_count_47 : decode cX11_count 47 = .ok (.aload_n 0, 1) := dk_42 (dk_at dksX11_count_2 7 rfl rfl)
theorem dX11_count_48 : decode cX11_count 48 = .ok (.getfield 17, 3) := dk_180 0 17 (dk_at dksX11_count_2 8 rfl rfl)
theorem dX11_count_51 : decode cX11_count 51 = .ok (.iconst 0, 1) := dk_3 (dk_at dksX11_count_2 11 rfl rfl)
theorem dX11_count_52 : decode cX11_count 52 = .ok (.iaload, 1) := dk_46 (dk_at dksX11_count_2 12 rfl rfl)
theorem dX11_count_53 : decode cX11_count 53 = .ok (.ireturn, 1) := dk_172 (dk_at dksX11_count_2 13 rfl rfl)
theorem dX11_count_54 : decode cX11_count 54 = .ok (.aload_n 0, 1) := dk_42 (dk_at dksX11_count_2 14 rfl rfl)
theorem dX11_count_55 : decode cX11_count 55 = .ok (.getfield 29, 3) := dk_180 0 29 (dk_at dksX11_count_2 15 rfl rfl)
theorem dX11_count_58 : decode cX11_count 58 = .ok (.iconst 0, 1) := dk_3 (dk_at dksX11_count_2 18 rfl rfl)
theorem dX11_count_59 : decode cX11_count 59 = .ok (.iaload, 1) := dk_46 (dk_at dksX11_count_2 19 rfl rfl)
theorem dX11_count_60 : decode cX11_count 60 = .ok (.ireturn, 1) := dk_172 (dk_at dksX11_count_2 20 rfl rfl)
theorem dX11_count_61 : decode cX11_count 61 = .ok (.aload_n 0, 1) := dk_42 (dk_at dksX11_count_2 21 rfl rfl)
theorem dX11_count_62 : decode cX11_count 62 = .ok (.getfield 116, 3) := dk_180 0 116 (dk_at dksX11_count_3 0 rfl rfl)
theorem dX11_count_65 : decode cX11_count 65 = .ok (.ireturn, 1) := dk_172 (dk_at dksX11_count_3 3 rfl rfl)
theorem dX11_count_66 : decode cX11_count 66 = .ok (.aload_n 0, 1) := dk_42 (dk_at dksX11_count_3 4 rfl rfl)
theorem dX11_count_67 : decode cX11_count 67 = .ok (.getfield 41, 3) := dk_180 0 41 (dk_at dksX11_count_3 5 rfl rfl)
theorem dX11_count_70 : decode cX11_count 70 = .ok (.iconst 0, 1) := dk_3 (dk_at dksX11_count_3 8 rfl rfl)
theorem dX11_count_71 : decode cX11_count 71 = .ok (.iaload, 1) := dk_46 (dk_at dksX11_count_3 9 rfl rfl)
theorem dX11_count_72 : decode cX11_count 72 = .ok (.ireturn, 1) := dk_172 (dk_at dksX11_count_3 10 rfl rfl)
theorem dX11_count_73 : decode cX11_count 73 = .ok (.aload_n 0, 1) := dk_42 (dk_at dksX11_count_3 11 rfl rfl)
theorem dX11_count_74 : decode cX11_count 74 = .ok (.getfield 67, 3) := dk_180 0 67 (dk_at dksX11_count_3 12 rfl rfl)
theorem dX11_count_77 : decode cX11_count 77 = .ok (.ireturn, 1) := dk_172 (dk_at dksX11_count_3 15 rfl rfl)
theorem dX11_count_78 : decode cX11_count 78 = .ok (.iconst (-1), 1) := dk_2 (dk_at dksX11_count_3 16 rfl rfl)
theorem dX11_count_79 : decode cX11_count 79 = .ok (.ireturn, 1) := dk_172 (dk_at dksX11_count_3 17 rfl rfl)
theorem q65 : (Jvm.Cond.initialized "KindStreetsModel") ∈ lw_all := lw_g (lw_at lw_m1 12 rfl) rfl
theorem q820 : (Jvm.Cond.instantiable "KindStreetsModel" (26 : Nat)) ∈ lw_all := lw_g (lw_at lw_m4 47 rfl) rfl
theorem q822 : (Jvm.Cond.instanceMethod ({ cls := "KindStreetsModel", name := "<init>", desc := "()V" } : Jvm.MethodName)) ∈ lw_all := lw_g (lw_at lw_m4 49 rfl) rfl
theorem q823 : (Jvm.Cond.code ({ cls := "KindStreetsModel", name := "<init>", desc := "()V" } : Jvm.MethodName) prog_14_method_1_code (1 : Nat) (Option.none : Option Jvm.ClassFile.FieldType)) ∈ lw_all := lw_g (lw_at lw_m4 50 rfl) rfl
theorem q824 : (Jvm.Cond.methodLink "KindStreetsModel" (1 : Nat) ({ cls := "java/lang/Object", name := "<init>", desc := "()V" } : Jvm.MethodName)) ∈ lw_all := lw_g (lw_at lw_m4 51 rfl) rfl
theorem q825 : (Jvm.Cond.fieldLink "KindStreetsModel" (7 : Nat) "KindStreetsModel" "text" "[B") ∈ lw_all := lw_g (lw_at lw_m4 52 rfl) rfl
theorem q826 : (Jvm.Cond.fieldLink "KindStreetsModel" (67 : Nat) "KindStreetsModel" "typed" "I") ∈ lw_all := lw_g (lw_at lw_m4 53 rfl) rfl
theorem q827 : (Jvm.Cond.fieldLink "KindStreetsModel" (13 : Nat) "KindStreetsModel" "yards" "[I") ∈ lw_all := lw_g (lw_at lw_m4 54 rfl) rfl
theorem q828 : (Jvm.Cond.fieldLink "KindStreetsModel" (17 : Nat) "KindStreetsModel" "streets" "[I") ∈ lw_all := lw_g (lw_at lw_m4 55 rfl) rfl
theorem q829 : (Jvm.Cond.fieldLink "KindStreetsModel" (20 : Nat) "KindStreetsModel" "from" "[I") ∈ lw_all := lw_g (lw_at lw_m4 56 rfl) rfl
theorem q830 : (Jvm.Cond.fieldLink "KindStreetsModel" (23 : Nat) "KindStreetsModel" "to" "[I") ∈ lw_all := lw_g (lw_at lw_m4 57 rfl) rfl
theorem q831 : (Jvm.Cond.fieldLink "KindStreetsModel" (26 : Nat) "KindStreetsModel" "old" "[I") ∈ lw_all := lw_g (lw_at lw_m4 58 rfl) rfl
theorem q832 : (Jvm.Cond.fieldLink "KindStreetsModel" (29 : Nat) "KindStreetsModel" "people" "[I") ∈ lw_all := lw_g (lw_at lw_m4 59 rfl) rfl
theorem q833 : (Jvm.Cond.fieldLink "KindStreetsModel" (32 : Nat) "KindStreetsModel" "home" "[I") ∈ lw_all := lw_g (lw_at lw_m4 60 rfl) rfl
theorem q834 : (Jvm.Cond.fieldLink "KindStreetsModel" (35 : Nat) "KindStreetsModel" "wants" "[I") ∈ lw_all := lw_g (lw_at lw_m4 61 rfl) rfl
theorem q835 : (Jvm.Cond.fieldLink "KindStreetsModel" (71 : Nat) "KindStreetsModel" "at" "I") ∈ lw_all := lw_g (lw_at lw_m4 62 rfl) rfl
theorem q836 : (Jvm.Cond.fieldLink "KindStreetsModel" (78 : Nat) "KindStreetsModel" "place" "I") ∈ lw_all := lw_g (lw_at lw_m4 63 rfl) rfl
theorem q837 : (Jvm.Cond.fieldLink "KindStreetsModel" (84 : Nat) "KindStreetsModel" "sort" "I") ∈ lw_all := lw_g (lw_at lw_m4 64 rfl) rfl
theorem q838 : (Jvm.Cond.fieldLink "KindStreetsModel" (81 : Nat) "KindStreetsModel" "value" "I") ∈ lw_all := lw_g (lw_at lw_m4 65 rfl) rfl
theorem q839 : (Jvm.Cond.fieldLink "KindStreetsModel" (87 : Nat) "KindStreetsModel" "isWrong" "Z") ∈ lw_all := lw_g (lw_at lw_m4 66 rfl) rfl
theorem q840 : (Jvm.Cond.fieldLink "KindStreetsModel" (102 : Nat) "KindStreetsModel" "items" "I") ∈ lw_all := lw_g (lw_at lw_m4 67 rfl) rfl
theorem q841 : (Jvm.Cond.fieldLink "KindStreetsModel" (38 : Nat) "KindStreetsModel" "now" "[I") ∈ lw_all := lw_g (lw_at lw_m4 68 rfl) rfl
theorem q842 : (Jvm.Cond.fieldLink "KindStreetsModel" (41 : Nat) "KindStreetsModel" "known" "[I") ∈ lw_all := lw_g (lw_at lw_m4 69 rfl) rfl
theorem q843 : (Jvm.Cond.fieldLink "KindStreetsModel" (44 : Nat) "KindStreetsModel" "before" "[I") ∈ lw_all := lw_g (lw_at lw_m4 70 rfl) rfl
theorem q844 : (Jvm.Cond.fieldLink "KindStreetsModel" (47 : Nat) "KindStreetsModel" "store" "[I") ∈ lw_all := lw_g (lw_at lw_m4 71 rfl) rfl
theorem q845 : (Jvm.Cond.fieldLink "KindStreetsModel" (50 : Nat) "KindStreetsModel" "isKept" "[Z") ∈ lw_all := lw_g (lw_at lw_m4 72 rfl) rfl
theorem q846 : (Jvm.Cond.fieldLink "KindStreetsModel" (54 : Nat) "KindStreetsModel" "most" "[I") ∈ lw_all := lw_g (lw_at lw_m4 73 rfl) rfl
theorem q847 : (Jvm.Cond.fieldLink "KindStreetsModel" (57 : Nat) "KindStreetsModel" "factWidth" "[I") ∈ lw_all := lw_g (lw_at lw_m4 74 rfl) rfl
theorem q848 : (Jvm.Cond.fieldLink "KindStreetsModel" (60 : Nat) "KindStreetsModel" "factNight" "[I") ∈ lw_all := lw_g (lw_at lw_m4 75 rfl) rfl
theorem q849 : (Jvm.Cond.fieldLink "KindStreetsModel" (116 : Nat) "KindStreetsModel" "facts" "I") ∈ lw_all := lw_g (lw_at lw_m4 76 rfl) rfl
theorem q850 : (Jvm.Cond.fieldLink "KindStreetsModel" (186 : Nat) "KindStreetsModel" "trace" "J") ∈ lw_all := lw_g (lw_at lw_m4 77 rfl) rfl
theorem q851 : (Jvm.Cond.laysFinal "KindStreetsModel" "KindStreetsModel" "text" "[B") ∈ lw_all := lw_g (lw_at lw_m4 78 rfl) rfl
theorem q852 : (Jvm.Cond.soleField "KindStreetsModel" "text") ∈ lw_all := lw_g (lw_at lw_m4 79 rfl) rfl
theorem q853 : (Jvm.Cond.lays "KindStreetsModel" "KindStreetsModel" "typed" "I") ∈ lw_all := lw_g (lw_at lw_m4 80 rfl) rfl
theorem q854 : (Jvm.Cond.soleField "KindStreetsModel" "typed") ∈ lw_all := lw_g (lw_at lw_m4 81 rfl) rfl
theorem q855 : (Jvm.Cond.laysFinal "KindStreetsModel" "KindStreetsModel" "yards" "[I") ∈ lw_all := lw_g (lw_at lw_m4 82 rfl) rfl
theorem q856 : (Jvm.Cond.soleField "KindStreetsModel" "yards") ∈ lw_all := lw_g (lw_at lw_m4 83 rfl) rfl
theorem q857 : (Jvm.Cond.laysFinal "KindStreetsModel" "KindStreetsModel" "streets" "[I") ∈ lw_all := lw_g (lw_at lw_m4 84 rfl) rfl
theorem q858 : (Jvm.Cond.soleField "KindStreetsModel" "streets") ∈ lw_all := lw_g (lw_at lw_m4 85 rfl) rfl
theorem q859 : (Jvm.Cond.laysFinal "KindStreetsModel" "KindStreetsModel" "from" "[I") ∈ lw_all := lw_g (lw_at lw_m4 86 rfl) rfl
theorem q860 : (Jvm.Cond.soleField "KindStreetsModel" "from") ∈ lw_all := lw_g (lw_at lw_m4 87 rfl) rfl
theorem q861 : (Jvm.Cond.laysFinal "KindStreetsModel" "KindStreetsModel" "to" "[I") ∈ lw_all := lw_g (lw_at lw_m4 88 rfl) rfl
theorem q862 : (Jvm.Cond.soleField "KindStreetsModel" "to") ∈ lw_all := lw_g (lw_at lw_m4 89 rfl) rfl
theorem q863 : (Jvm.Cond.laysFinal "KindStreetsModel" "KindStreetsModel" "old" "[I") ∈ lw_all := lw_g (lw_at lw_m4 90 rfl) rfl
theorem q864 : (Jvm.Cond.soleField "KindStreetsModel" "old") ∈ lw_all := lw_g (lw_at lw_m4 91 rfl) rfl
theorem q865 : (Jvm.Cond.laysFinal "KindStreetsModel" "KindStreetsModel" "people" "[I") ∈ lw_all := lw_g (lw_at lw_m4 92 rfl) rfl
theorem q866 : (Jvm.Cond.soleField "KindStreetsModel" "people") ∈ lw_all := lw_g (lw_at lw_m4 93 rfl) rfl
theorem q867 : (Jvm.Cond.laysFinal "KindStreetsModel" "KindStreetsModel" "home" "[I") ∈ lw_all := lw_g (lw_at lw_m4 94 rfl) rfl
theorem q868 : (Jvm.Cond.soleField "KindStreetsModel" "home") ∈ lw_all := lw_g (lw_at lw_m4 95 rfl) rfl
theorem q869 : (Jvm.Cond.laysFinal "KindStreetsModel" "KindStreetsModel" "wants" "[I") ∈ lw_all := lw_g (lw_at lw_m4 96 rfl) rfl
theorem q870 : (Jvm.Cond.soleField "KindStreetsModel" "wants") ∈ lw_all := lw_g (lw_at lw_m4 97 rfl) rfl
theorem q871 : (Jvm.Cond.lays "KindStreetsModel" "KindStreetsModel" "at" "I") ∈ lw_all := lw_g (lw_at lw_m4 98 rfl) rfl
theorem q872 : (Jvm.Cond.soleField "KindStreetsModel" "at") ∈ lw_all := lw_g (lw_at lw_m4 99 rfl) rfl
theorem q873 : (Jvm.Cond.lays "KindStreetsModel" "KindStreetsModel" "place" "I") ∈ lw_all := lw_g (lw_at lw_m4 100 rfl) rfl
theorem q874 : (Jvm.Cond.soleField "KindStreetsModel" "place") ∈ lw_all := lw_g (lw_at lw_m4 101 rfl) rfl
theorem q875 : (Jvm.Cond.lays "KindStreetsModel" "KindStreetsModel" "sort" "I") ∈ lw_all := lw_g (lw_at lw_m4 102 rfl) rfl
theorem q876 : (Jvm.Cond.soleField "KindStreetsModel" "sort") ∈ lw_all := lw_g (lw_at lw_m4 103 rfl) rfl
theorem q877 : (Jvm.Cond.lays "KindStreetsModel" "KindStreetsModel" "value" "I") ∈ lw_all := lw_g (lw_at lw_m4 104 rfl) rfl
theorem q878 : (Jvm.Cond.soleField "KindStreetsModel" "value") ∈ lw_all := lw_g (lw_at lw_m4 105 rfl) rfl
theorem q879 : (Jvm.Cond.lays "KindStreetsModel" "KindStreetsModel" "isWrong" "Z") ∈ lw_all := lw_g (lw_at lw_m4 106 rfl) rfl
theorem q880 : (Jvm.Cond.soleField "KindStreetsModel" "isWrong") ∈ lw_all := lw_g (lw_at lw_m4 107 rfl) rfl
theorem q881 : (Jvm.Cond.lays "KindStreetsModel" "KindStreetsModel" "items" "I") ∈ lw_all := lw_g (lw_at lw_m4 108 rfl) rfl
theorem q882 : (Jvm.Cond.soleField "KindStreetsModel" "items") ∈ lw_all := lw_g (lw_at lw_m4 109 rfl) rfl
theorem q883 : (Jvm.Cond.laysFinal "KindStreetsModel" "KindStreetsModel" "now" "[I") ∈ lw_all := lw_g (lw_at lw_m4 110 rfl) rfl
theorem q884 : (Jvm.Cond.soleField "KindStreetsModel" "now") ∈ lw_all := lw_g (lw_at lw_m4 111 rfl) rfl
theorem q885 : (Jvm.Cond.laysFinal "KindStreetsModel" "KindStreetsModel" "known" "[I") ∈ lw_all := lw_g (lw_at lw_m4 112 rfl) rfl
theorem q886 : (Jvm.Cond.soleField "KindStreetsModel" "known") ∈ lw_all := lw_g (lw_at lw_m4 113 rfl) rfl
theorem q887 : (Jvm.Cond.laysFinal "KindStreetsModel" "KindStreetsModel" "before" "[I") ∈ lw_all := lw_g (lw_at lw_m4 114 rfl) rfl
theorem q888 : (Jvm.Cond.soleField "KindStreetsModel" "before") ∈ lw_all := lw_g (lw_at lw_m4 115 rfl) rfl
theorem q889 : (Jvm.Cond.laysFinal "KindStreetsModel" "KindStreetsModel" "store" "[I") ∈ lw_all := lw_g (lw_at lw_m4 116 rfl) rfl
theorem q890 : (Jvm.Cond.soleField "KindStreetsModel" "store") ∈ lw_all := lw_g (lw_at lw_m4 117 rfl) rfl
theorem q891 : (Jvm.Cond.laysFinal "KindStreetsModel" "KindStreetsModel" "isKept" "[Z") ∈ lw_all := lw_g (lw_at lw_m4 118 rfl) rfl
theorem q892 : (Jvm.Cond.soleField "KindStreetsModel" "isKept") ∈ lw_all := lw_g (lw_at lw_m4 119 rfl) rfl
theorem q893 : (Jvm.Cond.laysFinal "KindStreetsModel" "KindStreetsModel" "most" "[I") ∈ lw_all := lw_g (lw_at lw_m4 120 rfl) rfl
theorem q894 : (Jvm.Cond.soleField "KindStreetsModel" "most") ∈ lw_all := lw_g (lw_at lw_m4 121 rfl) rfl
theorem q895 : (Jvm.Cond.laysFinal "KindStreetsModel" "KindStreetsModel" "factWidth" "[I") ∈ lw_all := lw_g (lw_at lw_m4 122 rfl) rfl
theorem q896 : (Jvm.Cond.soleField "KindStreetsModel" "factWidth") ∈ lw_all := lw_g (lw_at lw_m4 123 rfl) rfl
theorem q897 : (Jvm.Cond.laysFinal "KindStreetsModel" "KindStreetsModel" "factNight" "[I") ∈ lw_all := lw_g (lw_at lw_m4 124 rfl) rfl
theorem q898 : (Jvm.Cond.soleField "KindStreetsModel" "factNight") ∈ lw_all := lw_g (lw_at lw_m4 125 rfl) rfl
theorem q899 : (Jvm.Cond.lays "KindStreetsModel" "KindStreetsModel" "facts" "I") ∈ lw_all := lw_g (lw_at lw_m4 126 rfl) rfl
theorem q900 : (Jvm.Cond.soleField "KindStreetsModel" "facts") ∈ lw_all := lw_g (lw_at lw_m4 127 rfl) rfl
theorem q901 : (Jvm.Cond.lays "KindStreetsModel" "KindStreetsModel" "trace" "J") ∈ lw_all := lw_g (lw_at lw_m4 128 rfl) rfl
theorem q902 : (Jvm.Cond.soleField "KindStreetsModel" "trace") ∈ lw_all := lw_g (lw_at lw_m4 129 rfl) rfl
theorem q903 : (Jvm.Cond.superclass "KindStreetsModel" "java/lang/Object") ∈ lw_all := lw_g (lw_at lw_m4 130 rfl) rfl
theorem q905 : (Jvm.Cond.instanceMethod ({ cls := "KindStreetsModel", name := "type", desc := "(I)I" } : Jvm.MethodName)) ∈ lw_all := lw_g (lw_at lw_m4 132 rfl) rfl
theorem q906 : (Jvm.Cond.selects "KindStreetsModel" ({ cls := "KindStreetsModel", name := "type", desc := "(I)I" } : Jvm.MethodName) ({ cls := "KindStreetsModel", name := "type", desc := "(I)I" } : Jvm.MethodName)) ∈ lw_all := lw_g (lw_at lw_m4 133 rfl) rfl
theorem q907 : (Jvm.Cond.code ({ cls := "KindStreetsModel", name := "type", desc := "(I)I" } : Jvm.MethodName) prog_14_method_6_code (2 : Nat) (Option.some Jvm.ClassFile.FieldType.int)) ∈ lw_all := lw_g (lw_at lw_m4 134 rfl) rfl
theorem q908 : (Jvm.Cond.methodLink "KindStreetsModel" (63 : Nat) ({ cls := "KindStreetsModel", name := "in", desc := "(III)Z" } : Jvm.MethodName)) ∈ lw_all := lw_g (lw_at lw_m4 135 rfl) rfl
theorem q909 : (Jvm.Cond.static ({ cls := "KindStreetsModel", name := "in", desc := "(III)Z" } : Jvm.MethodName)) ∈ lw_all := lw_g (lw_at lw_m4 136 rfl) rfl
theorem q910 : (Jvm.Cond.code ({ cls := "KindStreetsModel", name := "in", desc := "(III)Z" } : Jvm.MethodName) prog_14_method_3_code (3 : Nat) (Option.some Jvm.ClassFile.FieldType.boolean)) ∈ lw_all := lw_g (lw_at lw_m4 137 rfl) rfl
theorem q912 : (Jvm.Cond.instanceMethod ({ cls := "KindStreetsModel", name := "clear", desc := "()I" } : Jvm.MethodName)) ∈ lw_all := lw_g (lw_at lw_m4 139 rfl) rfl
theorem q913 : (Jvm.Cond.selects "KindStreetsModel" ({ cls := "KindStreetsModel", name := "clear", desc := "()I" } : Jvm.MethodName) ({ cls := "KindStreetsModel", name := "clear", desc := "()I" } : Jvm.MethodName)) ∈ lw_all := lw_g (lw_at lw_m4 140 rfl) rfl
theorem q914 : (Jvm.Cond.code ({ cls := "KindStreetsModel", name := "clear", desc := "()I" } : Jvm.MethodName) prog_14_method_7_code (2 : Nat) (Option.some Jvm.ClassFile.FieldType.int)) ∈ lw_all := lw_g (lw_at lw_m4 141 rfl) rfl
theorem q916 : (Jvm.Cond.instanceMethod ({ cls := "KindStreetsModel", name := "town", desc := "()I" } : Jvm.MethodName)) ∈ lw_all := lw_g (lw_at lw_m4 143 rfl) rfl
theorem q917 : (Jvm.Cond.selects "KindStreetsModel" ({ cls := "KindStreetsModel", name := "town", desc := "()I" } : Jvm.MethodName) ({ cls := "KindStreetsModel", name := "town", desc := "()I" } : Jvm.MethodName)) ∈ lw_all := lw_g (lw_at lw_m4 144 rfl) rfl
theorem q918 : (Jvm.Cond.code ({ cls := "KindStreetsModel", name := "town", desc := "()I" } : Jvm.MethodName) prog_14_method_15_code (2 : Nat) (Option.some Jvm.ClassFile.FieldType.int)) ∈ lw_all := lw_g (lw_at lw_m4 145 rfl) rfl
theorem q919 : (Jvm.Cond.methodLink "KindStreetsModel" (113 : Nat) ({ cls := "KindStreetsModel", name := "read", desc := "()V" } : Jvm.MethodName)) ∈ lw_all := lw_g (lw_at lw_m4 146 rfl) rfl
theorem q920 : (Jvm.Cond.privateMethod ({ cls := "KindStreetsModel", name := "read", desc := "()V" } : Jvm.MethodName)) ∈ lw_tbl := lw_at lw_m4 147 rfl
theorem q921 : (Jvm.Cond.instanceMethod ({ cls := "KindStreetsModel", name := "read", desc := "()V" } : Jvm.MethodName)) ∈ lw_all := lw_g (lw_at lw_m4 148 rfl) rfl
theorem q922 : (Jvm.Cond.code ({ cls := "KindStreetsModel", name := "read", desc := "()V" } : Jvm.MethodName) prog_14_method_14_code (2 : Nat) (Option.none : Option Jvm.ClassFile.FieldType)) ∈ lw_all := lw_g (lw_at lw_m4 149 rfl) rfl
theorem q923 : (Jvm.Cond.methodLink "KindStreetsModel" (91 : Nat) ({ cls := "KindStreetsModel", name := "step", desc := "()V" } : Jvm.MethodName)) ∈ lw_all := lw_g (lw_at lw_m4 150 rfl) rfl
theorem q924 : (Jvm.Cond.privateMethod ({ cls := "KindStreetsModel", name := "step", desc := "()V" } : Jvm.MethodName)) ∈ lw_tbl := lw_at lw_m4 151 rfl
theorem q925 : (Jvm.Cond.instanceMethod ({ cls := "KindStreetsModel", name := "step", desc := "()V" } : Jvm.MethodName)) ∈ lw_all := lw_g (lw_at lw_m4 152 rfl) rfl
theorem q926 : (Jvm.Cond.code ({ cls := "KindStreetsModel", name := "step", desc := "()V" } : Jvm.MethodName) prog_14_method_9_code (2 : Nat) (Option.none : Option Jvm.ClassFile.FieldType)) ∈ lw_all := lw_g (lw_at lw_m4 153 rfl) rfl
theorem q927 : (Jvm.Cond.methodLink "KindStreetsModel" (74 : Nat) ({ cls := "KindStreetsModel", name := "here", desc := "()I" } : Jvm.MethodName)) ∈ lw_all := lw_g (lw_at lw_m4 154 rfl) rfl
theorem q928 : (Jvm.Cond.privateMethod ({ cls := "KindStreetsModel", name := "here", desc := "()I" } : Jvm.MethodName)) ∈ lw_tbl := lw_at lw_m4 155 rfl
theorem q929 : (Jvm.Cond.instanceMethod ({ cls := "KindStreetsModel", name := "here", desc := "()I" } : Jvm.MethodName)) ∈ lw_all := lw_g (lw_at lw_m4 156 rfl) rfl
theorem q930 : (Jvm.Cond.code ({ cls := "KindStreetsModel", name := "here", desc := "()I" } : Jvm.MethodName) prog_14_method_8_code (1 : Nat) (Option.some Jvm.ClassFile.FieldType.int)) ∈ lw_all := lw_g (lw_at lw_m4 157 rfl) rfl
theorem q931 : (Jvm.Cond.methodLink "KindStreetsModel" (105 : Nat) ({ cls := "KindStreetsModel", name := "may", desc := "(I)Z" } : Jvm.MethodName)) ∈ lw_all := lw_g (lw_at lw_m4 158 rfl) rfl
theorem q932 : (Jvm.Cond.privateMethod ({ cls := "KindStreetsModel", name := "may", desc := "(I)Z" } : Jvm.MethodName)) ∈ lw_tbl := lw_at lw_m4 159 rfl
theorem q933 : (Jvm.Cond.instanceMethod ({ cls := "KindStreetsModel", name := "may", desc := "(I)Z" } : Jvm.MethodName)) ∈ lw_all := lw_g (lw_at lw_m4 160 rfl) rfl
theorem q934 : (Jvm.Cond.code ({ cls := "KindStreetsModel", name := "may", desc := "(I)Z" } : Jvm.MethodName) prog_14_method_13_code (2 : Nat) (Option.some Jvm.ClassFile.FieldType.boolean)) ∈ lw_all := lw_g (lw_at lw_m4 161 rfl) rfl
theorem q935 : (Jvm.Cond.methodLink "KindStreetsModel" (94 : Nat) ({ cls := "KindStreetsModel", name := "due", desc := "(Z)V" } : Jvm.MethodName)) ∈ lw_all := lw_g (lw_at lw_m4 162 rfl) rfl
theorem q936 : (Jvm.Cond.privateMethod ({ cls := "KindStreetsModel", name := "due", desc := "(Z)V" } : Jvm.MethodName)) ∈ lw_tbl := lw_at lw_m4 163 rfl
theorem q937 : (Jvm.Cond.instanceMethod ({ cls := "KindStreetsModel", name := "due", desc := "(Z)V" } : Jvm.MethodName)) ∈ lw_all := lw_g (lw_at lw_m4 164 rfl) rfl
theorem q938 : (Jvm.Cond.code ({ cls := "KindStreetsModel", name := "due", desc := "(Z)V" } : Jvm.MethodName) prog_14_method_10_code (2 : Nat) (Option.none : Option Jvm.ClassFile.FieldType)) ∈ lw_all := lw_g (lw_at lw_m4 165 rfl) rfl
theorem q939 : (Jvm.Cond.methodLink "KindStreetsModel" (109 : Nat) ({ cls := "KindStreetsModel", name := "item", desc := "(I)V" } : Jvm.MethodName)) ∈ lw_all := lw_g (lw_at lw_m4 166 rfl) rfl
theorem q940 : (Jvm.Cond.privateMethod ({ cls := "KindStreetsModel", name := "item", desc := "(I)V" } : Jvm.MethodName)) ∈ lw_tbl := lw_at lw_m4 167 rfl
theorem q941 : (Jvm.Cond.instanceMethod ({ cls := "KindStreetsModel", name := "item", desc := "(I)V" } : Jvm.MethodName)) ∈ lw_all := lw_g (lw_at lw_m4 168 rfl) rfl
theorem q942 : (Jvm.Cond.code ({ cls := "KindStreetsModel", name := "item", desc := "(I)V" } : Jvm.MethodName) prog_14_method_12_code (4 : Nat) (Option.none : Option Jvm.ClassFile.FieldType)) ∈ lw_all := lw_g (lw_at lw_m4 169 rfl) rfl
theorem q943 : (Jvm.Cond.methodLink "KindStreetsModel" (98 : Nat) ({ cls := "KindStreetsModel", name := "number", desc := "(II)I" } : Jvm.MethodName)) ∈ lw_all := lw_g (lw_at lw_m4 170 rfl) rfl
theorem q944 : (Jvm.Cond.privateMethod ({ cls := "KindStreetsModel", name := "number", desc := "(II)I" } : Jvm.MethodName)) ∈ lw_tbl := lw_at lw_m4 171 rfl
theorem q945 : (Jvm.Cond.instanceMethod ({ cls := "KindStreetsModel", name := "number", desc := "(II)I" } : Jvm.MethodName)) ∈ lw_all := lw_g (lw_at lw_m4 172 rfl) rfl
theorem q946 : (Jvm.Cond.code ({ cls := "KindStreetsModel", name := "number", desc := "(II)I" } : Jvm.MethodName) prog_14_method_11_code (4 : Nat) (Option.some Jvm.ClassFile.FieldType.int)) ∈ lw_all := lw_g (lw_at lw_m4 173 rfl) rfl
theorem q948 : (Jvm.Cond.instanceMethod ({ cls := "KindStreetsModel", name := "street", desc := "(II)I" } : Jvm.MethodName)) ∈ lw_all := lw_g (lw_at lw_m4 175 rfl) rfl
theorem q949 : (Jvm.Cond.selects "KindStreetsModel" ({ cls := "KindStreetsModel", name := "street", desc := "(II)I" } : Jvm.MethodName) ({ cls := "KindStreetsModel", name := "street", desc := "(II)I" } : Jvm.MethodName)) ∈ lw_all := lw_g (lw_at lw_m4 176 rfl) rfl
theorem q950 : (Jvm.Cond.code ({ cls := "KindStreetsModel", name := "street", desc := "(II)I" } : Jvm.MethodName) prog_14_method_25_code (3 : Nat) (Option.some Jvm.ClassFile.FieldType.int)) ∈ lw_all := lw_g (lw_at lw_m4 177 rfl) rfl
theorem q951 : (Jvm.Cond.methodLink "KindStreetsModel" (130 : Nat) ({ cls := "KindStreetsModel", name := "isStreet", desc := "(I)Z" } : Jvm.MethodName)) ∈ lw_all := lw_g (lw_at lw_m4 178 rfl) rfl
theorem q952 : (Jvm.Cond.privateMethod ({ cls := "KindStreetsModel", name := "isStreet", desc := "(I)Z" } : Jvm.MethodName)) ∈ lw_tbl := lw_at lw_m4 179 rfl
theorem q953 : (Jvm.Cond.instanceMethod ({ cls := "KindStreetsModel", name := "isStreet", desc := "(I)Z" } : Jvm.MethodName)) ∈ lw_all := lw_g (lw_at lw_m4 180 rfl) rfl
theorem q954 : (Jvm.Cond.code ({ cls := "KindStreetsModel", name := "isStreet", desc := "(I)Z" } : Jvm.MethodName) prog_14_method_18_code (2 : Nat) (Option.some Jvm.ClassFile.FieldType.boolean)) ∈ lw_all := lw_g (lw_at lw_m4 181 rfl) rfl
theorem q955 : (Jvm.Cond.methodLink "KindStreetsModel" (122 : Nat) ({ cls := "KindStreetsModel", name := "widthOf", desc := "(I)I" } : Jvm.MethodName)) ∈ lw_all := lw_g (lw_at lw_m4 182 rfl) rfl
theorem q956 : (Jvm.Cond.privateMethod ({ cls := "KindStreetsModel", name := "widthOf", desc := "(I)I" } : Jvm.MethodName)) ∈ lw_tbl := lw_at lw_m4 183 rfl
theorem q957 : (Jvm.Cond.instanceMethod ({ cls := "KindStreetsModel", name := "widthOf", desc := "(I)I" } : Jvm.MethodName)) ∈ lw_all := lw_g (lw_at lw_m4 184 rfl) rfl
theorem q958 : (Jvm.Cond.code ({ cls := "KindStreetsModel", name := "widthOf", desc := "(I)I" } : Jvm.MethodName) prog_14_method_20_code (4 : Nat) (Option.some Jvm.ClassFile.FieldType.int)) ∈ lw_all := lw_g (lw_at lw_m4 185 rfl) rfl
theorem q959 : (Jvm.Cond.methodLink "KindStreetsModel" (133 : Nat) ({ cls := "KindStreetsModel", name := "livingIn", desc := "(I)I" } : Jvm.MethodName)) ∈ lw_all := lw_g (lw_at lw_m4 186 rfl) rfl
theorem q960 : (Jvm.Cond.privateMethod ({ cls := "KindStreetsModel", name := "livingIn", desc := "(I)I" } : Jvm.MethodName)) ∈ lw_tbl := lw_at lw_m4 187 rfl
theorem q961 : (Jvm.Cond.instanceMethod ({ cls := "KindStreetsModel", name := "livingIn", desc := "(I)I" } : Jvm.MethodName)) ∈ lw_all := lw_g (lw_at lw_m4 188 rfl) rfl
theorem q962 : (Jvm.Cond.code ({ cls := "KindStreetsModel", name := "livingIn", desc := "(I)I" } : Jvm.MethodName) prog_14_method_22_code (4 : Nat) (Option.some Jvm.ClassFile.FieldType.int)) ∈ lw_all := lw_g (lw_at lw_m4 189 rfl) rfl
theorem q964 : (Jvm.Cond.instanceMethod ({ cls := "KindStreetsModel", name := "citizen", desc := "(II)I" } : Jvm.MethodName)) ∈ lw_all := lw_g (lw_at lw_m4 191 rfl) rfl
theorem q965 : (Jvm.Cond.selects "KindStreetsModel" ({ cls := "KindStreetsModel", name := "citizen", desc := "(II)I" } : Jvm.MethodName) ({ cls := "KindStreetsModel", name := "citizen", desc := "(II)I" } : Jvm.MethodName)) ∈ lw_all := lw_g (lw_at lw_m4 192 rfl) rfl
theorem q966 : (Jvm.Cond.code ({ cls := "KindStreetsModel", name := "citizen", desc := "(II)I" } : Jvm.MethodName) prog_14_method_26_code (3 : Nat) (Option.some Jvm.ClassFile.FieldType.int)) ∈ lw_all := lw_g (lw_at lw_m4 193 rfl) rfl
theorem q967 : (Jvm.Cond.methodLink "KindStreetsModel" (136 : Nat) ({ cls := "KindStreetsModel", name := "isPerson", desc := "(I)Z" } : Jvm.MethodName)) ∈ lw_all := lw_g (lw_at lw_m4 194 rfl) rfl
theorem q968 : (Jvm.Cond.privateMethod ({ cls := "KindStreetsModel", name := "isPerson", desc := "(I)Z" } : Jvm.MethodName)) ∈ lw_tbl := lw_at lw_m4 195 rfl
theorem q969 : (Jvm.Cond.instanceMethod ({ cls := "KindStreetsModel", name := "isPerson", desc := "(I)Z" } : Jvm.MethodName)) ∈ lw_all := lw_g (lw_at lw_m4 196 rfl) rfl
theorem q970 : (Jvm.Cond.code ({ cls := "KindStreetsModel", name := "isPerson", desc := "(I)Z" } : Jvm.MethodName) prog_14_method_19_code (2 : Nat) (Option.some Jvm.ClassFile.FieldType.boolean)) ∈ lw_all := lw_g (lw_at lw_m4 197 rfl) rfl
theorem q971 : (Jvm.Cond.methodLink "KindStreetsModel" (139 : Nat) ({ cls := "KindStreetsModel", name := "witnesses", desc := "(I)I" } : Jvm.MethodName)) ∈ lw_all := lw_g (lw_at lw_m4 198 rfl) rfl
theorem q972 : (Jvm.Cond.privateMethod ({ cls := "KindStreetsModel", name := "witnesses", desc := "(I)I" } : Jvm.MethodName)) ∈ lw_tbl := lw_at lw_m4 199 rfl
theorem q973 : (Jvm.Cond.instanceMethod ({ cls := "KindStreetsModel", name := "witnesses", desc := "(I)I" } : Jvm.MethodName)) ∈ lw_all := lw_g (lw_at lw_m4 200 rfl) rfl
theorem q974 : (Jvm.Cond.code ({ cls := "KindStreetsModel", name := "witnesses", desc := "(I)I" } : Jvm.MethodName) prog_14_method_24_code (4 : Nat) (Option.some Jvm.ClassFile.FieldType.int)) ∈ lw_all := lw_g (lw_at lw_m4 201 rfl) rfl
theorem q975 : (Jvm.Cond.methodLink "KindStreetsModel" (126 : Nat) ({ cls := "KindStreetsModel", name := "doMeet", desc := "(II)Z" } : Jvm.MethodName)) ∈ lw_all := lw_g (lw_at lw_m4 202 rfl) rfl
theorem q976 : (Jvm.Cond.privateMethod ({ cls := "KindStreetsModel", name := "doMeet", desc := "(II)Z" } : Jvm.MethodName)) ∈ lw_tbl := lw_at lw_m4 203 rfl
theorem q977 : (Jvm.Cond.instanceMethod ({ cls := "KindStreetsModel", name := "doMeet", desc := "(II)Z" } : Jvm.MethodName)) ∈ lw_all := lw_g (lw_at lw_m4 204 rfl) rfl
theorem q978 : (Jvm.Cond.code ({ cls := "KindStreetsModel", name := "doMeet", desc := "(II)Z" } : Jvm.MethodName) prog_14_method_23_code (3 : Nat) (Option.some Jvm.ClassFile.FieldType.boolean)) ∈ lw_all := lw_g (lw_at lw_m4 205 rfl) rfl
theorem q980 : (Jvm.Cond.instanceMethod ({ cls := "KindStreetsModel", name := "does", desc := "(III)I" } : Jvm.MethodName)) ∈ lw_all := lw_g (lw_at lw_m4 207 rfl) rfl
theorem q981 : (Jvm.Cond.selects "KindStreetsModel" ({ cls := "KindStreetsModel", name := "does", desc := "(III)I" } : Jvm.MethodName) ({ cls := "KindStreetsModel", name := "does", desc := "(III)I" } : Jvm.MethodName)) ∈ lw_all := lw_g (lw_at lw_m4 208 rfl) rfl
theorem q982 : (Jvm.Cond.code ({ cls := "KindStreetsModel", name := "does", desc := "(III)I" } : Jvm.MethodName) prog_14_method_28_code (7 : Nat) (Option.some Jvm.ClassFile.FieldType.int)) ∈ lw_all := lw_g (lw_at lw_m4 209 rfl) rfl
theorem q983 : (Jvm.Cond.methodLink "KindStreetsModel" (142 : Nat) ({ cls := "KindStreetsModel", name := "know", desc := "()V" } : Jvm.MethodName)) ∈ lw_all := lw_g (lw_at lw_m4 210 rfl) rfl
theorem q984 : (Jvm.Cond.privateMethod ({ cls := "KindStreetsModel", name := "know", desc := "()V" } : Jvm.MethodName)) ∈ lw_tbl := lw_at lw_m4 211 rfl
theorem q985 : (Jvm.Cond.instanceMethod ({ cls := "KindStreetsModel", name := "know", desc := "()V" } : Jvm.MethodName)) ∈ lw_all := lw_g (lw_at lw_m4 212 rfl) rfl
theorem q986 : (Jvm.Cond.code ({ cls := "KindStreetsModel", name := "know", desc := "()V" } : Jvm.MethodName) prog_14_method_27_code (2 : Nat) (Option.none : Option Jvm.ClassFile.FieldType)) ∈ lw_all := lw_g (lw_at lw_m4 213 rfl) rfl
theorem q987 : (Jvm.Cond.methodLink "KindStreetsModel" (145 : Nat) ({ cls := "KindStreetsModel", name := "bitsOf", desc := "(I)I" } : Jvm.MethodName)) ∈ lw_all := lw_g (lw_at lw_m4 214 rfl) rfl
theorem q988 : (Jvm.Cond.static ({ cls := "KindStreetsModel", name := "bitsOf", desc := "(I)I" } : Jvm.MethodName)) ∈ lw_all := lw_g (lw_at lw_m4 215 rfl) rfl
theorem q989 : (Jvm.Cond.code ({ cls := "KindStreetsModel", name := "bitsOf", desc := "(I)I" } : Jvm.MethodName) prog_14_method_5_code (3 : Nat) (Option.some Jvm.ClassFile.FieldType.int)) ∈ lw_all := lw_g (lw_at lw_m4 216 rfl) rfl
theorem q991 : (Jvm.Cond.instanceMethod ({ cls := "KindStreetsModel", name := "wills", desc := "(I)I" } : Jvm.MethodName)) ∈ lw_all := lw_g (lw_at lw_m4 218 rfl) rfl
theorem q992 : (Jvm.Cond.selects "KindStreetsModel" ({ cls := "KindStreetsModel", name := "wills", desc := "(I)I" } : Jvm.MethodName) ({ cls := "KindStreetsModel", name := "wills", desc := "(I)I" } : Jvm.MethodName)) ∈ lw_all := lw_g (lw_at lw_m4 219 rfl) rfl
theorem q993 : (Jvm.Cond.code ({ cls := "KindStreetsModel", name := "wills", desc := "(I)I" } : Jvm.MethodName) prog_14_method_29_code (3 : Nat) (Option.some Jvm.ClassFile.FieldType.int)) ∈ lw_all := lw_g (lw_at lw_m4 220 rfl) rfl
theorem q995 : (Jvm.Cond.instanceMethod ({ cls := "KindStreetsModel", name := "moves", desc := "(II)I" } : Jvm.MethodName)) ∈ lw_all := lw_g (lw_at lw_m4 222 rfl) rfl
theorem q996 : (Jvm.Cond.selects "KindStreetsModel" ({ cls := "KindStreetsModel", name := "moves", desc := "(II)I" } : Jvm.MethodName) ({ cls := "KindStreetsModel", name := "moves", desc := "(II)I" } : Jvm.MethodName)) ∈ lw_all := lw_g (lw_at lw_m4 223 rfl) rfl
theorem q997 : (Jvm.Cond.code ({ cls := "KindStreetsModel", name := "moves", desc := "(II)I" } : Jvm.MethodName) prog_14_method_30_code (4 : Nat) (Option.some Jvm.ClassFile.FieldType.int)) ∈ lw_all := lw_g (lw_at lw_m4 224 rfl) rfl
theorem q999 : (Jvm.Cond.instanceMethod ({ cls := "KindStreetsModel", name := "night", desc := "(I)I" } : Jvm.MethodName)) ∈ lw_all := lw_g (lw_at lw_m4 226 rfl) rfl
theorem q1000 : (Jvm.Cond.selects "KindStreetsModel" ({ cls := "KindStreetsModel", name := "night", desc := "(I)I" } : Jvm.MethodName) ({ cls := "KindStreetsModel", name := "night", desc := "(I)I" } : Jvm.MethodName)) ∈ lw_all := lw_g (lw_at lw_m4 227 rfl) rfl
theorem q1001 : (Jvm.Cond.code ({ cls := "KindStreetsModel", name := "night", desc := "(I)I" } : Jvm.MethodName) prog_14_method_31_code (2 : Nat) (Option.some Jvm.ClassFile.FieldType.int)) ∈ lw_all := lw_g (lw_at lw_m4 228 rfl) rfl
theorem q1002 : (Jvm.Cond.methodLink "KindStreetsModel" (148 : Nat) ({ cls := "KindStreetsModel", name := "allWidths", desc := "()I" } : Jvm.MethodName)) ∈ lw_all := lw_g (lw_at lw_m4 229 rfl) rfl
theorem q1003 : (Jvm.Cond.privateMethod ({ cls := "KindStreetsModel", name := "allWidths", desc := "()I" } : Jvm.MethodName)) ∈ lw_tbl := lw_at lw_m4 230 rfl
theorem q1004 : (Jvm.Cond.instanceMethod ({ cls := "KindStreetsModel", name := "allWidths", desc := "()I" } : Jvm.MethodName)) ∈ lw_all := lw_g (lw_at lw_m4 231 rfl) rfl
theorem q1005 : (Jvm.Cond.code ({ cls := "KindStreetsModel", name := "allWidths", desc := "()I" } : Jvm.MethodName) prog_14_method_21_code (3 : Nat) (Option.some Jvm.ClassFile.FieldType.int)) ∈ lw_all := lw_g (lw_at lw_m4 232 rfl) rfl
theorem q1007 : (Jvm.Cond.instanceMethod ({ cls := "KindStreetsModel", name := "undo", desc := "()I" } : Jvm.MethodName)) ∈ lw_all := lw_g (lw_at lw_m4 234 rfl) rfl
theorem q1008 : (Jvm.Cond.selects "KindStreetsModel" ({ cls := "KindStreetsModel", name := "undo", desc := "()I" } : Jvm.MethodName) ({ cls := "KindStreetsModel", name := "undo", desc := "()I" } : Jvm.MethodName)) ∈ lw_all := lw_g (lw_at lw_m4 235 rfl) rfl
theorem q1009 : (Jvm.Cond.code ({ cls := "KindStreetsModel", name := "undo", desc := "()I" } : Jvm.MethodName) prog_14_method_32_code (2 : Nat) (Option.some Jvm.ClassFile.FieldType.int)) ∈ lw_all := lw_g (lw_at lw_m4 236 rfl) rfl
theorem q1011 : (Jvm.Cond.instanceMethod ({ cls := "KindStreetsModel", name := "now", desc := "(I)I" } : Jvm.MethodName)) ∈ lw_all := lw_g (lw_at lw_m4 238 rfl) rfl
theorem q1012 : (Jvm.Cond.selects "KindStreetsModel" ({ cls := "KindStreetsModel", name := "now", desc := "(I)I" } : Jvm.MethodName) ({ cls := "KindStreetsModel", name := "now", desc := "(I)I" } : Jvm.MethodName)) ∈ lw_all := lw_g (lw_at lw_m4 239 rfl) rfl
theorem q1013 : (Jvm.Cond.code ({ cls := "KindStreetsModel", name := "now", desc := "(I)I" } : Jvm.MethodName) prog_14_method_33_code (4 : Nat) (Option.some Jvm.ClassFile.FieldType.int)) ∈ lw_all := lw_g (lw_at lw_m5 0 rfl) rfl
theorem q1015 : (Jvm.Cond.instanceMethod ({ cls := "KindStreetsModel", name := "widest", desc := "(II)I" } : Jvm.MethodName)) ∈ lw_all := lw_g (lw_at lw_m5 2 rfl) rfl
theorem q1016 : (Jvm.Cond.selects "KindStreetsModel" ({ cls := "KindStreetsModel", name := "widest", desc := "(II)I" } : Jvm.MethodName) ({ cls := "KindStreetsModel", name := "widest", desc := "(II)I" } : Jvm.MethodName)) ∈ lw_all := lw_g (lw_at lw_m5 3 rfl) rfl
theorem q1017 : (Jvm.Cond.code ({ cls := "KindStreetsModel", name := "widest", desc := "(II)I" } : Jvm.MethodName) prog_14_method_36_code (4 : Nat) (Option.some Jvm.ClassFile.FieldType.int)) ∈ lw_all := lw_g (lw_at lw_m5 4 rfl) rfl
theorem q1018 : (Jvm.Cond.methodLink "KindStreetsModel" (154 : Nat) ({ cls := "KindStreetsModel", name := "areTwo", desc := "(II)Z" } : Jvm.MethodName)) ∈ lw_all := lw_g (lw_at lw_m5 5 rfl) rfl
theorem q1019 : (Jvm.Cond.privateMethod ({ cls := "KindStreetsModel", name := "areTwo", desc := "(II)Z" } : Jvm.MethodName)) ∈ lw_tbl := lw_at lw_m5 6 rfl
theorem q1020 : (Jvm.Cond.instanceMethod ({ cls := "KindStreetsModel", name := "areTwo", desc := "(II)Z" } : Jvm.MethodName)) ∈ lw_all := lw_g (lw_at lw_m5 7 rfl) rfl
theorem q1021 : (Jvm.Cond.code ({ cls := "KindStreetsModel", name := "areTwo", desc := "(II)Z" } : Jvm.MethodName) prog_14_method_17_code (3 : Nat) (Option.some Jvm.ClassFile.FieldType.boolean)) ∈ lw_all := lw_g (lw_at lw_m5 8 rfl) rfl
theorem q1022 : (Jvm.Cond.methodLink "KindStreetsModel" (119 : Nat) ({ cls := "KindStreetsModel", name := "isYard", desc := "(I)Z" } : Jvm.MethodName)) ∈ lw_all := lw_g (lw_at lw_m5 9 rfl) rfl
theorem q1023 : (Jvm.Cond.privateMethod ({ cls := "KindStreetsModel", name := "isYard", desc := "(I)Z" } : Jvm.MethodName)) ∈ lw_tbl := lw_at lw_m5 10 rfl
theorem q1024 : (Jvm.Cond.instanceMethod ({ cls := "KindStreetsModel", name := "isYard", desc := "(I)Z" } : Jvm.MethodName)) ∈ lw_all := lw_g (lw_at lw_m5 11 rfl) rfl
theorem q1025 : (Jvm.Cond.code ({ cls := "KindStreetsModel", name := "isYard", desc := "(I)Z" } : Jvm.MethodName) prog_14_method_16_code (2 : Nat) (Option.some Jvm.ClassFile.FieldType.boolean)) ∈ lw_all := lw_g (lw_at lw_m5 12 rfl) rfl
theorem q1026 : (Jvm.Cond.methodLink "KindStreetsModel" (157 : Nat) ({ cls := "KindStreetsModel", name := "openBy", desc := "(I)I" } : Jvm.MethodName)) ∈ lw_all := lw_g (lw_at lw_m5 13 rfl) rfl
theorem q1027 : (Jvm.Cond.privateMethod ({ cls := "KindStreetsModel", name := "openBy", desc := "(I)I" } : Jvm.MethodName)) ∈ lw_tbl := lw_at lw_m5 14 rfl
theorem q1028 : (Jvm.Cond.instanceMethod ({ cls := "KindStreetsModel", name := "openBy", desc := "(I)I" } : Jvm.MethodName)) ∈ lw_all := lw_g (lw_at lw_m5 15 rfl) rfl
theorem q1029 : (Jvm.Cond.code ({ cls := "KindStreetsModel", name := "openBy", desc := "(I)I" } : Jvm.MethodName) prog_14_method_34_code (4 : Nat) (Option.some Jvm.ClassFile.FieldType.int)) ∈ lw_all := lw_g (lw_at lw_m5 16 rfl) rfl
theorem q1030 : (Jvm.Cond.methodLink "KindStreetsModel" (160 : Nat) ({ cls := "KindStreetsModel", name := "wayBy", desc := "(III)I" } : Jvm.MethodName)) ∈ lw_all := lw_g (lw_at lw_m5 17 rfl) rfl
theorem q1031 : (Jvm.Cond.privateMethod ({ cls := "KindStreetsModel", name := "wayBy", desc := "(III)I" } : Jvm.MethodName)) ∈ lw_tbl := lw_at lw_m5 18 rfl
theorem q1032 : (Jvm.Cond.instanceMethod ({ cls := "KindStreetsModel", name := "wayBy", desc := "(III)I" } : Jvm.MethodName)) ∈ lw_all := lw_g (lw_at lw_m5 19 rfl) rfl
theorem q1033 : (Jvm.Cond.code ({ cls := "KindStreetsModel", name := "wayBy", desc := "(III)I" } : Jvm.MethodName) prog_14_method_35_code (9 : Nat) (Option.some Jvm.ClassFile.FieldType.int)) ∈ lw_all := lw_g (lw_at lw_m5 20 rfl) rfl
theorem q1034 : (Jvm.Cond.methodLink "KindStreetsModel" (151 : Nat) ({ cls := "KindStreetsModel", name := "has", desc := "(II)Z" } : Jvm.MethodName)) ∈ lw_all := lw_g (lw_at lw_m5 21 rfl) rfl
theorem q1035 : (Jvm.Cond.static ({ cls := "KindStreetsModel", name := "has", desc := "(II)Z" } : Jvm.MethodName)) ∈ lw_all := lw_g (lw_at lw_m5 22 rfl) rfl
theorem q1036 : (Jvm.Cond.code ({ cls := "KindStreetsModel", name := "has", desc := "(II)Z" } : Jvm.MethodName) prog_14_method_4_code (2 : Nat) (Option.some Jvm.ClassFile.FieldType.boolean)) ∈ lw_all := lw_g (lw_at lw_m5 23 rfl) rfl
theorem q1038 : (Jvm.Cond.instanceMethod ({ cls := "KindStreetsModel", name := "way", desc := "(III)I" } : Jvm.MethodName)) ∈ lw_all := lw_g (lw_at lw_m5 25 rfl) rfl
theorem q1039 : (Jvm.Cond.selects "KindStreetsModel" ({ cls := "KindStreetsModel", name := "way", desc := "(III)I" } : Jvm.MethodName) ({ cls := "KindStreetsModel", name := "way", desc := "(III)I" } : Jvm.MethodName)) ∈ lw_all := lw_g (lw_at lw_m5 26 rfl) rfl
theorem q1040 : (Jvm.Cond.code ({ cls := "KindStreetsModel", name := "way", desc := "(III)I" } : Jvm.MethodName) prog_14_method_37_code (4 : Nat) (Option.some Jvm.ClassFile.FieldType.int)) ∈ lw_all := lw_g (lw_at lw_m5 27 rfl) rfl
theorem q1042 : (Jvm.Cond.instanceMethod ({ cls := "KindStreetsModel", name := "flow", desc := "(III)I" } : Jvm.MethodName)) ∈ lw_all := lw_g (lw_at lw_m5 29 rfl) rfl
theorem q1043 : (Jvm.Cond.selects "KindStreetsModel" ({ cls := "KindStreetsModel", name := "flow", desc := "(III)I" } : Jvm.MethodName) ({ cls := "KindStreetsModel", name := "flow", desc := "(III)I" } : Jvm.MethodName)) ∈ lw_all := lw_g (lw_at lw_m5 30 rfl) rfl
theorem q1044 : (Jvm.Cond.code ({ cls := "KindStreetsModel", name := "flow", desc := "(III)I" } : Jvm.MethodName) prog_14_method_39_code (10 : Nat) (Option.some Jvm.ClassFile.FieldType.int)) ∈ lw_all := lw_g (lw_at lw_m5 31 rfl) rfl
theorem q1045 : (Jvm.Cond.methodLink "KindStreetsModel" (164 : Nat) ({ cls := "KindStreetsModel", name := "widthsOf", desc := "(I)I" } : Jvm.MethodName)) ∈ lw_all := lw_g (lw_at lw_m5 32 rfl) rfl
theorem q1046 : (Jvm.Cond.privateMethod ({ cls := "KindStreetsModel", name := "widthsOf", desc := "(I)I" } : Jvm.MethodName)) ∈ lw_tbl := lw_at lw_m5 33 rfl
theorem q1047 : (Jvm.Cond.instanceMethod ({ cls := "KindStreetsModel", name := "widthsOf", desc := "(I)I" } : Jvm.MethodName)) ∈ lw_all := lw_g (lw_at lw_m5 34 rfl) rfl
theorem q1048 : (Jvm.Cond.code ({ cls := "KindStreetsModel", name := "widthsOf", desc := "(I)I" } : Jvm.MethodName) prog_14_method_38_code (4 : Nat) (Option.some Jvm.ClassFile.FieldType.int)) ∈ lw_all := lw_g (lw_at lw_m5 35 rfl) rfl
theorem q1050 : (Jvm.Cond.instanceMethod ({ cls := "KindStreetsModel", name := "need", desc := "(III)I" } : Jvm.MethodName)) ∈ lw_all := lw_g (lw_at lw_m5 37 rfl) rfl
theorem q1051 : (Jvm.Cond.selects "KindStreetsModel" ({ cls := "KindStreetsModel", name := "need", desc := "(III)I" } : Jvm.MethodName) ({ cls := "KindStreetsModel", name := "need", desc := "(III)I" } : Jvm.MethodName)) ∈ lw_all := lw_g (lw_at lw_m5 38 rfl) rfl
theorem q1052 : (Jvm.Cond.code ({ cls := "KindStreetsModel", name := "need", desc := "(III)I" } : Jvm.MethodName) prog_14_method_40_code (8 : Nat) (Option.some Jvm.ClassFile.FieldType.int)) ∈ lw_all := lw_g (lw_at lw_m5 39 rfl) rfl
theorem q1054 : (Jvm.Cond.instanceMethod ({ cls := "KindStreetsModel", name := "odds", desc := "(IIII)I" } : Jvm.MethodName)) ∈ lw_all := lw_g (lw_at lw_m5 41 rfl) rfl
theorem q1055 : (Jvm.Cond.selects "KindStreetsModel" ({ cls := "KindStreetsModel", name := "odds", desc := "(IIII)I" } : Jvm.MethodName) ({ cls := "KindStreetsModel", name := "odds", desc := "(IIII)I" } : Jvm.MethodName)) ∈ lw_all := lw_g (lw_at lw_m5 42 rfl) rfl
theorem q1056 : (Jvm.Cond.code ({ cls := "KindStreetsModel", name := "odds", desc := "(IIII)I" } : Jvm.MethodName) prog_14_method_41_code (11 : Nat) (Option.some Jvm.ClassFile.FieldType.int)) ∈ lw_all := lw_g (lw_at lw_m5 43 rfl) rfl
theorem q1058 : (Jvm.Cond.instanceMethod ({ cls := "KindStreetsModel", name := "carriage", desc := "(I)I" } : Jvm.MethodName)) ∈ lw_all := lw_g (lw_at lw_m5 45 rfl) rfl
theorem q1059 : (Jvm.Cond.selects "KindStreetsModel" ({ cls := "KindStreetsModel", name := "carriage", desc := "(I)I" } : Jvm.MethodName) ({ cls := "KindStreetsModel", name := "carriage", desc := "(I)I" } : Jvm.MethodName)) ∈ lw_all := lw_g (lw_at lw_m5 46 rfl) rfl
theorem q1060 : (Jvm.Cond.code ({ cls := "KindStreetsModel", name := "carriage", desc := "(I)I" } : Jvm.MethodName) prog_14_method_44_code (7 : Nat) (Option.some Jvm.ClassFile.FieldType.int)) ∈ lw_all := lw_g (lw_at lw_m5 47 rfl) rfl
theorem q1061 : (Jvm.Cond.methodLink "KindStreetsModel" (170 : Nat) ({ cls := "KindStreetsModel", name := "tellMost", desc := "()V" } : Jvm.MethodName)) ∈ lw_all := lw_g (lw_at lw_m5 48 rfl) rfl
theorem q1062 : (Jvm.Cond.privateMethod ({ cls := "KindStreetsModel", name := "tellMost", desc := "()V" } : Jvm.MethodName)) ∈ lw_tbl := lw_at lw_m5 49 rfl
theorem q1063 : (Jvm.Cond.instanceMethod ({ cls := "KindStreetsModel", name := "tellMost", desc := "()V" } : Jvm.MethodName)) ∈ lw_all := lw_g (lw_at lw_m5 50 rfl) rfl
theorem q1064 : (Jvm.Cond.code ({ cls := "KindStreetsModel", name := "tellMost", desc := "()V" } : Jvm.MethodName) prog_14_method_43_code (7 : Nat) (Option.none : Option Jvm.ClassFile.FieldType)) ∈ lw_all := lw_g (lw_at lw_m5 51 rfl) rfl
theorem q1065 : (Jvm.Cond.methodLink "KindStreetsModel" (167 : Nat) ({ cls := "KindStreetsModel", name := "canHave", desc := "(II)Z" } : Jvm.MethodName)) ∈ lw_all := lw_g (lw_at lw_m5 52 rfl) rfl
theorem q1066 : (Jvm.Cond.privateMethod ({ cls := "KindStreetsModel", name := "canHave", desc := "(II)Z" } : Jvm.MethodName)) ∈ lw_tbl := lw_at lw_m5 53 rfl
theorem q1067 : (Jvm.Cond.instanceMethod ({ cls := "KindStreetsModel", name := "canHave", desc := "(II)Z" } : Jvm.MethodName)) ∈ lw_all := lw_g (lw_at lw_m5 54 rfl) rfl
theorem q1068 : (Jvm.Cond.code ({ cls := "KindStreetsModel", name := "canHave", desc := "(II)Z" } : Jvm.MethodName) prog_14_method_42_code (3 : Nat) (Option.some Jvm.ClassFile.FieldType.boolean)) ∈ lw_all := lw_g (lw_at lw_m5 55 rfl) rfl
theorem q1070 : (Jvm.Cond.instanceMethod ({ cls := "KindStreetsModel", name := "measures", desc := "(II)I" } : Jvm.MethodName)) ∈ lw_all := lw_g (lw_at lw_m5 57 rfl) rfl
theorem q1071 : (Jvm.Cond.selects "KindStreetsModel" ({ cls := "KindStreetsModel", name := "measures", desc := "(II)I" } : Jvm.MethodName) ({ cls := "KindStreetsModel", name := "measures", desc := "(II)I" } : Jvm.MethodName)) ∈ lw_all := lw_g (lw_at lw_m5 58 rfl) rfl
theorem q1072 : (Jvm.Cond.code ({ cls := "KindStreetsModel", name := "measures", desc := "(II)I" } : Jvm.MethodName) prog_14_method_45_code (3 : Nat) (Option.some Jvm.ClassFile.FieldType.int)) ∈ lw_all := lw_g (lw_at lw_m5 59 rfl) rfl
theorem q1074 : (Jvm.Cond.instanceMethod ({ cls := "KindStreetsModel", name := "forget", desc := "()I" } : Jvm.MethodName)) ∈ lw_all := lw_g (lw_at lw_m5 61 rfl) rfl
theorem q1075 : (Jvm.Cond.selects "KindStreetsModel" ({ cls := "KindStreetsModel", name := "forget", desc := "()I" } : Jvm.MethodName) ({ cls := "KindStreetsModel", name := "forget", desc := "()I" } : Jvm.MethodName)) ∈ lw_all := lw_g (lw_at lw_m5 62 rfl) rfl
theorem q1076 : (Jvm.Cond.code ({ cls := "KindStreetsModel", name := "forget", desc := "()I" } : Jvm.MethodName) prog_14_method_46_code (2 : Nat) (Option.some Jvm.ClassFile.FieldType.int)) ∈ lw_all := lw_g (lw_at lw_m5 63 rfl) rfl
theorem q1078 : (Jvm.Cond.instanceMethod ({ cls := "KindStreetsModel", name := "deeds", desc := "(I)I" } : Jvm.MethodName)) ∈ lw_all := lw_g (lw_at lw_m5 65 rfl) rfl
theorem q1079 : (Jvm.Cond.selects "KindStreetsModel" ({ cls := "KindStreetsModel", name := "deeds", desc := "(I)I" } : Jvm.MethodName) ({ cls := "KindStreetsModel", name := "deeds", desc := "(I)I" } : Jvm.MethodName)) ∈ lw_all := lw_g (lw_at lw_m5 66 rfl) rfl
theorem q1080 : (Jvm.Cond.code ({ cls := "KindStreetsModel", name := "deeds", desc := "(I)I" } : Jvm.MethodName) prog_14_method_49_code (5 : Nat) (Option.some Jvm.ClassFile.FieldType.int)) ∈ lw_all := lw_g (lw_at lw_m5 67 rfl) rfl
theorem q1081 : (Jvm.Cond.methodLink "KindStreetsModel" (176 : Nat) ({ cls := "KindStreetsModel", name := "isSo", desc := "(I)Z" } : Jvm.MethodName)) ∈ lw_all := lw_g (lw_at lw_m5 68 rfl) rfl
theorem q1082 : (Jvm.Cond.privateMethod ({ cls := "KindStreetsModel", name := "isSo", desc := "(I)Z" } : Jvm.MethodName)) ∈ lw_tbl := lw_at lw_m5 69 rfl
theorem q1083 : (Jvm.Cond.instanceMethod ({ cls := "KindStreetsModel", name := "isSo", desc := "(I)Z" } : Jvm.MethodName)) ∈ lw_all := lw_g (lw_at lw_m5 70 rfl) rfl
theorem q1084 : (Jvm.Cond.code ({ cls := "KindStreetsModel", name := "isSo", desc := "(I)Z" } : Jvm.MethodName) prog_14_method_48_code (4 : Nat) (Option.some Jvm.ClassFile.FieldType.boolean)) ∈ lw_all := lw_g (lw_at lw_m5 71 rfl) rfl
theorem q1085 : (Jvm.Cond.methodLink "KindStreetsModel" (173 : Nat) ({ cls := "KindStreetsModel", name := "widthBy", desc := "(II)I" } : Jvm.MethodName)) ∈ lw_all := lw_g (lw_at lw_m5 72 rfl) rfl
theorem q1086 : (Jvm.Cond.static ({ cls := "KindStreetsModel", name := "widthBy", desc := "(II)I" } : Jvm.MethodName)) ∈ lw_all := lw_g (lw_at lw_m5 73 rfl) rfl
theorem q1087 : (Jvm.Cond.code ({ cls := "KindStreetsModel", name := "widthBy", desc := "(II)I" } : Jvm.MethodName) prog_14_method_47_code (4 : Nat) (Option.some Jvm.ClassFile.FieldType.int)) ∈ lw_all := lw_g (lw_at lw_m5 74 rfl) rfl
theorem q1089 : (Jvm.Cond.instanceMethod ({ cls := "KindStreetsModel", name := "when", desc := "()I" } : Jvm.MethodName)) ∈ lw_all := lw_g (lw_at lw_m5 76 rfl) rfl
theorem q1090 : (Jvm.Cond.selects "KindStreetsModel" ({ cls := "KindStreetsModel", name := "when", desc := "()I" } : Jvm.MethodName) ({ cls := "KindStreetsModel", name := "when", desc := "()I" } : Jvm.MethodName)) ∈ lw_all := lw_g (lw_at lw_m5 77 rfl) rfl
theorem q1091 : (Jvm.Cond.code ({ cls := "KindStreetsModel", name := "when", desc := "()I" } : Jvm.MethodName) prog_14_method_51_code (2 : Nat) (Option.some Jvm.ClassFile.FieldType.int)) ∈ lw_all := lw_g (lw_at lw_m5 78 rfl) rfl
theorem q1092 : (Jvm.Cond.methodLink "KindStreetsModel" (179 : Nat) ({ cls := "KindStreetsModel", name := "greatest", desc := "(I)I" } : Jvm.MethodName)) ∈ lw_all := lw_g (lw_at lw_m5 79 rfl) rfl
theorem q1093 : (Jvm.Cond.privateMethod ({ cls := "KindStreetsModel", name := "greatest", desc := "(I)I" } : Jvm.MethodName)) ∈ lw_tbl := lw_at lw_m5 80 rfl
theorem q1094 : (Jvm.Cond.instanceMethod ({ cls := "KindStreetsModel", name := "greatest", desc := "(I)I" } : Jvm.MethodName)) ∈ lw_all := lw_g (lw_at lw_m5 81 rfl) rfl
theorem q1095 : (Jvm.Cond.code ({ cls := "KindStreetsModel", name := "greatest", desc := "(I)I" } : Jvm.MethodName) prog_14_method_50_code (6 : Nat) (Option.some Jvm.ClassFile.FieldType.int)) ∈ lw_all := lw_g (lw_at lw_m5 82 rfl) rfl
theorem q1097 : (Jvm.Cond.instanceMethod ({ cls := "KindStreetsModel", name := "mark", desc := "(II)I" } : Jvm.MethodName)) ∈ lw_all := lw_g (lw_at lw_m5 84 rfl) rfl
theorem q1098 : (Jvm.Cond.selects "KindStreetsModel" ({ cls := "KindStreetsModel", name := "mark", desc := "(II)I" } : Jvm.MethodName) ({ cls := "KindStreetsModel", name := "mark", desc := "(II)I" } : Jvm.MethodName)) ∈ lw_all := lw_g (lw_at lw_m5 85 rfl) rfl
theorem q1099 : (Jvm.Cond.code ({ cls := "KindStreetsModel", name := "mark", desc := "(II)I" } : Jvm.MethodName) prog_14_method_53_code (8 : Nat) (Option.some Jvm.ClassFile.FieldType.int)) ∈ lw_all := lw_g (lw_at lw_m5 86 rfl) rfl
theorem q1100 : (Jvm.Cond.constant "KindStreetsModel" (182 : Nat) (-1000000 : Int32)) ∈ lw_all := lw_g (lw_at lw_m5 87 rfl) rfl
theorem q1101 : (Jvm.Cond.methodLink "KindStreetsModel" (183 : Nat) ({ cls := "KindStreetsModel", name := "bodiesOf", desc := "(I)I" } : Jvm.MethodName)) ∈ lw_all := lw_g (lw_at lw_m5 88 rfl) rfl
theorem q1102 : (Jvm.Cond.static ({ cls := "KindStreetsModel", name := "bodiesOf", desc := "(I)I" } : Jvm.MethodName)) ∈ lw_all := lw_g (lw_at lw_m5 89 rfl) rfl
theorem q1103 : (Jvm.Cond.code ({ cls := "KindStreetsModel", name := "bodiesOf", desc := "(I)I" } : Jvm.MethodName) prog_14_method_52_code (1 : Nat) (Option.some Jvm.ClassFile.FieldType.int)) ∈ lw_all := lw_g (lw_at lw_m5 90 rfl) rfl
theorem q1104 : (Jvm.Cond.constantLong "KindStreetsModel" (190 : Nat) (10 : Int64)) ∈ lw_all := lw_g (lw_at lw_m5 91 rfl) rfl
theorem q1106 : (Jvm.Cond.instanceMethod ({ cls := "KindStreetsModel", name := "trace", desc := "()J" } : Jvm.MethodName)) ∈ lw_all := lw_g (lw_at lw_m5 93 rfl) rfl
theorem q1107 : (Jvm.Cond.selects "KindStreetsModel" ({ cls := "KindStreetsModel", name := "trace", desc := "()J" } : Jvm.MethodName) ({ cls := "KindStreetsModel", name := "trace", desc := "()J" } : Jvm.MethodName)) ∈ lw_all := lw_g (lw_at lw_m5 94 rfl) rfl
theorem q1108 : (Jvm.Cond.code ({ cls := "KindStreetsModel", name := "trace", desc := "()J" } : Jvm.MethodName) prog_14_method_54_code (1 : Nat) (Option.some Jvm.ClassFile.FieldType.long)) ∈ lw_all := lw_g (lw_at lw_m5 95 rfl) rfl
theorem q1110 : (Jvm.Cond.instanceMethod ({ cls := "KindStreetsModel", name := "keep", desc := "(I)I" } : Jvm.MethodName)) ∈ lw_all := lw_g (lw_at lw_m5 97 rfl) rfl
theorem q1111 : (Jvm.Cond.selects "KindStreetsModel" ({ cls := "KindStreetsModel", name := "keep", desc := "(I)I" } : Jvm.MethodName) ({ cls := "KindStreetsModel", name := "keep", desc := "(I)I" } : Jvm.MethodName)) ∈ lw_all := lw_g (lw_at lw_m5 98 rfl) rfl
theorem q1112 : (Jvm.Cond.code ({ cls := "KindStreetsModel", name := "keep", desc := "(I)I" } : Jvm.MethodName) prog_14_method_55_code (3 : Nat) (Option.some Jvm.ClassFile.FieldType.int)) ∈ lw_all := lw_g (lw_at lw_m5 99 rfl) rfl
theorem q1114 : (Jvm.Cond.instanceMethod ({ cls := "KindStreetsModel", name := "back", desc := "(I)I" } : Jvm.MethodName)) ∈ lw_all := lw_g (lw_at lw_m5 101 rfl) rfl
theorem q1115 : (Jvm.Cond.selects "KindStreetsModel" ({ cls := "KindStreetsModel", name := "back", desc := "(I)I" } : Jvm.MethodName) ({ cls := "KindStreetsModel", name := "back", desc := "(I)I" } : Jvm.MethodName)) ∈ lw_all := lw_g (lw_at lw_m5 102 rfl) rfl
theorem q1116 : (Jvm.Cond.code ({ cls := "KindStreetsModel", name := "back", desc := "(I)I" } : Jvm.MethodName) prog_14_method_56_code (3 : Nat) (Option.some Jvm.ClassFile.FieldType.int)) ∈ lw_all := lw_g (lw_at lw_m5 103 rfl) rfl
theorem q1118 : (Jvm.Cond.instanceMethod ({ cls := "KindStreetsModel", name := "count", desc := "(I)I" } : Jvm.MethodName)) ∈ lw_all := lw_g (lw_at lw_m5 105 rfl) rfl
theorem q1119 : (Jvm.Cond.selects "KindStreetsModel" ({ cls := "KindStreetsModel", name := "count", desc := "(I)I" } : Jvm.MethodName) ({ cls := "KindStreetsModel", name := "count", desc := "(I)I" } : Jvm.MethodName)) ∈ lw_all := lw_g (lw_at lw_m5 106 rfl) rfl
theorem q1120 : (Jvm.Cond.code ({ cls := "KindStreetsModel", name := "count", desc := "(I)I" } : Jvm.MethodName) prog_14_method_57_code (2 : Nat) (Option.some Jvm.ClassFile.FieldType.int)) ∈ lw_all := lw_g (lw_at lw_m5 107 rfl) rfl
theorem in_X11 : ∀ w ∈ wsX110, w ∈ lw_all := lw_in wsX110 [851, 853, 855, 857, 859, 861, 863, 865, 867, 869, 871, 873, 875, 877, 879, 881, 883, 885, 887, 889, 891, 893, 895, 897, 899, 901] (by decide +kernel) (by decide +kernel)
