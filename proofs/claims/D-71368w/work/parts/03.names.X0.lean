/-! KindStreets -/
set_option maxRecDepth 100000
def RX0 : String := "KindStreets"
def TX0 : u_T := fun k => match k with
  | 0 => ("KindStreets", "town", "LKindStreets$Town;", true)
  | 1 => ("KindStreets", "draft", "LKindStreets$Town;", true)
  | 2 => ("KindStreets", "text", "[B", true)
  | 3 => ("KindStreets", "typed", "I", false)
  | 4 => ("KindStreets", "reader", "LKindStreets$Reader;", true)
  | 5 => ("KindStreets", "now", "LKindStreets$Age;", true)
  | 6 => ("KindStreets", "before", "[LKindStreets$Age;", true)
  | 7 => ("KindStreets", "undos", "I", false)
  | 8 => ("KindStreets", "images", "[LKindStreets$Image;", true)
  | 9 => ("KindStreets", "going", "[I", true)
  | 10 => ("KindStreets", "by", "[I", true)
  | 11 => ("KindStreets", "given", "[I", true)
  | 12 => ("KindStreets", "bestGiven", "[I", true)
  | 13 => ("KindStreets", "mostGiven", "I", false)
  | 14 => ("KindStreets", "measured", "[I", true)
  | 15 => ("KindStreets", "measuredAtNight", "[Z", true)
  | 16 => ("KindStreets", "measuredMany", "I", false)
  | 17 => ("KindStreets", "kinds", "[LKindStreets$Plain;", true)
  | _ => ("KindStreets", "trace", "J", false)
def tyX0 : Nat → FieldType := fun k => match k with
  | 0 => .object "KindStreets$Town"
  | 1 => .object "KindStreets$Town"
  | 2 => .array .byte
  | 3 => .int
  | 4 => .object "KindStreets$Reader"
  | 5 => .object "KindStreets$Age"
  | 6 => .array (.object "KindStreets$Age")
  | 7 => .int
  | 8 => .array (.object "KindStreets$Image")
  | 9 => .array .int
  | 10 => .array .int
  | 11 => .array .int
  | 12 => .array .int
  | 13 => .int
  | 14 => .array .int
  | 15 => .array .boolean
  | 16 => .int
  | 17 => .array (.object "KindStreets$Plain")
  | _ => .long
abbrev wsX00 : List Cond := u_ws RX0 TX0 19
set_option maxRecDepth 100000 in
theorem nmX0 : ∀ a, a < 19 → ∀ b, b < 19 → a ≠ b → (TX0 a).2.1 ≠ (TX0 b).2.1 := by decide +kernel
set_option maxRecDepth 100000 in
theorem tyX0_ok : ∀ k, k < 19 → parseFieldDescriptor (TX0 k).2.2.1 = some (tyX0 k) := by decide +kernel
abbrev cX0_type : ByteArray := prog_1_method_5_code
def yX0_type : MethodName := ⟨RX0, "type", "(I)I"⟩
def dkwX0_type_2 : List UInt8 := [180, 0, 7, 172]
abbrev dktX0_type_2 : List UInt8 := dkwX0_type_2 ++ []
def dkwX0_type_1 : List UInt8 := [172, 42, 180, 0, 11, 42, 180, 0, 7, 27, 145, 84, 42, 89, 180, 0, 7, 4, 96, 181, 0, 7, 42]
abbrev dktX0_type_1 : List UInt8 := dkwX0_type_1 ++ dktX0_type_2
def dkwX0_type_0 : List UInt8 := [27, 3, 17, 0, 255, 184, 0, 1, 154, 0, 5, 2, 172, 42, 180, 0, 7, 16, 120, 160, 0, 6, 16, 253]
abbrev dktX0_type_0 : List UInt8 := dkwX0_type_0 ++ dktX0_type_1
theorem dksX0_type_0 : cX0_type.data.toList.drop 0 = dktX0_type_0 := by decide +kernel
theorem dksX0_type_1 : cX0_type.data.toList.drop 24 = dktX0_type_1 := dk_seg dksX0_type_0 24 rfl rfl
theorem dksX0_type_2 : cX0_type.data.toList.drop 47 = dktX0_type_2 := dk_seg dksX0_type_1 23 rfl rfl
theorem dX0_type_0 : decode cX0_type 0 = .ok (.iload_n 1, 1) := dk_27 (dk_at dksX0_type_0 0 rfl rfl)
theorem dX0_type_1 : decode cX0_type 1 = .ok (.iconst 0, 1) := dk_3 (dk_at dksX0_type_0 1 rfl rfl)
theorem dX0_type_2 : decode cX0_type 2 = .ok (.sipush 255, 3) := dk_17 0 255 (dk_at dksX0_type_0 2 rfl rfl)
theorem dX0_type_5 : decode cX0_type 5 = .ok (.invokestatic 1, 3) := dk_184 0 1 (dk_at dksX0_type_0 5 rfl rfl)
theorem dX0_type_8 : decode cX0_type 8 = .ok (.ifCond .ne 5, 3) := dk_154 0 5 (dk_at dksX0_type_0 8 rfl rfl)
theorem dX0_type_11 : decode cX0_type 11 = .ok (.iconst (-1), 1) := dk_2 (dk_at dksX0_type_0 11 rfl rfl)
theorem dX0_type_12 : decode cX0_type 12 = .ok (.ireturn, 1) := dk_172 (dk_at dksX0_type_0 12 rfl rfl)
theorem dX0_type_13 : decode cX0_type 13 = .ok (.aload_n 0, 1) := dk_42 (dk_at dksX0_type_0 13 rfl rfl)
theorem dX0_type_14 : decode cX0_type 14 = .ok (.getfield 7, 3) := dk_180 0 7 (dk_at dksX0_type_0 14 rfl rfl)
theorem dX0_type_17 : decode cX0_type 17 = .ok (.bipush 120, 2) := dk_16 120 (dk_at dksX0_type_0 17 rfl rfl)
theorem dX0_type_19 : decode cX0_type 19 = .ok (.if_icmp .ne 6, 3) := dk_160 0 6 (dk_at dksX0_type_0 19 rfl rfl)
theorem dX0_type_22 : decode cX0_type 22 = .ok (.bipush (-3), 2) := dk_16 253 (dk_at dksX0_type_0 22 rfl rfl)
theorem dX0_type_24 : decode cX0_type 24 = .ok (.ireturn, 1) := dk_172 (dk_at dksX0_type_1 0 rfl rfl)
theorem dX0_type_25 : decode cX0_type 25 = .ok (.aload_n 0, 1) := dk_42 (dk_at dksX0_type_1 1 rfl rfl)
theorem dX0_type_26 : decode cX0_type 26 = .ok (.getfield 11, 3) := dk_180 0 11 (dk_at dksX0_type_1 2 rfl rfl)
theorem dX0_type_29 : decode cX0_type 29 = .ok (.aload_n 0, 1) := dk_42 (dk_at dksX0_type_1 5 rfl rfl)
theorem dX0_type_30 : decode cX0_type 30 = .ok (.getfield 7, 3) := dk_180 0 7 (dk_at dksX0_type_1 6 rfl rfl)
theorem dX0_type_33 : decode cX0_type 33 = .ok (.iload_n 1, 1) := dk_27 (dk_at dksX0_type_1 9 rfl rfl)
theorem dX0_type_34 : decode cX0_type 34 = .ok (.i2b, 1) := dk_145 (dk_at dksX0_type_1 10 rfl rfl)
theorem dX0_type_35 : decode cX0_type 35 = .ok (.bastore, 1) := dk_84 (dk_at dksX0_type_1 11 rfl rfl)
theorem dX0_type_36 : decode cX0_type 36 = .ok (.aload_n 0, 1) := dk_42 (dk_at dksX0_type_1 12 rfl rfl)
theorem dX0_type_37 : decode cX0_type 37 = .ok (.dup, 1) := dk_89 (dk_at dksX0_type_1 13 rfl rfl)
theorem dX0_type_38 : decode cX0_type 38 = .ok (.getfield 7, 3) := dk_180 0 7 (dk_at dksX0_type_1 14 rfl rfl)
theorem dX0_type_41 : decode cX0_type 41 = .ok (.iconst 1, 1) := dk_4 (dk_at dksX0_type_1 17 rfl rfl)
theorem dX0_type_42 : decode cX0_type 42 = .ok (.iadd, 1) := dk_96 (dk_at dksX0_type_1 18 rfl rfl)
theorem dX0_type_43 : decode cX0_type 43 = .ok (.putfield 7, 3) := dk_181 0 7 (dk_at dksX0_type_1 19 rfl rfl)
theorem dX0_type_46 : decode cX0_type 46 = .ok (.aload_n 0, 1) := dk_42 (dk_at dksX0_type_1 22 rfl rfl)
theorem dX0_type_47 : decode cX0_type 47 = .ok (.getfield 7, 3) := dk_180 0 7 (dk_at dksX0_type_2 0 rfl rfl)
theorem dX0_type_50 : decode cX0_type 50 = .ok (.ireturn, 1) := dk_172 (dk_at dksX0_type_2 3 rfl rfl)
abbrev cX0_isIn : ByteArray := prog_1_method_1_code
def yX0_isIn : MethodName := ⟨RX0, "isIn", "(III)Z"⟩
def dkwX0_isIn_0 : List UInt8 := [26, 27, 161, 0, 12, 26, 28, 163, 0, 7, 4, 167, 0, 4, 3, 172]
abbrev dktX0_isIn_0 : List UInt8 := dkwX0_isIn_0 ++ []
theorem dksX0_isIn_0 : cX0_isIn.data.toList.drop 0 = dktX0_isIn_0 := by decide +kernel
theorem dX0_isIn_0 : decode cX0_isIn 0 = .ok (.iload_n 0, 1) := dk_26 (dk_at dksX0_isIn_0 0 rfl rfl)
theorem dX0_isIn_1 : decode cX0_isIn 1 = .ok (.iload_n 1, 1) := dk_27 (dk_at dksX0_isIn_0 1 rfl rfl)
theorem dX0_isIn_2 : decode cX0_isIn 2 = .ok (.if_icmp .lt 12, 3) := dk_161 0 12 (dk_at dksX0_isIn_0 2 rfl rfl)
theorem dX0_isIn_5 : decode cX0_isIn 5 = .ok (.iload_n 0, 1) := dk_26 (dk_at dksX0_isIn_0 5 rfl rfl)
theorem dX0_isIn_6 : decode cX0_isIn 6 = .ok (.iload_n 2, 1) := dk_28 (dk_at dksX0_isIn_0 6 rfl rfl)
theorem dX0_isIn_7 : decode cX0_isIn 7 = .ok (.if_icmp .gt 7, 3) := dk_163 0 7 (dk_at dksX0_isIn_0 7 rfl rfl)
theorem dX0_isIn_10 : decode cX0_isIn 10 = .ok (.iconst 1, 1) := dk_4 (dk_at dksX0_isIn_0 10 rfl rfl)
theorem dX0_isIn_11 : decode cX0_isIn 11 = .ok (.goto 4, 3) := dk_167 0 4 (dk_at dksX0_isIn_0 11 rfl rfl)
theorem dX0_isIn_14 : decode cX0_isIn 14 = .ok (.iconst 0, 1) := dk_3 (dk_at dksX0_isIn_0 14 rfl rfl)
theorem dX0_isIn_15 : decode cX0_isIn 15 = .ok (.ireturn, 1) := dk_172 (dk_at dksX0_isIn_0 15 rfl rfl)
abbrev cX0_clear : ByteArray := prog_1_method_6_code
def yX0_clear : MethodName := ⟨RX0, "clear", "()I"⟩
def dkwX0_clear_0 : List UInt8 := [42, 180, 0, 7, 60, 42, 3, 181, 0, 7, 27, 172]
abbrev dktX0_clear_0 : List UInt8 := dkwX0_clear_0 ++ []
theorem dksX0_clear_0 : cX0_clear.data.toList.drop 0 = dktX0_clear_0 := by decide +kernel
theorem dX0_clear_0 : decode cX0_clear 0 = .ok (.aload_n 0, 1) := dk_42 (dk_at dksX0_clear_0 0 rfl rfl)
theorem dX0_clear_1 : decode cX0_clear 1 = .ok (.getfield 7, 3) := dk_180 0 7 (dk_at dksX0_clear_0 1 rfl rfl)
theorem dX0_clear_4 : decode cX0_clear 4 = .ok (.istore_n 1, 1) := dk_60 (dk_at dksX0_clear_0 4 rfl rfl)
theorem dX0_clear_5 : decode cX0_clear 5 = .ok (.aload_n 0, 1) := dk_42 (dk_at dksX0_clear_0 5 rfl rfl)
theorem dX0_clear_6 : decode cX0_clear 6 = .ok (.iconst 0, 1) := dk_3 (dk_at dksX0_clear_0 6 rfl rfl)
theorem dX0_clear_7 : decode cX0_clear 7 = .ok (.putfield 7, 3) := dk_181 0 7 (dk_at dksX0_clear_0 7 rfl rfl)
theorem dX0_clear_10 : decode cX0_clear 10 = .ok (.iload_n 1, 1) := dk_27 (dk_at dksX0_clear_0 10 rfl rfl)
theorem dX0_clear_11 : decode cX0_clear 11 = .ok (.ireturn, 1) := dk_172 (dk_at dksX0_clear_0 11 rfl rfl)
abbrev cX0_town : ByteArray := prog_1_method_7_code
def yX0_town : MethodName := ⟨RX0, "town", "()I"⟩
def dkwX0_town_3 : List UInt8 := [4, 50, 3, 181, 0, 62, 27, 172]
abbrev dktX0_town_3 : List UInt8 := dkwX0_town_3 ++ []
def dkwX0_town_2 : List UInt8 := [180, 0, 49, 42, 180, 0, 30, 182, 0, 53, 42, 180, 0, 58, 3, 50, 3, 181, 0, 62, 42, 180, 0, 58]
abbrev dktX0_town_2 : List UInt8 := dkwX0_town_2 ++ dktX0_town_3
def dkwX0_town_1 : List UInt8 := [42, 180, 0, 34, 182, 0, 37, 42, 3, 181, 0, 7, 42, 3, 181, 0, 43, 42, 3, 181, 0, 46, 42]
abbrev dktX0_town_1 : List UInt8 := dkwX0_town_1 ++ dktX0_town_2
def dkwX0_town_0 : List UInt8 := [42, 180, 0, 15, 182, 0, 19, 60, 167, 0, 12, 77, 16, 246, 44, 180, 0, 27, 100, 172, 42, 180, 0, 30]
abbrev dktX0_town_0 : List UInt8 := dkwX0_town_0 ++ dktX0_town_1
theorem dksX0_town_0 : cX0_town.data.toList.drop 0 = dktX0_town_0 := by decide +kernel
theorem dksX0_town_1 : cX0_town.data.toList.drop 24 = dktX0_town_1 := dk_seg dksX0_town_0 24 rfl rfl
theorem dksX0_town_2 : cX0_town.data.toList.drop 47 = dktX0_town_2 := dk_seg dksX0_town_1 23 rfl rfl
theorem dksX0_town_3 : cX0_town.data.toList.drop 71 = dktX0_town_3 := dk_seg dksX0_town_2 24 rfl rfl
theorem dX0_town_0 : decode cX0_town 0 = .ok (.aload_n 0, 1) := dk_42 (dk_at dksX0_town_0 0 rfl rfl)
theorem dX0_town_1 : decode cX0_town 1 = .ok (.getfield 15, 3) := dk_180 0 15 (dk_at dksX0_town_0 1 rfl rfl)
theorem dX0_town_4 : decode cX0_town 4 = .ok (.invokevirtual 19, 3) := dk_182 0 19 (dk_at dksX0_town_0 4 rfl rfl)
theorem dX0_town_7 : decode cX0_town 7 = .ok (.istore_n 1, 1) := dk_60 (dk_at dksX0_town_0 7 rfl rfl)
theorem dX0_town_8 : decode cX0_town 8 = .ok (.goto 12, 3) := dk_167 0 12 (dk_at dksX0_town_0 8 rfl rfl)
theorem dX0_town_11 : decode cX0_town 11 = .ok (.astore_n 2, 1) := dk_77 (dk_at dksX0_town_0 11 rfl rfl)
theorem dX0_town_12 : decode cX0_town 12 = .ok (.bipush (-10), 2) := dk_16 246 (dk_at dksX0_town_0 12 rfl rfl)
theorem dX0_town_14 : decode cX0_town 14 = .ok (.aload_n 2, 1) := dk_44 (dk_at dksX0_town_0 14 rfl rfl)
theorem dX0_town_15 : decode cX0_town 15 = .ok (.getfield 27, 3) := dk_180 0 27 (dk_at dksX0_town_0 15 rfl rfl)
theorem dX0_town_18 : decode cX0_town 18 = .ok (.isub, 1) := dk_100 (dk_at dksX0_town_0 18 rfl rfl)
theorem dX0_town_19 : decode cX0_town 19 = .ok (.ireturn, 1) := dk_172 (dk_at dksX0_town_0 19 rfl rfl)
theorem dX0_town_20 : decode cX0_town 20 = .ok (.aload_n 0, 1) := dk_42 (dk_at dksX0_town_0 20 rfl rfl)
theorem dX0_town_21 : decode cX0_town 21 = .ok (.getfield 30, 3) := dk_180 0 30 (dk_at dksX0_town_0 21 rfl rfl)
theorem dX0_town_24 : decode cX0_town 24 = .ok (.aload_n 0, 1) := dk_42 (dk_at dksX0_town_1 0 rfl rfl)
theorem dX0_town_25 : decode cX0_town 25 = .ok (.getfield 34, 3) := dk_180 0 34 (dk_at dksX0_town_1 1 rfl rfl)
theorem dX0_town_28 : decode cX0_town 28 = .ok (.invokevirtual 37, 3) := dk_182 0 37 (dk_at dksX0_town_1 4 rfl rfl)
theorem dX0_town_31 : decode cX0_town 31 = .ok (.aload_n 0, 1) := dk_42 (dk_at dksX0_town_1 7 rfl rfl)
theorem dX0_town_32 : decode cX0_town 32 = .ok (.iconst 0, 1) := dk_3 (dk_at dksX0_town_1 8 rfl rfl)
theorem dX0_town_33 : decode cX0_town 33 = .ok (.putfield 7, 3) := dk_181 0 7 (dk_at dksX0_town_1 9 rfl rfl)
theorem dX0_town_36 : decode cX0_town 36 = .ok (.aload_n 0, 1) := dk_42 (dk_at dksX0_town_1 12 rfl rfl)
theorem dX0_town_37 : decode cX0_town 37 = .ok (.iconst 0, 1) := dk_3 (dk_at dksX0_town_1 13 rfl rfl)
theorem dX0_town_38 : decode cX0_town 38 = .ok (.putfield 43, 3) := dk_181 0 43 (dk_at dksX0_town_1 14 rfl rfl)
theorem dX0_town_41 : decode cX0_town 41 = .ok (.aload_n 0, 1) := dk_42 (dk_at dksX0_town_1 17 rfl rfl)
theorem dX0_town_42 : decode cX0_town 42 = .ok (.iconst 0, 1) := dk_3 (dk_at dksX0_town_1 18 rfl rfl)
theorem dX0_town_43 : decode cX0_town 43 = .ok (.putfield 46, 3) := dk_181 0 46 (dk_at dksX0_town_1 19 rfl rfl)
theorem dX0_town_46 : decode cX0_town 46 = .ok (.aload_n 0, 1) := dk_42 (dk_at dksX0_town_1 22 rfl rfl)
theorem dX0_town_47 : decode cX0_town 47 = .ok (.getfield 49, 3) := dk_180 0 49 (dk_at dksX0_town_2 0 rfl rfl)
theorem dX0_town_50 : decode cX0_town 50 = .ok (.aload_n 0, 1) := dk_42 (dk_at dksX0_town_2 3 rfl rfl)
theorem dX0_town_51 : decode cX0_town 51 = .ok (.getfield 30, 3) := dk_180 0 30 (dk_at dksX0_town_2 4 rfl rfl)
theorem dX0_town_54 : decode cX0_town 54 = .ok (.invokevirtual 53, 3) := dk_182 0 53 (dk_at dksX0_town_2 7 rfl rfl)
theorem dX0_town_57 : decode cX0_town 57 = .ok (.aload_n 0, 1) := dk_42 (dk_at dksX0_town_2 10 rfl rfl)
theorem dX0_town_58 : decode cX0_town 58 = .ok (.getfield 58, 3) := dk_180 0 58 (dk_at dksX0_town_2 11 rfl rfl)
theorem dX0_town_61 : decode cX0_town 61 = .ok (.iconst 0, 1) := dk_3 (dk_at dksX0_town_2 14 rfl rfl)
theorem dX0_town_62 : decode cX0_town 62 = .ok (.aaload, 1) := dk_50 (dk_at dksX0_town_2 15 rfl rfl)
theorem dX0_town_63 : decode cX0_town 63 = .ok (.iconst 0, 1) := dk_3 (dk_at dksX0_town_2 16 rfl rfl)
theorem dX0_town_64 : decode cX0_town 64 = .ok (.putfield 62, 3) := dk_181 0 62 (dk_at dksX0_town_2 17 rfl rfl)
theorem dX0_town_67 : decode cX0_town 67 = .ok (.aload_n 0, 1) := dk_42 (dk_at dksX0_town_2 20 rfl rfl)
theorem dX0_town_68 : decode cX0_town 68 = .ok (.getfield 58, 3) := dk_180 0 58 (dk_at dksX0_town_2 21 rfl rfl)
theorem dX0_town_71 : decode cX0_town 71 = .ok (.iconst 1, 1) := dk_4 (dk_at dksX0_town_3 0 rfl rfl)
theorem dX0_town_72 : decode cX0_town 72 = .ok (.aaload, 1) := dk_50 (dk_at dksX0_town_3 1 rfl rfl)
theorem dX0_town_73 : decode cX0_town 73 = .ok (.iconst 0, 1) := dk_3 (dk_at dksX0_town_3 2 rfl rfl)
theorem dX0_town_74 : decode cX0_town 74 = .ok (.putfield 62, 3) := dk_181 0 62 (dk_at dksX0_town_3 3 rfl rfl)
theorem dX0_town_77 : decode cX0_town 77 = .ok (.iload_n 1, 1) := dk_27 (dk_at dksX0_town_3 6 rfl rfl)
theorem dX0_town_78 : decode cX0_town 78 = .ok (.ireturn, 1) := dk_172 (dk_at dksX0_town_3 7 rfl rfl)
abbrev cX0_init : ByteArray := prog_1_method_8_code
def yX0_init : MethodName := ⟨RX0, "<init>", "()V"⟩
def dkwX0_init_9 : List UInt8 := [162, 0, 22, 42, 180, 0, 79, 27, 187, 0, 54, 89, 183, 0, 78, 83, 132, 1, 1, 167, 255, 234, 177]
abbrev dktX0_init_9 : List UInt8 := dkwX0_init_9 ++ []
def dkwX0_init_8 : List UInt8 := [89, 183, 0, 118, 83, 89, 8, 187, 0, 119, 89, 183, 0, 121, 83, 181, 0, 122, 3, 60, 27, 16, 10]
abbrev dktX0_init_8 : List UInt8 := dkwX0_init_8 ++ dktX0_init_9
def dkwX0_init_7 : List UInt8 := [5, 187, 0, 110, 89, 183, 0, 112, 83, 89, 6, 187, 0, 113, 89, 183, 0, 115, 83, 89, 7, 187, 0, 116]
abbrev dktX0_init_7 : List UInt8 := dkwX0_init_7 ++ dktX0_init_8
def dkwX0_init_6 : List UInt8 := [189, 0, 104, 89, 3, 187, 0, 104, 89, 183, 0, 106, 83, 89, 4, 187, 0, 107, 89, 183, 0, 109, 83, 89]
abbrev dktX0_init_6 : List UInt8 := dkwX0_init_6 ++ dktX0_init_7
def dkwX0_init_5 : List UInt8 := [16, 6, 188, 10, 181, 0, 94, 42, 7, 188, 10, 181, 0, 97, 42, 7, 188, 4, 181, 0, 100, 42, 16, 6]
abbrev dktX0_init_5 : List UInt8 := dkwX0_init_5 ++ dktX0_init_6
def dkwX0_init_4 : List UInt8 := [16, 9, 188, 10, 181, 0, 84, 42, 16, 8, 188, 10, 181, 0, 88, 42, 16, 6, 188, 10, 181, 0, 91, 42]
abbrev dktX0_init_4 : List UInt8 := dkwX0_init_4 ++ dktX0_init_5
def dkwX0_init_3 : List UInt8 := [89, 3, 187, 0, 63, 89, 183, 0, 83, 83, 89, 4, 187, 0, 63, 89, 183, 0, 83, 83, 181, 0, 58, 42]
abbrev dktX0_init_3 : List UInt8 := dkwX0_init_3 ++ dktX0_init_4
def dkwX0_init_2 : List UInt8 := [187, 0, 54, 89, 183, 0, 78, 181, 0, 49, 42, 16, 10, 189, 0, 54, 181, 0, 79, 42, 5, 189, 0, 63]
abbrev dktX0_init_2 : List UInt8 := dkwX0_init_2 ++ dktX0_init_3
def dkwX0_init_1 : List UInt8 := [181, 0, 34, 42, 16, 120, 188, 8, 181, 0, 11, 42, 187, 0, 20, 89, 42, 183, 0, 75, 181, 0, 15, 42]
abbrev dktX0_init_1 : List UInt8 := dkwX0_init_1 ++ dktX0_init_2
def dkwX0_init_0 : List UInt8 := [42, 183, 0, 68, 42, 187, 0, 38, 89, 183, 0, 74, 181, 0, 30, 42, 187, 0, 38, 89, 183, 0, 74]
abbrev dktX0_init_0 : List UInt8 := dkwX0_init_0 ++ dktX0_init_1
theorem dksX0_init_0 : cX0_init.data.toList.drop 0 = dktX0_init_0 := by decide +kernel
theorem dksX0_init_1 : cX0_init.data.toList.drop 23 = dktX0_init_1 := dk_seg dksX0_init_0 23 rfl rfl
theorem dksX0_init_2 : cX0_init.data.toList.drop 47 = dktX0_init_2 := dk_seg dksX0_init_1 24 rfl rfl
theorem dksX0_init_3 : cX0_init.data.toList.drop 71 = dktX0_init_3 := dk_seg dksX0_init_2 24 rfl rfl
theorem dksX0_init_4 : cX0_init.data.toList.drop 95 = dktX0_init_4 := dk_seg dksX0_init_3 24 rfl rfl
theorem dksX0_init_5 : cX0_init.data.toList.drop 119 = dktX0_init_5 := dk_seg dksX0_init_4 24 rfl rfl
theorem dksX0_init_6 : cX0_init.data.toList.drop 143 = dktX0_init_6 := dk_seg dksX0_init_5 24 rfl rfl
theorem dksX0_init_7 : cX0_init.data.toList.drop 167 = dktX0_init_7 := dk_seg dksX0_init_6 24 rfl rfl
theorem dksX0_init_8 : cX0_init.data.toList.drop 191 = dktX0_init_8 := dk_seg dksX0_init_7 24 rfl rfl
theorem dksX0_init_9 : cX0_init.data.toList.drop 214 = dktX0_init_9 := dk_seg dksX0_init_8 23 rfl rfl
theorem dX0_init_0 : decode cX0_init 0 = .ok (.aload_n 0, 1) := dk_42 (dk_at dksX0_init_0 0 rfl rfl)
theorem dX0_init_1 : decode cX0_init 1 = .ok (.invokespecial 68, 3) := dk_183 0 68 (dk_at dksX0_init_0 1 rfl rfl)
theorem dX0_init_4 : decode cX0_init 4 = .ok (.aload_n 0, 1) := dk_42 (dk_at dksX0_init_0 4 rfl rfl)
theorem dX0_init_5 : decode cX0_init 5 = .ok (.new 38, 3) := dk_187 0 38 (dk_at dksX0_init_0 5 rfl rfl)
theorem dX0_init_8 : decode cX0_init 8 = .ok (.dup, 1) := dk_89 (dk_at dksX0_init_0 8 rfl rfl)
theorem dX0_init_9 : decode cX0_init 9 = .ok (.invokespecial 74, 3) := dk_183 0 74 (dk_at dksX0_init_0 9 rfl rfl)
theorem dX0_init_12 : decode cX0_init 12 = .ok (.putfield 30, 3) := dk_181 0 30 (dk_at dksX0_init_0 12 rfl rfl)
theorem dX0_init_15 : decode cX0_init 15 = .ok (.aload_n 0, 1) := dk_42 (dk_at dksX0_init_0 15 rfl rfl)
theorem dX0_init_16 : decode cX0_init 16 = .ok (.new 38, 3) := dk_187 0 38 (dk_at dksX0_init_0 16 rfl rfl)
theorem dX0_init_19 : decode cX0_init 19 = .ok (.dup, 1) := dk_89 (dk_at dksX0_init_0 19 rfl rfl)
theorem dX0_init_20 : decode cX0_init 20 = .ok (.invokespecial 74, 3) := dk_183 0 74 (dk_at dksX0_init_0 20 rfl rfl)
theorem dX0_init_23 : decode cX0_init 23 = .ok (.putfield 34, 3) := dk_181 0 34 (dk_at dksX0_init_1 0 rfl rfl)
theorem dX0_init_26 : decode cX0_init 26 = .ok (.aload_n 0, 1) := dk_42 (dk_at dksX0_init_1 3 rfl rfl)
theorem dX0_init_27 : decode cX0_init 27 = .ok (.bipush 120, 2) := dk_16 120 (dk_at dksX0_init_1 4 rfl rfl)
theorem dX0_init_29 : decode cX0_init 29 = .ok (.newarray .byte, 2) := dk_188_8 (dk_at dksX0_init_1 6 rfl rfl)
theorem dX0_init_31 : decode cX0_init 31 = .ok (.putfield 11, 3) := dk_181 0 11 (dk_at dksX0_init_1 8 rfl rfl)
theorem dX0_init_34 : decode cX0_init 34 = .ok (.aload_n 0, 1) := dk_42 (dk_at dksX0_init_1 11 rfl rfl)
theorem dX0_init_35 : decode cX0_init 35 = .ok (.new 20, 3) := dk_187 0 20 (dk_at dksX0_init_1 12 rfl rfl)
theorem dX0_init_38 : decode cX0_init 38 = .ok (.dup, 1) := dk_89 (dk_at dksX0_init_1 15 rfl rfl)
theorem dX0_init_39 : decode cX0_init 39 = .ok (.aload_n 0, 1) := dk_42 (dk_at dksX0_init_1 16 rfl rfl)
theorem dX0_init_40 : decode cX0_init 40 = .ok (.invokespecial 75, 3) := dk_183 0 75 (dk_at dksX0_init_1 17 rfl rfl)
theorem dX0_init_43 : decode cX0_init 43 = .ok (.putfield 15, 3) := dk_181 0 15 (dk_at dksX0_init_1 20 rfl rfl)
theorem dX0_init_46 : decode cX0_init 46 = .ok (.aload_n 0, 1) := dk_42 (dk_at dksX0_init_1 23 rfl rfl)
theorem dX0_init_47 : decode cX0_init 47 = .ok (.new 54, 3) := dk_187 0 54 (dk_at dksX0_init_2 0 rfl rfl)
theorem dX0_init_50 : decode cX0_init 50 = .ok (.dup, 1) := dk_89 (dk_at dksX0_init_2 3 rfl rfl)
theorem dX0_init_51 : decode cX0_init 51 = .ok (.invokespecial 78, 3) := dk_183 0 78 (dk_at dksX0_init_2 4 rfl rfl)
theorem dX0_init_54 : decode cX0_init 54 = .ok (.putfield 49, 3) := dk_181 0 49 (dk_at dksX0_init_2 7 rfl rfl)
theorem dX0_init_57 : decode cX0_init 57 = .ok (.aload_n 0, 1) := dk_42 (dk_at dksX0_init_2 10 rfl rfl)
theorem dX0_init_58 : decode cX0_init 58 = .ok (.bipush 10, 2) := dk_16 10 (dk_at dksX0_init_2 11 rfl rfl)
theorem dX0_init_60 : decode cX0_init 60 = .ok (.anewarray 54, 3) := dk_189 0 54 (dk_at dksX0_init_2 13 rfl rfl)
theorem dX0_init_63 : decode cX0_init 63 = .ok (.putfield 79, 3) := dk_181 0 79 (dk_at dksX0_init_2 16 rfl rfl)
theorem dX0_init_66 : decode cX0_init 66 = .ok (.aload_n 0, 1) := dk_42 (dk_at dksX0_init_2 19 rfl rfl)
theorem dX0_init_67 : decode cX0_init 67 = .ok (.iconst 2, 1) := dk_5 (dk_at dksX0_init_2 20 rfl rfl)
theorem dX0_init_68 : decode cX0_init 68 = .ok (.anewarray 63, 3) := dk_189 0 63 (dk_at dksX0_init_2 21 rfl rfl)
theorem dX0_init_71 : decode cX0_init 71 = .ok (.dup, 1) := dk_89 (dk_at dksX0_init_3 0 rfl rfl)
theorem dX0_init_72 : decode cX0_init 72 = .ok (.iconst 0, 1) := dk_3 (dk_at dksX0_init_3 1 rfl rfl)
theorem dX0_init_73 : decode cX0_init 73 = .ok (.new 63, 3) := dk_187 0 63 (dk_at dksX0_init_3 2 rfl rfl)
theorem dX0_init_76 : decode cX0_init 76 = .ok (.dup, 1) := dk_89 (dk_at dksX0_init_3 5 rfl rfl)
theorem dX0_init_77 : decode cX0_init 77 = .ok (.invokespecial 83, 3) := dk_183 0 83 (dk_at dksX0_init_3 6 rfl rfl)
theorem dX0_init_80 : decode cX0_init 80 = .ok (.aastore, 1) := dk_83 (dk_at dksX0_init_3 9 rfl rfl)
theorem dX0_init_81 : decode cX0_init 81 = .ok (.dup, 1) := dk_89 (dk_at dksX0_init_3 10 rfl rfl)
theorem dX0_init_82 : decode cX0_init 82 = .ok (.iconst 1, 1) := dk_4 (dk_at dksX0_init_3 11 rfl rfl)
theorem dX0_init_83 : decode cX0_init 83 = .ok (.new 63, 3) := dk_187 0 63 (dk_at dksX0_init_3 12 rfl rfl)
theorem dX0_init_86 : decode cX0_init 86 = .ok (.dup, 1) := dk_89 (dk_at dksX0_init_3 15 rfl rfl)
theorem dX0_init_87 : decode cX0_init 87 = .ok (.invokespecial 83, 3) := dk_183 0 83 (dk_at dksX0_init_3 16 rfl rfl)
theorem dX0_init_90 : decode cX0_init 90 = .ok (.aastore, 1) := dk_83 (dk_at dksX0_init_3 19 rfl rfl)
theorem dX0_init_91 : decode cX0_init 91 = .ok (.putfield 58, 3) := dk_181 0 58 (dk_at dksX0_init_3 20 rfl rfl)
theorem dX0_init_94 : decode cX0_init 94 = .ok (.aload_n 0, 1) := dk_42 (dk_at dksX0_init_3 23 rfl rfl)
theorem dX0_init_95 : decode cX0_init 95 = .ok (.bipush 9, 2) := dk_16 9 (dk_at dksX0_init_4 0 rfl rfl)
theorem dX0_init_97 : decode cX0_init 97 = .ok (.newarray .int, 2) := dk_188_10 (dk_at dksX0_init_4 2 rfl rfl)
theorem dX0_init_99 : decode cX0_init 99 = .ok (.putfield 84, 3) := dk_181 0 84 (dk_at dksX0_init_4 4 rfl rfl)
theorem dX0_init_102 : decode cX0_init 102 = .ok (.aload_n 0, 1) := dk_42 (dk_at dksX0_init_4 7 rfl rfl)
theorem dX0_init_103 : decode cX0_init 103 = .ok (.bipush 8, 2) := dk_16 8 (dk_at dksX0_init_4 8 rfl rfl)
theorem dX0_init_105 : decode cX0_init 105 = .ok (.newarray .int, 2) := dk_188_10 (dk_at dksX0_init_4 10 rfl rfl)
theorem dX0_init_107 : decode cX0_init 107 = .ok (.putfield 88, 3) := dk_181 0 88 (dk_at dksX0_init_4 12 rfl rfl)
theorem dX0_init_110 : decode cX0_init 110 = .ok (.aload_n 0, 1) := dk_42 (dk_at dksX0_init_4 15 rfl rfl)
theorem dX0_init_111 : decode cX0_init 111 = .ok (.bipush 6, 2) := dk_16 6 (dk_at dksX0_init_4 16 rfl rfl)
theorem dX0_init_113 : decode cX0_init 113 = .ok (.newarray .int, 2) := dk_188_10 (dk_at dksX0_init_4 18 rfl rfl)
theorem dX0_init_115 : decode cX0_init 115 = .ok (.putfield 91, 3) := dk_181 0 91 (dk_at dksX0_init_4 20 rfl rfl)
theorem dX0_init_118 : decode cX0_init 118 = .ok (.aload_n 0, 1) := dk_42 (dk_at dksX0_init_4 23 rfl rfl)
theorem dX0_init_119 : decode cX0_init 119 = .ok (.bipush 6, 2) := dk_16 6 (dk_at dksX0_init_5 0 rfl rfl)
theorem dX0_init_121 : decode cX0_init 121 = .ok (.newarray .int, 2) := dk_188_10 (dk_at dksX0_init_5 2 rfl rfl)
theorem dX0_init_123 : decode cX0_init 123 = .ok (.putfield 94, 3) := dk_181 0 94 (dk_at dksX0_init_5 4 rfl rfl)
theorem dX0_init_126 : decode cX0_init 126 = .ok (.aload_n 0, 1) := dk_42 (dk_at dksX0_init_5 7 rfl rfl)
theorem dX0_init_127 : decode cX0_init 127 = .ok (.iconst 4, 1) := dk_7 (dk_at dksX0_init_5 8 rfl rfl)
theorem dX0_init_128 : decode cX0_init 128 = .ok (.newarray .int, 2) := dk_188_10 (dk_at dksX0_init_5 9 rfl rfl)
theorem dX0_init_130 : decode cX0_init 130 = .ok (.putfield 97, 3) := dk_181 0 97 (dk_at dksX0_init_5 11 rfl rfl)
theorem dX0_init_133 : decode cX0_init 133 = .ok (.aload_n 0, 1) := dk_42 (dk_at dksX0_init_5 14 rfl rfl)
theorem dX0_init_134 : decode cX0_init 134 = .ok (.iconst 4, 1) := dk_7 (dk_at dksX0_init_5 15 rfl rfl)
theorem dX0_init_135 : decode cX0_init 135 = .ok (.newarray .boolean, 2) := dk_188_4 (dk_at dksX0_init_5 16 rfl rfl)
theorem dX0_init_137 : decode cX0_init 137 = .ok (.putfield 100, 3) := dk_181 0 100 (dk_at dksX0_init_5 18 rfl rfl)
theorem dX0_init_140 : decode cX0_init 140 = .ok (.aload_n 0, 1) := dk_42 (dk_at dksX0_init_5 21 rfl rfl)
theorem dX0_init_141 : decode cX0_init 141 = .ok (.bipush 6, 2) := dk_16 6 (dk_at dksX0_init_5 22 rfl rfl)
theorem dX0_init_143 : decode cX0_init 143 = .ok (.anewarray 104, 3) := dk_189 0 104 (dk_at dksX0_init_6 0 rfl rfl)
theorem dX0_init_146 : decode cX0_init 146 = .ok (.dup, 1) := dk_89 (dk_at dksX0_init_6 3 rfl rfl)
theorem dX0_init_147 : decode cX0_init 147 = .ok (.iconst 0, 1) := dk_3 (dk_at dksX0_init_6 4 rfl rfl)
theorem dX0_init_148 : decode cX0_init 148 = .ok (.new 104, 3) := dk_187 0 104 (dk_at dksX0_init_6 5 rfl rfl)
theorem dX0_init_151 : decode cX0_init 151 = .ok (.dup, 1) := dk_89 (dk_at dksX0_init_6 8 rfl rfl)
theorem dX0_init_152 : decode cX0_init 152 = .ok (.invokespecial 106, 3) := dk_183 0 106 (dk_at dksX0_init_6 9 rfl rfl)
theorem dX0_init_155 : decode cX0_init 155 = .ok (.aastore, 1) := dk_83 (dk_at dksX0_init_6 12 rfl rfl)
theorem dX0_init_156 : decode cX0_init 156 = .ok (.dup, 1) := dk_89 (dk_at dksX0_init_6 13 rfl rfl)
theorem dX0_init_157 : decode cX0_init 157 = .ok (.iconst 1, 1) := dk_4 (dk_at dksX0_init_6 14 rfl rfl)
theorem dX0_init_158 : decode cX0_init 158 = .ok (.new 107, 3) := dk_187 0 107 (dk_at dksX0_init_6 15 rfl rfl)
theorem dX0_init_161 : decode cX0_init 161 = .ok (.dup, 1) := dk_89 (dk_at dksX0_init_6 18 rfl rfl)
theorem dX0_init_162 : decode cX0_init 162 = .ok (.invokespecial 109, 3) := dk_183 0 109 (dk_at dksX0_init_6 19 rfl rfl)
theorem dX0_init_165 : decode cX0_init 165 = .ok (.aastore, 1) := dk_83 (dk_at dksX0_init_6 22 rfl rfl)
theorem dX0_init_166 : decode cX0_init 166 = .ok (.dup, 1) := dk_89 (dk_at dksX0_init_6 23 rfl rfl)
theorem dX0_init_167 : decode cX0_init 167 = .ok (.iconst 2, 1) := dk_5 (dk_at dksX0_init_7 0 rfl rfl)
theorem dX0_init_168 : decode cX0_init 168 = .ok (.new 110, 3) := dk_187 0 110 (dk_at dksX0_init_7 1 rfl rfl)
theorem dX0_init_171 : decode cX0_init 171 = .ok (.dup, 1) := dk_89 (dk_at dksX0_init_7 4 rfl rfl)
theorem dX0_init_172 : decode cX0_init 172 = .ok (.invokespecial 112, 3) := dk_183 0 112 (dk_at dksX0_init_7 5 rfl rfl)
theorem dX0_init_175 : decode cX0_init 175 = .ok (.aastore, 1) := dk_83 (dk_at dksX0_init_7 8 rfl rfl)
theorem dX0_init_176 : decode cX0_init 176 = .ok (.dup, 1) := dk_89 (dk_at dksX0_init_7 9 rfl rfl)
theorem dX0_init_177 : decode cX0_init 177 = .ok (.iconst 3, 1) := dk_6 (dk_at dksX0_init_7 10 rfl rfl)
theorem dX0_init_178 : decode cX0_init 178 = .ok (.new 113, 3) := dk_187 0 113 (dk_at dksX0_init_7 11 rfl rfl)
theorem dX0_init_181 : decode cX0_init 181 = .ok (.dup, 1) := dk_89 (dk_at dksX0_init_7 14 rfl rfl)
theorem dX0_init_182 : decode cX0_init 182 = .ok (.invokespecial 115, 3) := dk_183 0 115 (dk_at dksX0_init_7 15 rfl rfl)
theorem dX0_init_185 : decode cX0_init 185 = .ok (.aastore, 1) := dk_83 (dk_at dksX0_init_7 18 rfl rfl)
theorem dX0_init_186 : decode cX0_init 186 = .ok (.dup, 1) := dk_89 (dk_at dksX0_init_7 19 rfl rfl)
theorem dX0_init_187 : decode cX0_init 187 = .ok (.iconst 4, 1) := dk_7 (dk_at dksX0_init_7 20 rfl rfl)
theorem dX0_init_188 : decode cX0_init 188 = .ok (.new 116, 3) := dk_187 0 116 (dk_at dksX0_init_7 21 rfl rfl)
theorem dX0_init_191 : decode cX0_init 191 = .ok (.dup, 1) := dk_89 (dk_at dksX0_init_8 0 rfl rfl)
theorem dX0_init_192 : decode cX0_init 192 = .ok (.invokespecial 118, 3) := dk_183 0 118 (dk_at dksX0_init_8 1 rfl rfl)
theorem dX0_init_195 : decode cX0_init 195 = .ok (.aastore, 1) := dk_83 (dk_at dksX0_init_8 4 rfl rfl)
theorem dX0_init_196 : decode cX0_init 196 = .ok (.dup, 1) := dk_89 (dk_at dksX0_init_8 5 rfl rfl)
theorem dX0_init_197 : decode cX0_init 197 = .ok (.iconst 5, 1) := dk_8 (dk_at dksX0_init_8 6 rfl rfl)
theorem dX0_init_198 : decode cX0_init 198 = .ok (.new 119, 3) := dk_187 0 119 (dk_at dksX0_init_8 7 rfl rfl)
theorem dX0_init_201 : decode cX0_init 201 = .ok (.dup, 1) := dk_89 (dk_at dksX0_init_8 10 rfl rfl)
theorem dX0_init_202 : decode cX0_init 202 = .ok (.invokespecial 121, 3) := dk_183 0 121 (dk_at dksX0_init_8 11 rfl rfl)
theorem dX0_init_205 : decode cX0_init 205 = .ok (.aastore, 1) := dk_83 (dk_at dksX0_init_8 14 rfl rfl)
theorem dX0_init_206 : decode cX0_init 206 = .ok (.putfield 122, 3) := dk_181 0 122 (dk_at dksX0_init_8 15 rfl rfl)
theorem dX0_init_209 : decode cX0_init 209 = .ok (.iconst 0, 1) := dk_3 (dk_at dksX0_init_8 18 rfl rfl)
theorem dX0_init_210 : decode cX0_init 210 = .ok (.istore_n 1, 1) := dk_60 (dk_at dksX0_init_8 19 rfl rfl)
theorem dX0_init_211 : decode cX0_init 211 = .ok (.iload_n 1, 1) := dk_27 (dk_at dksX0_init_8 20 rfl rfl)
theorem dX0_init_212 : decode cX0_init 212 = .ok (.bipush 10, 2) := dk_16 10 (dk_at dksX0_init_8 21 rfl rfl)
theorem dX0_init_214 : decode cX0_init 214 = .ok (.if_icmp .ge 22, 3) := dk_162 0 22 (dk_at dksX0_init_9 0 rfl rfl)
theorem dX0_init_217 : decode cX0_init 217 = .ok (.aload_n 0, 1) := dk_42 (dk_at dksX0_init_9 3 rfl rfl)
theorem dX0_init_218 : decode cX0_init 218 = .ok (.getfield 79, 3) := dk_180 0 79 (dk_at dksX0_init_9 4 rfl rfl)
theorem dX0_init_221 : decode cX0_init 221 = .ok (.iload_n 1, 1) := dk_27 (dk_at dksX0_init_9 7 rfl rfl)
theorem dX0_init_222 : decode cX0_init 222 = .ok (.new 54, 3) := dk_187 0 54 (dk_at dksX0_init_9 8 rfl rfl)
theorem dX0_init_225 : decode cX0_init 225 = .ok (.dup, 1) := dk_89 (dk_at dksX0_init_9 11 rfl rfl)
theorem dX0_init_226 : decode cX0_init 226 = .ok (.invokespecial 78, 3) := dk_183 0 78 (dk_at dksX0_init_9 12 rfl rfl)
theorem dX0_init_229 : decode cX0_init 229 = .ok (.aastore, 1) := dk_83 (dk_at dksX0_init_9 15 rfl rfl)
theorem dX0_init_230 : decode cX0_init 230 = .ok (.iinc 1 1, 3) := dk_132 1 1 (dk_at dksX0_init_9 16 rfl rfl)
theorem dX0_init_233 : decode cX0_init 233 = .ok (.goto (-22), 3) := dk_167 255 234 (dk_at dksX0_init_9 19 rfl rfl)
theorem dX0_init_236 : decode cX0_init 236 = .ok (.return_, 1) := dk_177 (dk_at dksX0_init_9 22 rfl rfl)
abbrev cX0_street : ByteArray := prog_1_method_12_code
def yX0_street : MethodName := ⟨RX0, "street", "(II)I"⟩
def dkwX0_street_5 : List UInt8 := [2, 172]
abbrev dktX0_street_5 : List UInt8 := dkwX0_street_5 ++ []
def dkwX0_street_4 : List UInt8 := [51, 172, 42, 180, 0, 49, 27, 182, 0, 154, 172, 42, 180, 0, 49, 42, 180, 0, 30, 27, 182, 0, 158, 172]
abbrev dktX0_street_4 : List UInt8 := dkwX0_street_4 ++ dktX0_street_5
def dkwX0_street_3 : List UInt8 := [180, 0, 145, 27, 51, 172, 42, 180, 0, 49, 180, 0, 148, 27, 51, 172, 42, 180, 0, 49, 180, 0, 151, 27]
abbrev dktX0_street_3 : List UInt8 := dkwX0_street_3 ++ dktX0_street_4
def dkwX0_street_2 : List UInt8 := [42, 180, 0, 30, 180, 0, 139, 27, 46, 172, 42, 180, 0, 30, 180, 0, 142, 27, 46, 172, 42, 180, 0, 49]
abbrev dktX0_street_2 : List UInt8 := dkwX0_street_2 ++ dktX0_street_3
def dkwX0_street_1 : List UInt8 := [170, 0, 0, 0, 113, 0, 0, 0, 0, 0, 0, 0, 6, 0, 0, 0, 41, 0, 0, 0, 51, 0, 0, 0, 61, 0, 0, 0, 71, 0, 0, 0, 81, 0, 0, 0, 91, 0, 0, 0, 100]
abbrev dktX0_street_1 : List UInt8 := dkwX0_street_1 ++ dktX0_street_2
def dkwX0_street_0 : List UInt8 := [42, 27, 182, 0, 135, 154, 0, 5, 2, 172, 28]
abbrev dktX0_street_0 : List UInt8 := dkwX0_street_0 ++ dktX0_street_1
theorem dksX0_street_0 : cX0_street.data.toList.drop 0 = dktX0_street_0 := by decide +kernel
theorem dksX0_street_1 : cX0_street.data.toList.drop 11 = dktX0_street_1 := dk_seg dksX0_street_0 11 rfl rfl
theorem dksX0_street_2 : cX0_street.data.toList.drop 52 = dktX0_street_2 := dk_seg dksX0_street_1 41 rfl rfl
theorem dksX0_street_3 : cX0_street.data.toList.drop 76 = dktX0_street_3 := dk_seg dksX0_street_2 24 rfl rfl
theorem dksX0_street_4 : cX0_street.data.toList.drop 100 = dktX0_street_4 := dk_seg dksX0_street_3 24 rfl rfl
theorem dksX0_street_5 : cX0_street.data.toList.drop 124 = dktX0_street_5 := dk_seg dksX0_street_4 24 rfl rfl
theorem dX0_street_0 : decode cX0_street 0 = .ok (.aload_n 0, 1) := dk_42 (dk_at dksX0_street_0 0 rfl rfl)
theorem dX0_street_1 : decode cX0_street 1 = .ok (.iload_n 1, 1) := dk_27 (dk_at dksX0_street_0 1 rfl rfl)
theorem dX0_street_2 : decode cX0_street 2 = .ok (.invokevirtual 135, 3) := dk_182 0 135 (dk_at dksX0_street_0 2 rfl rfl)
theorem dX0_street_5 : decode cX0_street 5 = .ok (.ifCond .ne 5, 3) := dk_154 0 5 (dk_at dksX0_street_0 5 rfl rfl)
theorem dX0_street_8 : decode cX0_street 8 = .ok (.iconst (-1), 1) := dk_2 (dk_at dksX0_street_0 8 rfl rfl)
theorem dX0_street_9 : decode cX0_street 9 = .ok (.ireturn, 1) := dk_172 (dk_at dksX0_street_0 9 rfl rfl)
theorem dX0_street_10 : decode cX0_street 10 = .ok (.iload_n 2, 1) := dk_28 (dk_at dksX0_street_0 10 rfl rfl)
theorem dX0_street_11 : decode cX0_street 11 = .ok (.tableswitch 113 0 6 #[41, 51, 61, 71, 81, 91, 100], 41) := by decide +kernel
theorem dX0_street_52 : decode cX0_street 52 = .ok (.aload_n 0, 1) := dk_42 (dk_at dksX0_street_2 0 rfl rfl)
theorem dX0_street_53 : decode cX0_street 53 = .ok (.getfield 30, 3) := dk_180 0 30 (dk_at dksX0_street_2 1 rfl rfl)
theorem dX0_street_56 : decode cX0_street 56 = .ok (.getfield 139, 3) := dk_180 0 139 (dk_at dksX0_street_2 4 rfl rfl)
theorem dX0_street_59 : decode cX0_street 59 = .ok (.iload_n 1, 1) := dk_27 (dk_at dksX0_street_2 7 rfl rfl)
theorem dX0_street_60 : decode cX0_street 60 = .ok (.iaload, 1) := dk_46 (dk_at dksX0_street_2 8 rfl rfl)
theorem dX0_street_61 : decode cX0_street 61 = .ok (.ireturn, 1) := dk_172 (dk_at dksX0_street_2 9 rfl rfl)
theorem dX0_street_62 : decode cX0_street 62 = .ok (.aload_n 0, 1) := dk_42 (dk_at dksX0_street_2 10 rfl rfl)
theorem dX0_street_63 : decode cX0_street 63 = .ok (.getfield 30, 3) := dk_180 0 30 (dk_at dksX0_street_2 11 rfl rfl)
theorem dX0_street_66 : decode cX0_street 66 = .ok (.getfield 142, 3) := dk_180 0 142 (dk_at dksX0_street_2 14 rfl rfl)
theorem dX0_street_69 : decode cX0_street 69 = .ok (.iload_n 1, 1) := dk_27 (dk_at dksX0_street_2 17 rfl rfl)
theorem dX0_street_70 : decode cX0_street 70 = .ok (.iaload, 1) := dk_46 (dk_at dksX0_street_2 18 rfl rfl)
theorem dX0_street_71 : decode cX0_street 71 = .ok (.ireturn, 1) := dk_172 (dk_at dksX0_street_2 19 rfl rfl)
theorem dX0_street_72 : decode cX0_street 72 = .ok (.aload_n 0, 1) := dk_42 (dk_at dksX0_street_2 20 rfl rfl)
theorem dX0_street_73 : decode cX0_street 73 = .ok (.getfield 49, 3) := dk_180 0 49 (dk_at dksX0_street_2 21 rfl rfl)
theorem dX0_street_76 : decode cX0_street 76 = .ok (.getfield 145, 3) := dk_180 0 145 (dk_at dksX0_street_3 0 rfl rfl)
theorem dX0_street_79 : decode cX0_street 79 = .ok (.iload_n 1, 1) := dk_27 (dk_at dksX0_street_3 3 rfl rfl)
theorem dX0_street_80 : decode cX0_street 80 = .ok (.baload, 1) := dk_51 (dk_at dksX0_street_3 4 rfl rfl)
theorem dX0_street_81 : decode cX0_street 81 = .ok (.ireturn, 1) := dk_172 (dk_at dksX0_street_3 5 rfl rfl)
theorem dX0_street_82 : decode cX0_street 82 = .ok (.aload_n 0, 1) := dk_42 (dk_at dksX0_street_3 6 rfl rfl)
theorem dX0_street_83 : decode cX0_street 83 = .ok (.getfield 49, 3) := dk_180 0 49 (dk_at dksX0_street_3 7 rfl rfl)
theorem dX0_street_86 : decode cX0_street 86 = .ok (.getfield 148, 3) := dk_180 0 148 (dk_at dksX0_street_3 10 rfl rfl)
theorem dX0_street_89 : decode cX0_street 89 = .ok (.iload_n 1, 1) := dk_27 (dk_at dksX0_street_3 13 rfl rfl)
theorem dX0_street_90 : decode cX0_street 90 = .ok (.baload, 1) := dk_51 (dk_at dksX0_street_3 14 rfl rfl)
theorem dX0_street_91 : decode cX0_street 91 = .ok (.ireturn, 1) := dk_172 (dk_at dksX0_street_3 15 rfl rfl)
theorem dX0_street_92 : decode cX0_street 92 = .ok (.aload_n 0, 1) := dk_42 (dk_at dksX0_street_3 16 rfl rfl)
theorem dX0_street_93 : decode cX0_street 93 = .ok (.getfield 49, 3) := dk_180 0 49 (dk_at dksX0_street_3 17 rfl rfl)
theorem dX0_street_96 : decode cX0_street 96 = .ok (.getfield 151, 3) := dk_180 0 151 (dk_at dksX0_street_3 20 rfl rfl)
theorem dX0_street_99 : decode cX0_street 99 = .ok (.iload_n 1, 1) := dk_27 (dk_at dksX0_street_3 23 rfl rfl)
theorem dX0_street_100 : decode cX0_street 100 = .ok (.baload, 1) := dk_51 (dk_at dksX0_street_4 0 rfl rfl)
theorem dX0_street_101 : decode cX0_street 101 = .ok (.ireturn, 1) := dk_172 (dk_at dksX0_street_4 1 rfl rfl)
theorem dX0_street_102 : decode cX0_street 102 = .ok (.aload_n 0, 1) := dk_42 (dk_at dksX0_street_4 2 rfl rfl)
theorem dX0_street_103 : decode cX0_street 103 = .ok (.getfield 49, 3) := dk_180 0 49 (dk_at dksX0_street_4 3 rfl rfl)
theorem dX0_street_106 : decode cX0_street 106 = .ok (.iload_n 1, 1) := dk_27 (dk_at dksX0_street_4 6 rfl rfl)
theorem dX0_street_107 : decode cX0_street 107 = .ok (.invokevirtual 154, 3) := dk_182 0 154 (dk_at dksX0_street_4 7 rfl rfl)
theorem dX0_street_110 : decode cX0_street 110 = .ok (.ireturn, 1) := dk_172 (dk_at dksX0_street_4 10 rfl rfl)
theorem dX0_street_111 : decode cX0_street 111 = .ok (.aload_n 0, 1) := dk_42 (dk_at dksX0_street_4 11 rfl rfl)
theorem dX0_street_112 : decode cX0_street 112 = .ok (.getfield 49, 3) := dk_180 0 49 (dk_at dksX0_street_4 12 rfl rfl)
theorem dX0_street_115 : decode cX0_street 115 = .ok (.aload_n 0, 1) := dk_42 (dk_at dksX0_street_4 15 rfl rfl)
theorem dX0_street_116 : decode cX0_street 116 = .ok (.getfield 30, 3) := dk_180 0 30 (dk_at dksX0_street_4 16 rfl rfl)
theorem dX0_street_119 : decode cX0_street 119 = .ok (.iload_n 1, 1) := dk_27 (dk_at dksX0_street_4 19 rfl rfl)
theorem dX0_street_120 : decode cX0_street 120 = .ok (.invokevirtual 158, 3) := dk_182 0 158 (dk_at dksX0_street_4 20 rfl rfl)
theorem dX0_street_123 : decode cX0_street 123 = .ok (.ireturn, 1) := dk_172 (dk_at dksX0_street_4 23 rfl rfl)
theorem dX0_street_124 : decode cX0_street 124 = .ok (.iconst (-1), 1) := dk_2 (dk_at dksX0_street_5 0 rfl rfl)
theorem dX0_street_125 : decode cX0_street 125 = .ok (.ireturn, 1) := dk_172 (dk_at dksX0_street_5 1 rfl rfl)
abbrev cX0_isStreet : ByteArray := prog_1_method_9_code
def yX0_isStreet : MethodName := ⟨RX0, "isStreet", "(I)Z"⟩
def dkwX0_isStreet_0 : List UInt8 := [27, 3, 42, 180, 0, 30, 180, 0, 126, 4, 100, 184, 0, 1, 172]
abbrev dktX0_isStreet_0 : List UInt8 := dkwX0_isStreet_0 ++ []
theorem dksX0_isStreet_0 : cX0_isStreet.data.toList.drop 0 = dktX0_isStreet_0 := by decide +kernel
theorem dX0_isStreet_0 : decode cX0_isStreet 0 = .ok (.iload_n 1, 1) := dk_27 (dk_at dksX0_isStreet_0 0 rfl rfl)
theorem dX0_isStreet_1 : decode cX0_isStreet 1 = .ok (.iconst 0, 1) := dk_3 (dk_at dksX0_isStreet_0 1 rfl rfl)
theorem dX0_isStreet_2 : decode cX0_isStreet 2 = .ok (.aload_n 0, 1) := dk_42 (dk_at dksX0_isStreet_0 2 rfl rfl)
theorem dX0_isStreet_3 : decode cX0_isStreet 3 = .ok (.getfield 30, 3) := dk_180 0 30 (dk_at dksX0_isStreet_0 3 rfl rfl)
theorem dX0_isStreet_6 : decode cX0_isStreet 6 = .ok (.getfield 126, 3) := dk_180 0 126 (dk_at dksX0_isStreet_0 6 rfl rfl)
theorem dX0_isStreet_9 : decode cX0_isStreet 9 = .ok (.iconst 1, 1) := dk_4 (dk_at dksX0_isStreet_0 9 rfl rfl)
theorem dX0_isStreet_10 : decode cX0_isStreet 10 = .ok (.isub, 1) := dk_100 (dk_at dksX0_isStreet_0 10 rfl rfl)
theorem dX0_isStreet_11 : decode cX0_isStreet 11 = .ok (.invokestatic 1, 3) := dk_184 0 1 (dk_at dksX0_isStreet_0 11 rfl rfl)
theorem dX0_isStreet_14 : decode cX0_isStreet 14 = .ok (.ireturn, 1) := dk_172 (dk_at dksX0_isStreet_0 14 rfl rfl)
abbrev cX0_citizen : ByteArray := prog_1_method_13_code
def yX0_citizen : MethodName := ⟨RX0, "citizen", "(II)I"⟩
def dkwX0_citizen_3 : List UInt8 := [42, 180, 0, 30, 27, 182, 0, 171, 172, 2, 172]
abbrev dktX0_citizen_3 : List UInt8 := dkwX0_citizen_3 ++ []
def dkwX0_citizen_2 : List UInt8 := [42, 180, 0, 49, 180, 0, 165, 27, 46, 172, 42, 180, 0, 30, 180, 0, 168, 27, 46, 172, 42, 180, 0, 49]
abbrev dktX0_citizen_2 : List UInt8 := dkwX0_citizen_2 ++ dktX0_citizen_3
def dkwX0_citizen_1 : List UInt8 := [170, 0, 0, 0, 58, 0, 0, 0, 0, 0, 0, 0, 2, 0, 0, 0, 25, 0, 0, 0, 35, 0, 0, 0, 45]
abbrev dktX0_citizen_1 : List UInt8 := dkwX0_citizen_1 ++ dktX0_citizen_2
def dkwX0_citizen_0 : List UInt8 := [42, 27, 182, 0, 162, 154, 0, 5, 2, 172, 28]
abbrev dktX0_citizen_0 : List UInt8 := dkwX0_citizen_0 ++ dktX0_citizen_1
theorem dksX0_citizen_0 : cX0_citizen.data.toList.drop 0 = dktX0_citizen_0 := by decide +kernel
theorem dksX0_citizen_1 : cX0_citizen.data.toList.drop 11 = dktX0_citizen_1 := dk_seg dksX0_citizen_0 11 rfl rfl
theorem dksX0_citizen_2 : cX0_citizen.data.toList.drop 36 = dktX0_citizen_2 := dk_seg dksX0_citizen_1 25 rfl rfl
theorem dksX0_citizen_3 : cX0_citizen.data.toList.drop 60 = dktX0_citizen_3 := dk_seg dksX0_citizen_2 24 rfl rfl
theorem dX0_citizen_0 : decode cX0_citizen 0 = .ok (.aload_n 0, 1) := dk_42 (dk_at dksX0_citizen_0 0 rfl rfl)
theorem dX0_citizen_1 : decode cX0_citizen 1 = .ok (.iload_n 1, 1) := dk_27 (dk_at dksX0_citizen_0 1 rfl rfl)
theorem dX0_citizen_2 : decode cX0_citizen 2 = .ok (.invokevirtual 162, 3) := dk_182 0 162 (dk_at dksX0_citizen_0 2 rfl rfl)
theorem dX0_citizen_5 : decode cX0_citizen 5 = .ok (.ifCond .ne 5, 3) := dk_154 0 5 (dk_at dksX0_citizen_0 5 rfl rfl)
theorem dX0_citizen_8 : decode cX0_citizen 8 = .ok (.iconst (-1), 1) := dk_2 (dk_at dksX0_citizen_0 8 rfl rfl)
theorem dX0_citizen_9 : decode cX0_citizen 9 = .ok (.ireturn, 1) := dk_172 (dk_at dksX0_citizen_0 9 rfl rfl)
theorem dX0_citizen_10 : decode cX0_citizen 10 = .ok (.iload_n 2, 1) := dk_28 (dk_at dksX0_citizen_0 10 rfl rfl)
theorem dX0_citizen_11 : decode cX0_citizen 11 = .ok (.tableswitch 58 0 2 #[25, 35, 45], 25) := by decide +kernel
theorem dX0_citizen_36 : decode cX0_citizen 36 = .ok (.aload_n 0, 1) := dk_42 (dk_at dksX0_citizen_2 0 rfl rfl)
theorem dX0_citizen_37 : decode cX0_citizen 37 = .ok (.getfield 49, 3) := dk_180 0 49 (dk_at dksX0_citizen_2 1 rfl rfl)
theorem dX0_citizen_40 : decode cX0_citizen 40 = .ok (.getfield 165, 3) := dk_180 0 165 (dk_at dksX0_citizen_2 4 rfl rfl)
theorem dX0_citizen_43 : decode cX0_citizen 43 = .ok (.iload_n 1, 1) := dk_27 (dk_at dksX0_citizen_2 7 rfl rfl)
theorem dX0_citizen_44 : decode cX0_citizen 44 = .ok (.iaload, 1) := dk_46 (dk_at dksX0_citizen_2 8 rfl rfl)
theorem dX0_citizen_45 : decode cX0_citizen 45 = .ok (.ireturn, 1) := dk_172 (dk_at dksX0_citizen_2 9 rfl rfl)
theorem dX0_citizen_46 : decode cX0_citizen 46 = .ok (.aload_n 0, 1) := dk_42 (dk_at dksX0_citizen_2 10 rfl rfl)
theorem dX0_citizen_47 : decode cX0_citizen 47 = .ok (.getfield 30, 3) := dk_180 0 30 (dk_at dksX0_citizen_2 11 rfl rfl)
theorem dX0_citizen_50 : decode cX0_citizen 50 = .ok (.getfield 168, 3) := dk_180 0 168 (dk_at dksX0_citizen_2 14 rfl rfl)
theorem dX0_citizen_53 : decode cX0_citizen 53 = .ok (.iload_n 1, 1) := dk_27 (dk_at dksX0_citizen_2 17 rfl rfl)
theorem dX0_citizen_54 : decode cX0_citizen 54 = .ok (.iaload, 1) := dk_46 (dk_at dksX0_citizen_2 18 rfl rfl)
theorem dX0_citizen_55 : decode cX0_citizen 55 = .ok (.ireturn, 1) := dk_172 (dk_at dksX0_citizen_2 19 rfl rfl)
theorem dX0_citizen_56 : decode cX0_citizen 56 = .ok (.aload_n 0, 1) := dk_42 (dk_at dksX0_citizen_2 20 rfl rfl)
theorem dX0_citizen_57 : decode cX0_citizen 57 = .ok (.getfield 49, 3) := dk_180 0 49 (dk_at dksX0_citizen_2 21 rfl rfl)
theorem dX0_citizen_60 : decode cX0_citizen 60 = .ok (.aload_n 0, 1) := dk_42 (dk_at dksX0_citizen_3 0 rfl rfl)
theorem dX0_citizen_61 : decode cX0_citizen 61 = .ok (.getfield 30, 3) := dk_180 0 30 (dk_at dksX0_citizen_3 1 rfl rfl)
theorem dX0_citizen_64 : decode cX0_citizen 64 = .ok (.iload_n 1, 1) := dk_27 (dk_at dksX0_citizen_3 4 rfl rfl)
theorem dX0_citizen_65 : decode cX0_citizen 65 = .ok (.invokevirtual 171, 3) := dk_182 0 171 (dk_at dksX0_citizen_3 5 rfl rfl)
theorem dX0_citizen_68 : decode cX0_citizen 68 = .ok (.ireturn, 1) := dk_172 (dk_at dksX0_citizen_3 8 rfl rfl)
theorem dX0_citizen_69 : decode cX0_citizen 69 = .ok (.iconst (-1), 1) := dk_2 (dk_at dksX0_citizen_3 9 rfl rfl)
theorem dX0_citizen_70 : decode cX0_citizen 70 = .ok (.ireturn, 1) := dk_172 (dk_at dksX0_citizen_3 10 rfl rfl)
abbrev cX0_isCitizen : ByteArray := prog_1_method_10_code
def yX0_isCitizen : MethodName := ⟨RX0, "isCitizen", "(I)Z"⟩
def dkwX0_isCitizen_0 : List UInt8 := [27, 3, 42, 180, 0, 30, 180, 0, 129, 4, 100, 184, 0, 1, 172]
abbrev dktX0_isCitizen_0 : List UInt8 := dkwX0_isCitizen_0 ++ []
theorem dksX0_isCitizen_0 : cX0_isCitizen.data.toList.drop 0 = dktX0_isCitizen_0 := by decide +kernel
theorem dX0_isCitizen_0 : decode cX0_isCitizen 0 = .ok (.iload_n 1, 1) := dk_27 (dk_at dksX0_isCitizen_0 0 rfl rfl)
theorem dX0_isCitizen_1 : decode cX0_isCitizen 1 = .ok (.iconst 0, 1) := dk_3 (dk_at dksX0_isCitizen_0 1 rfl rfl)
theorem dX0_isCitizen_2 : decode cX0_isCitizen 2 = .ok (.aload_n 0, 1) := dk_42 (dk_at dksX0_isCitizen_0 2 rfl rfl)
theorem dX0_isCitizen_3 : decode cX0_isCitizen 3 = .ok (.getfield 30, 3) := dk_180 0 30 (dk_at dksX0_isCitizen_0 3 rfl rfl)
theorem dX0_isCitizen_6 : decode cX0_isCitizen 6 = .ok (.getfield 129, 3) := dk_180 0 129 (dk_at dksX0_isCitizen_0 6 rfl rfl)
theorem dX0_isCitizen_9 : decode cX0_isCitizen 9 = .ok (.iconst 1, 1) := dk_4 (dk_at dksX0_isCitizen_0 9 rfl rfl)
theorem dX0_isCitizen_10 : decode cX0_isCitizen 10 = .ok (.isub, 1) := dk_100 (dk_at dksX0_isCitizen_0 10 rfl rfl)
theorem dX0_isCitizen_11 : decode cX0_isCitizen 11 = .ok (.invokestatic 1, 3) := dk_184 0 1 (dk_at dksX0_isCitizen_0 11 rfl rfl)
theorem dX0_isCitizen_14 : decode cX0_isCitizen 14 = .ok (.ireturn, 1) := dk_172 (dk_at dksX0_isCitizen_0 14 rfl rfl)
abbrev cX0_does : ByteArray := prog_1_method_16_code
def yX0_does : MethodName := ⟨RX0, "does", "(III)I"⟩
def dkwX0_does_5 : List UInt8 := [184, 0, 200, 42, 180, 0, 49, 21, 4, 182, 0, 154, 172]
abbrev dktX0_does_5 : List UInt8 := dkwX0_does_5 ++ []
def dkwX0_does_4 : List UInt8 := [21, 4, 28, 184, 0, 200, 167, 0, 20, 29, 154, 0, 16, 42, 180, 0, 49, 180, 0, 148, 21, 4, 28]
abbrev dktX0_does_4 : List UInt8 := dkwX0_does_4 ++ dktX0_does_5
def dkwX0_does_3 : List UInt8 := [153, 0, 33, 29, 154, 0, 13, 42, 180, 0, 49, 180, 0, 145, 167, 0, 10, 42, 180, 0, 49, 180, 0, 151]
abbrev dktX0_does_3 : List UInt8 := dkwX0_does_3 ++ dktX0_does_4
def dkwX0_does_2 : List UInt8 := [42, 180, 0, 30, 27, 182, 0, 171, 184, 0, 195, 4, 164, 0, 7, 4, 167, 0, 4, 3, 54, 5, 21, 5]
abbrev dktX0_does_2 : List UInt8 := dkwX0_does_2 ++ dktX0_does_3
def dkwX0_does_1 : List UInt8 := [154, 0, 5, 2, 172, 42, 182, 0, 192, 42, 180, 0, 49, 180, 0, 165, 27, 46, 54, 4, 42, 180, 0, 49]
abbrev dktX0_does_1 : List UInt8 := dkwX0_does_1 ++ dktX0_does_2
def dkwX0_does_0 : List UInt8 := [42, 27, 182, 0, 162, 153, 0, 20, 28, 4, 16, 9, 184, 0, 1, 153, 0, 10, 29, 184, 0, 189]
abbrev dktX0_does_0 : List UInt8 := dkwX0_does_0 ++ dktX0_does_1
theorem dksX0_does_0 : cX0_does.data.toList.drop 0 = dktX0_does_0 := by decide +kernel
theorem dksX0_does_1 : cX0_does.data.toList.drop 22 = dktX0_does_1 := dk_seg dksX0_does_0 22 rfl rfl
theorem dksX0_does_2 : cX0_does.data.toList.drop 46 = dktX0_does_2 := dk_seg dksX0_does_1 24 rfl rfl
theorem dksX0_does_3 : cX0_does.data.toList.drop 70 = dktX0_does_3 := dk_seg dksX0_does_2 24 rfl rfl
theorem dksX0_does_4 : cX0_does.data.toList.drop 94 = dktX0_does_4 := dk_seg dksX0_does_3 24 rfl rfl
theorem dksX0_does_5 : cX0_does.data.toList.drop 117 = dktX0_does_5 := dk_seg dksX0_does_4 23 rfl rfl
theorem dX0_does_0 : decode cX0_does 0 = .ok (.aload_n 0, 1) := dk_42 (dk_at dksX0_does_0 0 rfl rfl)
theorem dX0_does_1 : decode cX0_does 1 = .ok (.iload_n 1, 1) := dk_27 (dk_at dksX0_does_0 1 rfl rfl)
theorem dX0_does_2 : decode cX0_does 2 = .ok (.invokevirtual 162, 3) := dk_182 0 162 (dk_at dksX0_does_0 2 rfl rfl)
theorem dX0_does_5 : decode cX0_does 5 = .ok (.ifCond .eq 20, 3) := dk_153 0 20 (dk_at dksX0_does_0 5 rfl rfl)
theorem dX0_does_8 : decode cX0_does 8 = .ok (.iload_n 2, 1) := dk_28 (dk_at dksX0_does_0 8 rfl rfl)
theorem dX0_does_9 : decode cX0_does 9 = .ok (.iconst 1, 1) := dk_4 (dk_at dksX0_does_0 9 rfl rfl)
theorem dX0_does_10 : decode cX0_does 10 = .ok (.bipush 9, 2) := dk_16 9 (dk_at dksX0_does_0 10 rfl rfl)
theorem dX0_does_12 : decode cX0_does 12 = .ok (.invokestatic 1, 3) := dk_184 0 1 (dk_at dksX0_does_0 12 rfl rfl)
theorem dX0_does_15 : decode cX0_does 15 = .ok (.ifCond .eq 10, 3) := dk_153 0 10 (dk_at dksX0_does_0 15 rfl rfl)
theorem dX0_does_18 : decode cX0_does 18 = .ok (.iload_n 3, 1) := dk_29 (dk_at dksX0_does_0 18 rfl rfl)
theorem dX0_does_19 : decode cX0_does 19 = .ok (.invokestatic 189, 3) := dk_184 0 189 (dk_at dksX0_does_0 19 rfl rfl)
theorem dX0_does_22 : decode cX0_does 22 = .ok (.ifCond .ne 5, 3) := dk_154 0 5 (dk_at dksX0_does_1 0 rfl rfl)
theorem dX0_does_25 : decode cX0_does 25 = .ok (.iconst (-1), 1) := dk_2 (dk_at dksX0_does_1 3 rfl rfl)
theorem dX0_does_26 : decode cX0_does 26 = .ok (.ireturn, 1) := dk_172 (dk_at dksX0_does_1 4 rfl rfl)
theorem dX0_does_27 : decode cX0_does 27 = .ok (.aload_n 0, 1) := dk_42 (dk_at dksX0_does_1 5 rfl rfl)
theorem dX0_does_28 : decode cX0_does 28 = .ok (.invokevirtual 192, 3) := dk_182 0 192 (dk_at dksX0_does_1 6 rfl rfl)
theorem dX0_does_31 : decode cX0_does 31 = .ok (.aload_n 0, 1) := dk_42 (dk_at dksX0_does_1 9 rfl rfl)
theorem dX0_does_32 : decode cX0_does 32 = .ok (.getfield 49, 3) := dk_180 0 49 (dk_at dksX0_does_1 10 rfl rfl)
theorem dX0_does_35 : decode cX0_does 35 = .ok (.getfield 165, 3) := dk_180 0 165 (dk_at dksX0_does_1 13 rfl rfl)
theorem dX0_does_38 : decode cX0_does 38 = .ok (.iload_n 1, 1) := dk_27 (dk_at dksX0_does_1 16 rfl rfl)
theorem dX0_does_39 : decode cX0_does 39 = .ok (.iaload, 1) := dk_46 (dk_at dksX0_does_1 17 rfl rfl)
theorem dX0_does_40 : decode cX0_does 40 = .ok (.istore 4, 2) := dk_54 4 (dk_at dksX0_does_1 18 rfl rfl)
theorem dX0_does_42 : decode cX0_does 42 = .ok (.aload_n 0, 1) := dk_42 (dk_at dksX0_does_1 20 rfl rfl)
theorem dX0_does_43 : decode cX0_does 43 = .ok (.getfield 49, 3) := dk_180 0 49 (dk_at dksX0_does_1 21 rfl rfl)
theorem dX0_does_46 : decode cX0_does 46 = .ok (.aload_n 0, 1) := dk_42 (dk_at dksX0_does_2 0 rfl rfl)
theorem dX0_does_47 : decode cX0_does 47 = .ok (.getfield 30, 3) := dk_180 0 30 (dk_at dksX0_does_2 1 rfl rfl)
theorem dX0_does_50 : decode cX0_does 50 = .ok (.iload_n 1, 1) := dk_27 (dk_at dksX0_does_2 4 rfl rfl)
theorem dX0_does_51 : decode cX0_does 51 = .ok (.invokevirtual 171, 3) := dk_182 0 171 (dk_at dksX0_does_2 5 rfl rfl)
theorem dX0_does_54 : decode cX0_does 54 = .ok (.invokestatic 195, 3) := dk_184 0 195 (dk_at dksX0_does_2 8 rfl rfl)
theorem dX0_does_57 : decode cX0_does 57 = .ok (.iconst 1, 1) := dk_4 (dk_at dksX0_does_2 11 rfl rfl)
theorem dX0_does_58 : decode cX0_does 58 = .ok (.if_icmp .le 7, 3) := dk_164 0 7 (dk_at dksX0_does_2 12 rfl rfl)
theorem dX0_does_61 : decode cX0_does 61 = .ok (.iconst 1, 1) := dk_4 (dk_at dksX0_does_2 15 rfl rfl)
theorem dX0_does_62 : decode cX0_does 62 = .ok (.goto 4, 3) := dk_167 0 4 (dk_at dksX0_does_2 16 rfl rfl)
theorem dX0_does_65 : decode cX0_does 65 = .ok (.iconst 0, 1) := dk_3 (dk_at dksX0_does_2 19 rfl rfl)
theorem dX0_does_66 : decode cX0_does 66 = .ok (.istore 5, 2) := dk_54 5 (dk_at dksX0_does_2 20 rfl rfl)
theorem dX0_does_68 : decode cX0_does 68 = .ok (.iload 5, 2) := dk_21 5 (dk_at dksX0_does_2 22 rfl rfl)
theorem dX0_does_70 : decode cX0_does 70 = .ok (.ifCond .eq 33, 3) := dk_153 0 33 (dk_at dksX0_does_3 0 rfl rfl)
theorem dX0_does_73 : decode cX0_does 73 = .ok (.iload_n 3, 1) := dk_29 (dk_at dksX0_does_3 3 rfl rfl)
theorem dX0_does_74 : decode cX0_does 74 = .ok (.ifCond .ne 13, 3) := dk_154 0 13 (dk_at dksX0_does_3 4 rfl rfl)
theorem dX0_does_77 : decode cX0_does 77 = .ok (.aload_n 0, 1) := dk_42 (dk_at dksX0_does_3 7 rfl rfl)
theorem dX0_does_78 : decode cX0_does 78 = .ok (.getfield 49, 3) := dk_180 0 49 (dk_at dksX0_does_3 8 rfl rfl)
theorem dX0_does_81 : decode cX0_does 81 = .ok (.getfield 145, 3) := dk_180 0 145 (dk_at dksX0_does_3 11 rfl rfl)
theorem dX0_does_84 : decode cX0_does 84 = .ok (.goto 10, 3) := dk_167 0 10 (dk_at dksX0_does_3 14 rfl rfl)
theorem dX0_does_87 : decode cX0_does 87 = .ok (.aload_n 0, 1) := dk_42 (dk_at dksX0_does_3 17 rfl rfl)
theorem dX0_does_88 : decode cX0_does 88 = .ok (.getfield 49, 3) := dk_180 0 49 (dk_at dksX0_does_3 18 rfl rfl)
theorem dX0_does_91 : decode cX0_does 91 = .ok (.getfield 151, 3) := dk_180 0 151 (dk_at dksX0_does_3 21 rfl rfl)
theorem dX0_does_94 : decode cX0_does 94 = .ok (.iload 4, 2) := dk_21 4 (dk_at dksX0_does_4 0 rfl rfl)
theorem dX0_does_96 : decode cX0_does 96 = .ok (.iload_n 2, 1) := dk_28 (dk_at dksX0_does_4 2 rfl rfl)
theorem dX0_does_97 : decode cX0_does 97 = .ok (.invokestatic 200, 3) := dk_184 0 200 (dk_at dksX0_does_4 3 rfl rfl)
theorem dX0_does_100 : decode cX0_does 100 = .ok (.goto 20, 3) := dk_167 0 20 (dk_at dksX0_does_4 6 rfl rfl)
theorem dX0_does_103 : decode cX0_does 103 = .ok (.iload_n 3, 1) := dk_29 (dk_at dksX0_does_4 9 rfl rfl)
theorem dX0_does_104 : decode cX0_does 104 = .ok (.ifCond .ne 16, 3) := dk_154 0 16 (dk_at dksX0_does_4 10 rfl rfl)
theorem dX0_does_107 : decode cX0_does 107 = .ok (.aload_n 0, 1) := dk_42 (dk_at dksX0_does_4 13 rfl rfl)
theorem dX0_does_108 : decode cX0_does 108 = .ok (.getfield 49, 3) := dk_180 0 49 (dk_at dksX0_does_4 14 rfl rfl)
theorem dX0_does_111 : decode cX0_does 111 = .ok (.getfield 148, 3) := dk_180 0 148 (dk_at dksX0_does_4 17 rfl rfl)
theorem dX0_does_114 : decode cX0_does 114 = .ok (.iload 4, 2) := dk_21 4 (dk_at dksX0_does_4 20 rfl rfl)
theorem dX0_does_116 : decode cX0_does 116 = .ok (.iload_n 2, 1) := dk_28 (dk_at dksX0_does_4 22 rfl rfl)
theorem dX0_does_117 : decode cX0_does 117 = .ok (.invokestatic 200, 3) := dk_184 0 200 (dk_at dksX0_does_5 0 rfl rfl)
theorem dX0_does_120 : decode cX0_does 120 = .ok (.aload_n 0, 1) := dk_42 (dk_at dksX0_does_5 3 rfl rfl)
theorem dX0_does_121 : decode cX0_does 121 = .ok (.getfield 49, 3) := dk_180 0 49 (dk_at dksX0_does_5 4 rfl rfl)
theorem dX0_does_124 : decode cX0_does 124 = .ok (.iload 4, 2) := dk_21 4 (dk_at dksX0_does_5 7 rfl rfl)
theorem dX0_does_126 : decode cX0_does 126 = .ok (.invokevirtual 154, 3) := dk_182 0 154 (dk_at dksX0_does_5 9 rfl rfl)
theorem dX0_does_129 : decode cX0_does 129 = .ok (.ireturn, 1) := dk_172 (dk_at dksX0_does_5 12 rfl rfl)
abbrev cX0_isBit : ByteArray := prog_1_method_3_code
def yX0_isBit : MethodName := ⟨RX0, "isBit", "(I)Z"⟩
def dkwX0_isBit_0 : List UInt8 := [26, 3, 4, 184, 0, 1, 172]
abbrev dktX0_isBit_0 : List UInt8 := dkwX0_isBit_0 ++ []
theorem dksX0_isBit_0 : cX0_isBit.data.toList.drop 0 = dktX0_isBit_0 := by decide +kernel
theorem dX0_isBit_0 : decode cX0_isBit 0 = .ok (.iload_n 0, 1) := dk_26 (dk_at dksX0_isBit_0 0 rfl rfl)
theorem dX0_isBit_1 : decode cX0_isBit 1 = .ok (.iconst 0, 1) := dk_3 (dk_at dksX0_isBit_0 1 rfl rfl)
theorem dX0_isBit_2 : decode cX0_isBit 2 = .ok (.iconst 1, 1) := dk_4 (dk_at dksX0_isBit_0 2 rfl rfl)
theorem dX0_isBit_3 : decode cX0_isBit 3 = .ok (.invokestatic 1, 3) := dk_184 0 1 (dk_at dksX0_isBit_0 3 rfl rfl)
theorem dX0_isBit_6 : decode cX0_isBit 6 = .ok (.ireturn, 1) := dk_172 (dk_at dksX0_isBit_0 6 rfl rfl)
abbrev cX0_notes : ByteArray := prog_1_method_14_code
def yX0_notes : MethodName := ⟨RX0, "notes", "()V"⟩
def dkwX0_notes_3 : List UInt8 := [4, 96, 181, 0, 46, 177]
abbrev dktX0_notes_3 : List UInt8 := dkwX0_notes_3 ++ []
def dkwX0_notes_2 : List UInt8 := [181, 0, 46, 42, 180, 0, 79, 42, 180, 0, 46, 50, 42, 180, 0, 49, 182, 0, 180, 42, 89, 180, 0, 46]
abbrev dktX0_notes_2 : List UInt8 := dkwX0_notes_2 ++ dktX0_notes_3
def dkwX0_notes_1 : List UInt8 := [180, 0, 79, 3, 16, 9, 184, 0, 174, 42, 180, 0, 79, 16, 9, 43, 83, 42, 89, 180, 0, 46, 4, 100]
abbrev dktX0_notes_1 : List UInt8 := dkwX0_notes_1 ++ dktX0_notes_2
def dkwX0_notes_0 : List UInt8 := [42, 180, 0, 46, 16, 10, 160, 0, 43, 42, 180, 0, 79, 3, 50, 76, 42, 180, 0, 79, 4, 42]
abbrev dktX0_notes_0 : List UInt8 := dkwX0_notes_0 ++ dktX0_notes_1
theorem dksX0_notes_0 : cX0_notes.data.toList.drop 0 = dktX0_notes_0 := by decide +kernel
theorem dksX0_notes_1 : cX0_notes.data.toList.drop 22 = dktX0_notes_1 := dk_seg dksX0_notes_0 22 rfl rfl
theorem dksX0_notes_2 : cX0_notes.data.toList.drop 46 = dktX0_notes_2 := dk_seg dksX0_notes_1 24 rfl rfl
theorem dksX0_notes_3 : cX0_notes.data.toList.drop 70 = dktX0_notes_3 := dk_seg dksX0_notes_2 24 rfl rfl
theorem dX0_notes_0 : decode cX0_notes 0 = .ok (.aload_n 0, 1) := dk_42 (dk_at dksX0_notes_0 0 rfl rfl)
theorem dX0_notes_1 : decode cX0_notes 1 = .ok (.getfield 46, 3) := dk_180 0 46 (dk_at dksX0_notes_0 1 rfl rfl)
theorem dX0_notes_4 : decode cX0_notes 4 = .ok (.bipush 10, 2) := dk_16 10 (dk_at dksX0_notes_0 4 rfl rfl)
theorem dX0_notes_6 : decode cX0_notes 6 = .ok (.if_icmp .ne 43, 3) := dk_160 0 43 (dk_at dksX0_notes_0 6 rfl rfl)
theorem dX0_notes_9 : decode cX0_notes 9 = .ok (.aload_n 0, 1) := dk_42 (dk_at dksX0_notes_0 9 rfl rfl)
theorem dX0_notes_10 : decode cX0_notes 10 = .ok (.getfield 79, 3) := dk_180 0 79 (dk_at dksX0_notes_0 10 rfl rfl)
theorem dX0_notes_13 : decode cX0_notes 13 = .ok (.iconst 0, 1) := dk_3 (dk_at dksX0_notes_0 13 rfl rfl)
theorem dX0_notes_14 : decode cX0_notes 14 = .ok (.aaload, 1) := dk_50 (dk_at dksX0_notes_0 14 rfl rfl)
theorem dX0_notes_15 : decode cX0_notes 15 = .ok (.astore_n 1, 1) := dk_76 (dk_at dksX0_notes_0 15 rfl rfl)
theorem dX0_notes_16 : decode cX0_notes 16 = .ok (.aload_n 0, 1) := dk_42 (dk_at dksX0_notes_0 16 rfl rfl)
theorem dX0_notes_17 : decode cX0_notes 17 = .ok (.getfield 79, 3) := dk_180 0 79 (dk_at dksX0_notes_0 17 rfl rfl)
theorem dX0_notes_20 : decode cX0_notes 20 = .ok (.iconst 1, 1) := dk_4 (dk_at dksX0_notes_0 20 rfl rfl)
theorem dX0_notes_21 : decode cX0_notes 21 = .ok (.aload_n 0, 1) := dk_42 (dk_at dksX0_notes_0 21 rfl rfl)
theorem dX0_notes_22 : decode cX0_notes 22 = .ok (.getfield 79, 3) := dk_180 0 79 (dk_at dksX0_notes_1 0 rfl rfl)
theorem dX0_notes_25 : decode cX0_notes 25 = .ok (.iconst 0, 1) := dk_3 (dk_at dksX0_notes_1 3 rfl rfl)
theorem dX0_notes_26 : decode cX0_notes 26 = .ok (.bipush 9, 2) := dk_16 9 (dk_at dksX0_notes_1 4 rfl rfl)
theorem dX0_notes_28 : decode cX0_notes 28 = .ok (.invokestatic 174, 3) := dk_184 0 174 (dk_at dksX0_notes_1 6 rfl rfl)
theorem dX0_notes_31 : decode cX0_notes 31 = .ok (.aload_n 0, 1) := dk_42 (dk_at dksX0_notes_1 9 rfl rfl)
theorem dX0_notes_32 : decode cX0_notes 32 = .ok (.getfield 79, 3) := dk_180 0 79 (dk_at dksX0_notes_1 10 rfl rfl)
theorem dX0_notes_35 : decode cX0_notes 35 = .ok (.bipush 9, 2) := dk_16 9 (dk_at dksX0_notes_1 13 rfl rfl)
theorem dX0_notes_37 : decode cX0_notes 37 = .ok (.aload_n 1, 1) := dk_43 (dk_at dksX0_notes_1 15 rfl rfl)
theorem dX0_notes_38 : decode cX0_notes 38 = .ok (.aastore, 1) := dk_83 (dk_at dksX0_notes_1 16 rfl rfl)
theorem dX0_notes_39 : decode cX0_notes 39 = .ok (.aload_n 0, 1) := dk_42 (dk_at dksX0_notes_1 17 rfl rfl)
theorem dX0_notes_40 : decode cX0_notes 40 = .ok (.dup, 1) := dk_89 (dk_at dksX0_notes_1 18 rfl rfl)
theorem dX0_notes_41 : decode cX0_notes 41 = .ok (.getfield 46, 3) := dk_180 0 46 (dk_at dksX0_notes_1 19 rfl rfl)
theorem dX0_notes_44 : decode cX0_notes 44 = .ok (.iconst 1, 1) := dk_4 (dk_at dksX0_notes_1 22 rfl rfl)
theorem dX0_notes_45 : decode cX0_notes 45 = .ok (.isub, 1) := dk_100 (dk_at dksX0_notes_1 23 rfl rfl)
theorem dX0_notes_46 : decode cX0_notes 46 = .ok (.putfield 46, 3) := dk_181 0 46 (dk_at dksX0_notes_2 0 rfl rfl)
theorem dX0_notes_49 : decode cX0_notes 49 = .ok (.aload_n 0, 1) := dk_42 (dk_at dksX0_notes_2 3 rfl rfl)
theorem dX0_notes_50 : decode cX0_notes 50 = .ok (.getfield 79, 3) := dk_180 0 79 (dk_at dksX0_notes_2 4 rfl rfl)
theorem dX0_notes_53 : decode cX0_notes 53 = .ok (.aload_n 0, 1) := dk_42 (dk_at dksX0_notes_2 7 rfl rfl)
theorem dX0_notes_54 : decode cX0_notes 54 = .ok (.getfield 46, 3) := dk_180 0 46 (dk_at dksX0_notes_2 8 rfl rfl)
theorem dX0_notes_57 : decode cX0_notes 57 = .ok (.aaload, 1) := dk_50 (dk_at dksX0_notes_2 11 rfl rfl)
theorem dX0_notes_58 : decode cX0_notes 58 = .ok (.aload_n 0, 1) := dk_42 (dk_at dksX0_notes_2 12 rfl rfl)
theorem dX0_notes_59 : decode cX0_notes 59 = .ok (.getfield 49, 3) := dk_180 0 49 (dk_at dksX0_notes_2 13 rfl rfl)
theorem dX0_notes_62 : decode cX0_notes 62 = .ok (.invokevirtual 180, 3) := dk_182 0 180 (dk_at dksX0_notes_2 16 rfl rfl)
theorem dX0_notes_65 : decode cX0_notes 65 = .ok (.aload_n 0, 1) := dk_42 (dk_at dksX0_notes_2 19 rfl rfl)
theorem dX0_notes_66 : decode cX0_notes 66 = .ok (.dup, 1) := dk_89 (dk_at dksX0_notes_2 20 rfl rfl)
theorem dX0_notes_67 : decode cX0_notes 67 = .ok (.getfield 46, 3) := dk_180 0 46 (dk_at dksX0_notes_2 21 rfl rfl)
theorem dX0_notes_70 : decode cX0_notes 70 = .ok (.iconst 1, 1) := dk_4 (dk_at dksX0_notes_3 0 rfl rfl)
theorem dX0_notes_71 : decode cX0_notes 71 = .ok (.iadd, 1) := dk_96 (dk_at dksX0_notes_3 1 rfl rfl)
theorem dX0_notes_72 : decode cX0_notes 72 = .ok (.putfield 46, 3) := dk_181 0 46 (dk_at dksX0_notes_3 2 rfl rfl)
theorem dX0_notes_75 : decode cX0_notes 75 = .ok (.return_, 1) := dk_177 (dk_at dksX0_notes_3 5 rfl rfl)
abbrev cX0_raises : ByteArray := prog_1_method_15_code
def yX0_raises : MethodName := ⟨RX0, "raises", "([BII)V"⟩
def dkwX0_raises_0 : List UInt8 := [42, 27, 42, 27, 51, 28, 184, 0, 183, 145, 84, 177]
abbrev dktX0_raises_0 : List UInt8 := dkwX0_raises_0 ++ []
theorem dksX0_raises_0 : cX0_raises.data.toList.drop 0 = dktX0_raises_0 := by decide +kernel
theorem dX0_raises_0 : decode cX0_raises 0 = .ok (.aload_n 0, 1) := dk_42 (dk_at dksX0_raises_0 0 rfl rfl)
theorem dX0_raises_1 : decode cX0_raises 1 = .ok (.iload_n 1, 1) := dk_27 (dk_at dksX0_raises_0 1 rfl rfl)
theorem dX0_raises_2 : decode cX0_raises 2 = .ok (.aload_n 0, 1) := dk_42 (dk_at dksX0_raises_0 2 rfl rfl)
theorem dX0_raises_3 : decode cX0_raises 3 = .ok (.iload_n 1, 1) := dk_27 (dk_at dksX0_raises_0 3 rfl rfl)
theorem dX0_raises_4 : decode cX0_raises 4 = .ok (.baload, 1) := dk_51 (dk_at dksX0_raises_0 4 rfl rfl)
theorem dX0_raises_5 : decode cX0_raises 5 = .ok (.iload_n 2, 1) := dk_28 (dk_at dksX0_raises_0 5 rfl rfl)
theorem dX0_raises_6 : decode cX0_raises 6 = .ok (.invokestatic 183, 3) := dk_184 0 183 (dk_at dksX0_raises_0 6 rfl rfl)
theorem dX0_raises_9 : decode cX0_raises 9 = .ok (.i2b, 1) := dk_145 (dk_at dksX0_raises_0 9 rfl rfl)
theorem dX0_raises_10 : decode cX0_raises 10 = .ok (.bastore, 1) := dk_84 (dk_at dksX0_raises_0 10 rfl rfl)
theorem dX0_raises_11 : decode cX0_raises 11 = .ok (.return_, 1) := dk_177 (dk_at dksX0_raises_0 11 rfl rfl)
abbrev cX0_wills : ByteArray := prog_1_method_17_code
def yX0_wills : MethodName := ⟨RX0, "wills", "(I)I"⟩
def dkwX0_wills_2 : List UInt8 := [180, 0, 148, 27, 3, 84, 28, 172]
abbrev dktX0_wills_2 : List UInt8 := dkwX0_wills_2 ++ []
def dkwX0_wills_1 : List UInt8 := [16, 254, 172, 42, 182, 0, 192, 42, 180, 0, 49, 180, 0, 145, 27, 28, 184, 0, 200, 42, 180, 0, 49]
abbrev dktX0_wills_1 : List UInt8 := dkwX0_wills_1 ++ dktX0_wills_2
def dkwX0_wills_0 : List UInt8 := [42, 27, 182, 0, 135, 154, 0, 5, 2, 172, 42, 180, 0, 49, 180, 0, 148, 27, 51, 61, 28, 154, 0, 6]
abbrev dktX0_wills_0 : List UInt8 := dkwX0_wills_0 ++ dktX0_wills_1
theorem dksX0_wills_0 : cX0_wills.data.toList.drop 0 = dktX0_wills_0 := by decide +kernel
theorem dksX0_wills_1 : cX0_wills.data.toList.drop 24 = dktX0_wills_1 := dk_seg dksX0_wills_0 24 rfl rfl
theorem dksX0_wills_2 : cX0_wills.data.toList.drop 47 = dktX0_wills_2 := dk_seg dksX0_wills_1 23 rfl rfl
theorem dX0_wills_0 : decode cX0_wills 0 = .ok (.aload_n 0, 1) := dk_42 (dk_at dksX0_wills_0 0 rfl rfl)
theorem dX0_wills_1 : decode cX0_wills 1 = .ok (.iload_n 1, 1) := dk_27 (dk_at dksX0_wills_0 1 rfl rfl)
theorem dX0_wills_2 : decode cX0_wills 2 = .ok (.invokevirtual 135, 3) := dk_182 0 135 (dk_at dksX0_wills_0 2 rfl rfl)
theorem dX0_wills_5 : decode cX0_wills 5 = .ok (.ifCond .ne 5, 3) := dk_154 0 5 (dk_at dksX0_wills_0 5 rfl rfl)
theorem dX0_wills_8 : decode cX0_wills 8 = .ok (.iconst (-1), 1) := dk_2 (dk_at dksX0_wills_0 8 rfl rfl)
theorem dX0_wills_9 : decode cX0_wills 9 = .ok (.ireturn, 1) := dk_172 (dk_at dksX0_wills_0 9 rfl rfl)
theorem dX0_wills_10 : decode cX0_wills 10 = .ok (.aload_n 0, 1) := dk_42 (dk_at dksX0_wills_0 10 rfl rfl)
theorem dX0_wills_11 : decode cX0_wills 11 = .ok (.getfield 49, 3) := dk_180 0 49 (dk_at dksX0_wills_0 11 rfl rfl)
theorem dX0_wills_14 : decode cX0_wills 14 = .ok (.getfield 148, 3) := dk_180 0 148 (dk_at dksX0_wills_0 14 rfl rfl)
theorem dX0_wills_17 : decode cX0_wills 17 = .ok (.iload_n 1, 1) := dk_27 (dk_at dksX0_wills_0 17 rfl rfl)
theorem dX0_wills_18 : decode cX0_wills 18 = .ok (.baload, 1) := dk_51 (dk_at dksX0_wills_0 18 rfl rfl)
theorem dX0_wills_19 : decode cX0_wills 19 = .ok (.istore_n 2, 1) := dk_61 (dk_at dksX0_wills_0 19 rfl rfl)
theorem dX0_wills_20 : decode cX0_wills 20 = .ok (.iload_n 2, 1) := dk_28 (dk_at dksX0_wills_0 20 rfl rfl)
theorem dX0_wills_21 : decode cX0_wills 21 = .ok (.ifCond .ne 6, 3) := dk_154 0 6 (dk_at dksX0_wills_0 21 rfl rfl)
theorem dX0_wills_24 : decode cX0_wills 24 = .ok (.bipush (-2), 2) := dk_16 254 (dk_at dksX0_wills_1 0 rfl rfl)
theorem dX0_wills_26 : decode cX0_wills 26 = .ok (.ireturn, 1) := dk_172 (dk_at dksX0_wills_1 2 rfl rfl)
theorem dX0_wills_27 : decode cX0_wills 27 = .ok (.aload_n 0, 1) := dk_42 (dk_at dksX0_wills_1 3 rfl rfl)
theorem dX0_wills_28 : decode cX0_wills 28 = .ok (.invokevirtual 192, 3) := dk_182 0 192 (dk_at dksX0_wills_1 4 rfl rfl)
theorem dX0_wills_31 : decode cX0_wills 31 = .ok (.aload_n 0, 1) := dk_42 (dk_at dksX0_wills_1 7 rfl rfl)
theorem dX0_wills_32 : decode cX0_wills 32 = .ok (.getfield 49, 3) := dk_180 0 49 (dk_at dksX0_wills_1 8 rfl rfl)
theorem dX0_wills_35 : decode cX0_wills 35 = .ok (.getfield 145, 3) := dk_180 0 145 (dk_at dksX0_wills_1 11 rfl rfl)
theorem dX0_wills_38 : decode cX0_wills 38 = .ok (.iload_n 1, 1) := dk_27 (dk_at dksX0_wills_1 14 rfl rfl)
theorem dX0_wills_39 : decode cX0_wills 39 = .ok (.iload_n 2, 1) := dk_28 (dk_at dksX0_wills_1 15 rfl rfl)
theorem dX0_wills_40 : decode cX0_wills 40 = .ok (.invokestatic 200, 3) := dk_184 0 200 (dk_at dksX0_wills_1 16 rfl rfl)
theorem dX0_wills_43 : decode cX0_wills 43 = .ok (.aload_n 0, 1) := dk_42 (dk_at dksX0_wills_1 19 rfl rfl)
theorem dX0_wills_44 : decode cX0_wills 44 = .ok (.getfield 49, 3) := dk_180 0 49 (dk_at dksX0_wills_1 20 rfl rfl)
theorem dX0_wills_47 : decode cX0_wills 47 = .ok (.getfield 148, 3) := dk_180 0 148 (dk_at dksX0_wills_2 0 rfl rfl)
theorem dX0_wills_50 : decode cX0_wills 50 = .ok (.iload_n 1, 1) := dk_27 (dk_at dksX0_wills_2 3 rfl rfl)
theorem dX0_wills_51 : decode cX0_wills 51 = .ok (.iconst 0, 1) := dk_3 (dk_at dksX0_wills_2 4 rfl rfl)
theorem dX0_wills_52 : decode cX0_wills 52 = .ok (.bastore, 1) := dk_84 (dk_at dksX0_wills_2 5 rfl rfl)
theorem dX0_wills_53 : decode cX0_wills 53 = .ok (.iload_n 2, 1) := dk_28 (dk_at dksX0_wills_2 6 rfl rfl)
theorem dX0_wills_54 : decode cX0_wills 54 = .ok (.ireturn, 1) := dk_172 (dk_at dksX0_wills_2 7 rfl rfl)
abbrev cX0_moves : ByteArray := prog_1_method_18_code
def yX0_moves : MethodName := ⟨RX0, "moves", "(II)I"⟩
def dkwX0_moves_2 : List UInt8 := [180, 0, 165, 27, 28, 79, 29, 172]
abbrev dktX0_moves_2 : List UInt8 := dkwX0_moves_2 ++ []
def dkwX0_moves_1 : List UInt8 := [180, 0, 165, 27, 46, 62, 29, 28, 160, 0, 6, 16, 254, 172, 42, 182, 0, 192, 42, 180, 0, 49]
abbrev dktX0_moves_1 : List UInt8 := dkwX0_moves_1 ++ dktX0_moves_2
def dkwX0_moves_0 : List UInt8 := [42, 27, 182, 0, 162, 153, 0, 11, 42, 28, 182, 0, 135, 154, 0, 5, 2, 172, 42, 180, 0, 49]
abbrev dktX0_moves_0 : List UInt8 := dkwX0_moves_0 ++ dktX0_moves_1
theorem dksX0_moves_0 : cX0_moves.data.toList.drop 0 = dktX0_moves_0 := by decide +kernel
theorem dksX0_moves_1 : cX0_moves.data.toList.drop 22 = dktX0_moves_1 := dk_seg dksX0_moves_0 22 rfl rfl
theorem dksX0_moves_2 : cX0_moves.data.toList.drop 44 = dktX0_moves_2 := dk_seg dksX0_moves_1 22 rfl rfl
theorem dX0_moves_0 : decode cX0_moves 0 = .ok (.aload_n 0, 1) := dk_42 (dk_at dksX0_moves_0 0 rfl rfl)
theorem dX0_moves_1 : decode cX0_moves 1 = .ok (.iload_n 1, 1) := dk_27 (dk_at dksX0_moves_0 1 rfl rfl)
theorem dX0_moves_2 : decode cX0_moves 2 = .ok (.invokevirtual 162, 3) := dk_182 0 162 (dk_at dksX0_moves_0 2 rfl rfl)
theorem dX0_moves_5 : decode cX0_moves 5 = .ok (.ifCond .eq 11, 3) := dk_153 0 11 (dk_at dksX0_moves_0 5 rfl rfl)
theorem dX0_moves_8 : decode cX0_moves 8 = .ok (.aload_n 0, 1) := dk_42 (dk_at dksX0_moves_0 8 rfl rfl)
theorem dX0_moves_9 : decode cX0_moves 9 = .ok (.iload_n 2, 1) := dk_28 (dk_at dksX0_moves_0 9 rfl rfl)
theorem dX0_moves_10 : decode cX0_moves 10 = .ok (.invokevirtual 135, 3) := dk_182 0 135 (dk_at dksX0_moves_0 10 rfl rfl)
theorem dX0_moves_13 : decode cX0_moves 13 = .ok (.ifCond .ne 5, 3) := dk_154 0 5 (dk_at dksX0_moves_0 13 rfl rfl)
theorem dX0_moves_16 : decode cX0_moves 16 = .ok (.iconst (-1), 1) := dk_2 (dk_at dksX0_moves_0 16 rfl rfl)
theorem dX0_moves_17 : decode cX0_moves 17 = .ok (.ireturn, 1) := dk_172 (dk_at dksX0_moves_0 17 rfl rfl)
theorem dX0_moves_18 : decode cX0_moves 18 = .ok (.aload_n 0, 1) := dk_42 (dk_at dksX0_moves_0 18 rfl rfl)
theorem dX0_moves_19 : decode cX0_moves 19 = .ok (.getfield 49, 3) := dk_180 0 49 (dk_at dksX0_moves_0 19 rfl rfl)
theorem dX0_moves_22 : decode cX0_moves 22 = .ok (.getfield 165, 3) := dk_180 0 165 (dk_at dksX0_moves_1 0 rfl rfl)
theorem dX0_moves_25 : decode cX0_moves 25 = .ok (.iload_n 1, 1) := dk_27 (dk_at dksX0_moves_1 3 rfl rfl)
theorem dX0_moves_26 : decode cX0_moves 26 = .ok (.iaload, 1) := dk_46 (dk_at dksX0_moves_1 4 rfl rfl)
theorem dX0_moves_27 : decode cX0_moves 27 = .ok (.istore_n 3, 1) := dk_62 (dk_at dksX0_moves_1 5 rfl rfl)
theorem dX0_moves_28 : decode cX0_moves 28 = .ok (.iload_n 3, 1) := dk_29 (dk_at dksX0_moves_1 6 rfl rfl)
theorem dX0_moves_29 : decode cX0_moves 29 = .ok (.iload_n 2, 1) := dk_28 (dk_at dksX0_moves_1 7 rfl rfl)
theorem dX0_moves_30 : decode cX0_moves 30 = .ok (.if_icmp .ne 6, 3) := dk_160 0 6 (dk_at dksX0_moves_1 8 rfl rfl)
theorem dX0_moves_33 : decode cX0_moves 33 = .ok (.bipush (-2), 2) := dk_16 254 (dk_at dksX0_moves_1 11 rfl rfl)
theorem dX0_moves_35 : decode cX0_moves 35 = .ok (.ireturn, 1) := dk_172 (dk_at dksX0_moves_1 13 rfl rfl)
theorem dX0_moves_36 : decode cX0_moves 36 = .ok (.aload_n 0, 1) := dk_42 (dk_at dksX0_moves_1 14 rfl rfl)
theorem dX0_moves_37 : decode cX0_moves 37 = .ok (.invokevirtual 192, 3) := dk_182 0 192 (dk_at dksX0_moves_1 15 rfl rfl)
theorem dX0_moves_40 : decode cX0_moves 40 = .ok (.aload_n 0, 1) := dk_42 (dk_at dksX0_moves_1 18 rfl rfl)
theorem dX0_moves_41 : decode cX0_moves 41 = .ok (.getfield 49, 3) := dk_180 0 49 (dk_at dksX0_moves_1 19 rfl rfl)
theorem dX0_moves_44 : decode cX0_moves 44 = .ok (.getfield 165, 3) := dk_180 0 165 (dk_at dksX0_moves_2 0 rfl rfl)
theorem dX0_moves_47 : decode cX0_moves 47 = .ok (.iload_n 1, 1) := dk_27 (dk_at dksX0_moves_2 3 rfl rfl)
theorem dX0_moves_48 : decode cX0_moves 48 = .ok (.iload_n 2, 1) := dk_28 (dk_at dksX0_moves_2 4 rfl rfl)
theorem dX0_moves_49 : decode cX0_moves 49 = .ok (.iastore, 1) := dk_79 (dk_at dksX0_moves_2 5 rfl rfl)
theorem dX0_moves_50 : decode cX0_moves 50 = .ok (.iload_n 3, 1) := dk_29 (dk_at dksX0_moves_2 6 rfl rfl)
theorem dX0_moves_51 : decode cX0_moves 51 = .ok (.ireturn, 1) := dk_172 (dk_at dksX0_moves_2 7 rfl rfl)
abbrev cX0_night : ByteArray := prog_1_method_21_code
def yX0_night : MethodName := ⟨RX0, "night", "(I)I"⟩
def dkwX0_night_2 : List UInt8 := [167, 0, 4, 3, 181, 0, 208, 42, 42, 182, 0, 211, 182, 0, 214, 172]
abbrev dktX0_night_2 : List UInt8 := dkwX0_night_2 ++ []
def dkwX0_night_1 : List UInt8 := [167, 0, 4, 3, 160, 0, 6, 16, 254, 172, 42, 182, 0, 192, 42, 180, 0, 49, 27, 4, 160, 0, 7, 4]
abbrev dktX0_night_1 : List UInt8 := dkwX0_night_1 ++ dktX0_night_2
def dkwX0_night_0 : List UInt8 := [27, 184, 0, 189, 154, 0, 5, 2, 172, 42, 180, 0, 49, 180, 0, 208, 27, 4, 160, 0, 7, 4]
abbrev dktX0_night_0 : List UInt8 := dkwX0_night_0 ++ dktX0_night_1
theorem dksX0_night_0 : cX0_night.data.toList.drop 0 = dktX0_night_0 := by decide +kernel
theorem dksX0_night_1 : cX0_night.data.toList.drop 22 = dktX0_night_1 := dk_seg dksX0_night_0 22 rfl rfl
theorem dksX0_night_2 : cX0_night.data.toList.drop 46 = dktX0_night_2 := dk_seg dksX0_night_1 24 rfl rfl
theorem dX0_night_0 : decode cX0_night 0 = .ok (.iload_n 1, 1) := dk_27 (dk_at dksX0_night_0 0 rfl rfl)
theorem dX0_night_1 : decode cX0_night 1 = .ok (.invokestatic 189, 3) := dk_184 0 189 (dk_at dksX0_night_0 1 rfl rfl)
theorem dX0_night_4 : decode cX0_night 4 = .ok (.ifCond .ne 5, 3) := dk_154 0 5 (dk_at dksX0_night_0 4 rfl rfl)
theorem dX0_night_7 : decode cX0_night 7 = .ok (.iconst (-1), 1) := dk_2 (dk_at dksX0_night_0 7 rfl rfl)
theorem dX0_night_8 : decode cX0_night 8 = .ok (.ireturn, 1) := dk_172 (dk_at dksX0_night_0 8 rfl rfl)
theorem dX0_night_9 : decode cX0_night 9 = .ok (.aload_n 0, 1) := dk_42 (dk_at dksX0_night_0 9 rfl rfl)
theorem dX0_night_10 : decode cX0_night 10 = .ok (.getfield 49, 3) := dk_180 0 49 (dk_at dksX0_night_0 10 rfl rfl)
theorem dX0_night_13 : decode cX0_night 13 = .ok (.getfield 208, 3) := dk_180 0 208 (dk_at dksX0_night_0 13 rfl rfl)
theorem dX0_night_16 : decode cX0_night 16 = .ok (.iload_n 1, 1) := dk_27 (dk_at dksX0_night_0 16 rfl rfl)
theorem dX0_night_17 : decode cX0_night 17 = .ok (.iconst 1, 1) := dk_4 (dk_at dksX0_night_0 17 rfl rfl)
theorem dX0_night_18 : decode cX0_night 18 = .ok (.if_icmp .ne 7, 3) := dk_160 0 7 (dk_at dksX0_night_0 18 rfl rfl)
theorem dX0_night_21 : decode cX0_night 21 = .ok (.iconst 1, 1) := dk_4 (dk_at dksX0_night_0 21 rfl rfl)
theorem dX0_night_22 : decode cX0_night 22 = .ok (.goto 4, 3) := dk_167 0 4 (dk_at dksX0_night_1 0 rfl rfl)
theorem dX0_night_25 : decode cX0_night 25 = .ok (.iconst 0, 1) := dk_3 (dk_at dksX0_night_1 3 rfl rfl)
theorem dX0_night_26 : decode cX0_night 26 = .ok (.if_icmp .ne 6, 3) := dk_160 0 6 (dk_at dksX0_night_1 4 rfl rfl)
theorem dX0_night_29 : decode cX0_night 29 = .ok (.bipush (-2), 2) := dk_16 254 (dk_at dksX0_night_1 7 rfl rfl)
theorem dX0_night_31 : decode cX0_night 31 = .ok (.ireturn, 1) := dk_172 (dk_at dksX0_night_1 9 rfl rfl)
theorem dX0_night_32 : decode cX0_night 32 = .ok (.aload_n 0, 1) := dk_42 (dk_at dksX0_night_1 10 rfl rfl)
theorem dX0_night_33 : decode cX0_night 33 = .ok (.invokevirtual 192, 3) := dk_182 0 192 (dk_at dksX0_night_1 11 rfl rfl)
theorem dX0_night_36 : decode cX0_night 36 = .ok (.aload_n 0, 1) := dk_42 (dk_at dksX0_night_1 14 rfl rfl)
theorem dX0_night_37 : decode cX0_night 37 = .ok (.getfield 49, 3) := dk_180 0 49 (dk_at dksX0_night_1 15 rfl rfl)
theorem dX0_night_40 : decode cX0_night 40 = .ok (.iload_n 1, 1) := dk_27 (dk_at dksX0_night_1 18 rfl rfl)
theorem dX0_night_41 : decode cX0_night 41 = .ok (.iconst 1, 1) := dk_4 (dk_at dksX0_night_1 19 rfl rfl)
theorem dX0_night_42 : decode cX0_night 42 = .ok (.if_icmp .ne 7, 3) := dk_160 0 7 (dk_at dksX0_night_1 20 rfl rfl)
theorem dX0_night_45 : decode cX0_night 45 = .ok (.iconst 1, 1) := dk_4 (dk_at dksX0_night_1 23 rfl rfl)
theorem dX0_night_46 : decode cX0_night 46 = .ok (.goto 4, 3) := dk_167 0 4 (dk_at dksX0_night_2 0 rfl rfl)
theorem dX0_night_49 : decode cX0_night 49 = .ok (.iconst 0, 1) := dk_3 (dk_at dksX0_night_2 3 rfl rfl)
theorem dX0_night_50 : decode cX0_night 50 = .ok (.putfield 208, 3) := dk_181 0 208 (dk_at dksX0_night_2 4 rfl rfl)
theorem dX0_night_53 : decode cX0_night 53 = .ok (.aload_n 0, 1) := dk_42 (dk_at dksX0_night_2 7 rfl rfl)
theorem dX0_night_54 : decode cX0_night 54 = .ok (.aload_n 0, 1) := dk_42 (dk_at dksX0_night_2 8 rfl rfl)
theorem dX0_night_55 : decode cX0_night 55 = .ok (.invokevirtual 211, 3) := dk_182 0 211 (dk_at dksX0_night_2 9 rfl rfl)
theorem dX0_night_58 : decode cX0_night 58 = .ok (.invokevirtual 214, 3) := dk_182 0 214 (dk_at dksX0_night_2 12 rfl rfl)
theorem dX0_night_61 : decode cX0_night 61 = .ok (.ireturn, 1) := dk_172 (dk_at dksX0_night_2 15 rfl rfl)
abbrev cX0_allStreets : ByteArray := prog_1_method_20_code
def yX0_allStreets : MethodName := ⟨RX0, "allStreets", "()I"⟩
def dkwX0_allStreets_0 : List UInt8 := [4, 42, 180, 0, 30, 180, 0, 126, 120, 4, 100, 172]
abbrev dktX0_allStreets_0 : List UInt8 := dkwX0_allStreets_0 ++ []
theorem dksX0_allStreets_0 : cX0_allStreets.data.toList.drop 0 = dktX0_allStreets_0 := by decide +kernel
theorem dX0_allStreets_0 : decode cX0_allStreets 0 = .ok (.iconst 1, 1) := dk_4 (dk_at dksX0_allStreets_0 0 rfl rfl)
theorem dX0_allStreets_1 : decode cX0_allStreets 1 = .ok (.aload_n 0, 1) := dk_42 (dk_at dksX0_allStreets_0 1 rfl rfl)
theorem dX0_allStreets_2 : decode cX0_allStreets 2 = .ok (.getfield 30, 3) := dk_180 0 30 (dk_at dksX0_allStreets_0 2 rfl rfl)
theorem dX0_allStreets_5 : decode cX0_allStreets 5 = .ok (.getfield 126, 3) := dk_180 0 126 (dk_at dksX0_allStreets_0 5 rfl rfl)
theorem dX0_allStreets_8 : decode cX0_allStreets 8 = .ok (.ishl, 1) := dk_120 (dk_at dksX0_allStreets_0 8 rfl rfl)
theorem dX0_allStreets_9 : decode cX0_allStreets 9 = .ok (.iconst 1, 1) := dk_4 (dk_at dksX0_allStreets_0 9 rfl rfl)
theorem dX0_allStreets_10 : decode cX0_allStreets 10 = .ok (.isub, 1) := dk_100 (dk_at dksX0_allStreets_0 10 rfl rfl)
theorem dX0_allStreets_11 : decode cX0_allStreets 11 = .ok (.ireturn, 1) := dk_172 (dk_at dksX0_allStreets_0 11 rfl rfl)
abbrev cX0_widthsOf : ByteArray := prog_1_method_19_code
def yX0_widthsOf : MethodName := ⟨RX0, "widthsOf", "(I)I"⟩
def dkwX0_widthsOf_1 : List UInt8 := [42, 180, 0, 49, 29, 182, 0, 154, 167, 0, 4, 3, 96, 61, 132, 3, 1, 167, 255, 219, 28, 172]
abbrev dktX0_widthsOf_1 : List UInt8 := dkwX0_widthsOf_1 ++ []
def dkwX0_widthsOf_0 : List UInt8 := [3, 61, 3, 62, 29, 42, 180, 0, 30, 180, 0, 126, 162, 0, 32, 28, 27, 29, 184, 0, 204, 153, 0, 14]
abbrev dktX0_widthsOf_0 : List UInt8 := dkwX0_widthsOf_0 ++ dktX0_widthsOf_1
theorem dksX0_widthsOf_0 : cX0_widthsOf.data.toList.drop 0 = dktX0_widthsOf_0 := by decide +kernel
theorem dksX0_widthsOf_1 : cX0_widthsOf.data.toList.drop 24 = dktX0_widthsOf_1 := dk_seg dksX0_widthsOf_0 24 rfl rfl
theorem dX0_widthsOf_0 : decode cX0_widthsOf 0 = .ok (.iconst 0, 1) := dk_3 (dk_at dksX0_widthsOf_0 0 rfl rfl)
theorem dX0_widthsOf_1 : decode cX0_widthsOf 1 = .ok (.istore_n 2, 1) := dk_61 (dk_at dksX0_widthsOf_0 1 rfl rfl)
theorem dX0_widthsOf_2 : decode cX0_widthsOf 2 = .ok (.iconst 0, 1) := dk_3 (dk_at dksX0_widthsOf_0 2 rfl rfl)
theorem dX0_widthsOf_3 : decode cX0_widthsOf 3 = .ok (.istore_n 3, 1) := dk_62 (dk_at dksX0_widthsOf_0 3 rfl rfl)
theorem dX0_widthsOf_4 : decode cX0_widthsOf 4 = .ok (.iload_n 3, 1) := dk_29 (dk_at dksX0_widthsOf_0 4 rfl rfl)
theorem dX0_widthsOf_5 : decode cX0_widthsOf 5 = .ok (.aload_n 0, 1) := dk_42 (dk_at dksX0_widthsOf_0 5 rfl rfl)
theorem dX0_widthsOf_6 : decode cX0_widthsOf 6 = .ok (.getfield 30, 3) := dk_180 0 30 (dk_at dksX0_widthsOf_0 6 rfl rfl)
theorem dX0_widthsOf_9 : decode cX0_widthsOf 9 = .ok (.getfield 126, 3) := dk_180 0 126 (dk_at dksX0_widthsOf_0 9 rfl rfl)
theorem dX0_widthsOf_12 : decode cX0_widthsOf 12 = .ok (.if_icmp .ge 32, 3) := dk_162 0 32 (dk_at dksX0_widthsOf_0 12 rfl rfl)
theorem dX0_widthsOf_15 : decode cX0_widthsOf 15 = .ok (.iload_n 2, 1) := dk_28 (dk_at dksX0_widthsOf_0 15 rfl rfl)
theorem dX0_widthsOf_16 : decode cX0_widthsOf 16 = .ok (.iload_n 1, 1) := dk_27 (dk_at dksX0_widthsOf_0 16 rfl rfl)
theorem dX0_widthsOf_17 : decode cX0_widthsOf 17 = .ok (.iload_n 3, 1) := dk_29 (dk_at dksX0_widthsOf_0 17 rfl rfl)
theorem dX0_widthsOf_18 : decode cX0_widthsOf 18 = .ok (.invokestatic 204, 3) := dk_184 0 204 (dk_at dksX0_widthsOf_0 18 rfl rfl)
theorem dX0_widthsOf_21 : decode cX0_widthsOf 21 = .ok (.ifCond .eq 14, 3) := dk_153 0 14 (dk_at dksX0_widthsOf_0 21 rfl rfl)
theorem dX0_widthsOf_24 : decode cX0_widthsOf 24 = .ok (.aload_n 0, 1) := dk_42 (dk_at dksX0_widthsOf_1 0 rfl rfl)
theorem dX0_widthsOf_25 : decode cX0_widthsOf 25 = .ok (.getfield 49, 3) := dk_180 0 49 (dk_at dksX0_widthsOf_1 1 rfl rfl)
theorem dX0_widthsOf_28 : decode cX0_widthsOf 28 = .ok (.iload_n 3, 1) := dk_29 (dk_at dksX0_widthsOf_1 4 rfl rfl)
theorem dX0_widthsOf_29 : decode cX0_widthsOf 29 = .ok (.invokevirtual 154, 3) := dk_182 0 154 (dk_at dksX0_widthsOf_1 5 rfl rfl)
theorem dX0_widthsOf_32 : decode cX0_widthsOf 32 = .ok (.goto 4, 3) := dk_167 0 4 (dk_at dksX0_widthsOf_1 8 rfl rfl)
theorem dX0_widthsOf_35 : decode cX0_widthsOf 35 = .ok (.iconst 0, 1) := dk_3 (dk_at dksX0_widthsOf_1 11 rfl rfl)
theorem dX0_widthsOf_36 : decode cX0_widthsOf 36 = .ok (.iadd, 1) := dk_96 (dk_at dksX0_widthsOf_1 12 rfl rfl)
theorem dX0_widthsOf_37 : decode cX0_widthsOf 37 = .ok (.istore_n 2, 1) := dk_61 (dk_at dksX0_widthsOf_1 13 rfl rfl)
theorem dX0_widthsOf_38 : decode cX0_widthsOf 38 = .ok (.iinc 3 1, 3) := dk_132 3 1 (dk_at dksX0_widthsOf_1 14 rfl rfl)
theorem dX0_widthsOf_41 : decode cX0_widthsOf 41 = .ok (.goto (-37), 3) := dk_167 255 219 (dk_at dksX0_widthsOf_1 17 rfl rfl)
theorem dX0_widthsOf_44 : decode cX0_widthsOf 44 = .ok (.iload_n 2, 1) := dk_28 (dk_at dksX0_widthsOf_1 20 rfl rfl)
theorem dX0_widthsOf_45 : decode cX0_widthsOf 45 = .ok (.ireturn, 1) := dk_172 (dk_at dksX0_widthsOf_1 21 rfl rfl)
abbrev cX0_has : ByteArray := prog_1_method_2_code
def yX0_has : MethodName := ⟨RX0, "has", "(II)Z"⟩
def dkwX0_has_0 : List UInt8 := [26, 27, 122, 4, 126, 4, 160, 0, 7, 4, 167, 0, 4, 3, 172]
abbrev dktX0_has_0 : List UInt8 := dkwX0_has_0 ++ []
theorem dksX0_has_0 : cX0_has.data.toList.drop 0 = dktX0_has_0 := by decide +kernel
theorem dX0_has_0 : decode cX0_has 0 = .ok (.iload_n 0, 1) := dk_26 (dk_at dksX0_has_0 0 rfl rfl)
theorem dX0_has_1 : decode cX0_has 1 = .ok (.iload_n 1, 1) := dk_27 (dk_at dksX0_has_0 1 rfl rfl)
theorem dX0_has_2 : decode cX0_has 2 = .ok (.ishr, 1) := dk_122 (dk_at dksX0_has_0 2 rfl rfl)
theorem dX0_has_3 : decode cX0_has 3 = .ok (.iconst 1, 1) := dk_4 (dk_at dksX0_has_0 3 rfl rfl)
theorem dX0_has_4 : decode cX0_has 4 = .ok (.iand, 1) := dk_126 (dk_at dksX0_has_0 4 rfl rfl)
theorem dX0_has_5 : decode cX0_has 5 = .ok (.iconst 1, 1) := dk_4 (dk_at dksX0_has_0 5 rfl rfl)
theorem dX0_has_6 : decode cX0_has 6 = .ok (.if_icmp .ne 7, 3) := dk_160 0 7 (dk_at dksX0_has_0 6 rfl rfl)
theorem dX0_has_9 : decode cX0_has 9 = .ok (.iconst 1, 1) := dk_4 (dk_at dksX0_has_0 9 rfl rfl)
theorem dX0_has_10 : decode cX0_has 10 = .ok (.goto 4, 3) := dk_167 0 4 (dk_at dksX0_has_0 10 rfl rfl)
theorem dX0_has_13 : decode cX0_has 13 = .ok (.iconst 0, 1) := dk_3 (dk_at dksX0_has_0 13 rfl rfl)
theorem dX0_has_14 : decode cX0_has 14 = .ok (.ireturn, 1) := dk_172 (dk_at dksX0_has_0 14 rfl rfl)
abbrev cX0_undo : ByteArray := prog_1_method_22_code
def yX0_undo : MethodName := ⟨RX0, "undo", "()I"⟩
def dkwX0_undo_1 : List UInt8 := [42, 180, 0, 79, 42, 180, 0, 46, 50, 182, 0, 180, 42, 180, 0, 46, 172]
abbrev dktX0_undo_1 : List UInt8 := dkwX0_undo_1 ++ []
def dkwX0_undo_0 : List UInt8 := [42, 180, 0, 46, 154, 0, 6, 16, 254, 172, 42, 89, 180, 0, 46, 4, 100, 181, 0, 46, 42, 180, 0, 49]
abbrev dktX0_undo_0 : List UInt8 := dkwX0_undo_0 ++ dktX0_undo_1
theorem dksX0_undo_0 : cX0_undo.data.toList.drop 0 = dktX0_undo_0 := by decide +kernel
theorem dksX0_undo_1 : cX0_undo.data.toList.drop 24 = dktX0_undo_1 := dk_seg dksX0_undo_0 24 rfl rfl
theorem dX0_undo_0 : decode cX0_undo 0 = .ok (.aload_n 0, 1) := dk_42 (dk_at dksX0_undo_0 0 rfl rfl)
theorem dX0_undo_1 : decode cX0_undo 1 = .ok (.getfield 46, 3) := dk_180 0 46 (dk_at dksX0_undo_0 1 rfl rfl)
theorem dX0_undo_4 : decode cX0_undo 4 = .ok (.ifCond .ne 6, 3) := dk_154 0 6 (dk_at dksX0_undo_0 4 rfl rfl)
theorem dX0_undo_7 : decode cX0_undo 7 = .ok (.bipush (-2), 2) := dk_16 254 (dk_at dksX0_undo_0 7 rfl rfl)
theorem dX0_undo_9 : decode cX0_undo 9 = .ok (.ireturn, 1) := dk_172 (dk_at dksX0_undo_0 9 rfl rfl)
theorem dX0_undo_10 : decode cX0_undo 10 = .ok (.aload_n 0, 1) := dk_42 (dk_at dksX0_undo_0 10 rfl rfl)
theorem dX0_undo_11 : decode cX0_undo 11 = .ok (.dup, 1) := dk_89 (dk_at dksX0_undo_0 11 rfl rfl)
theorem dX0_undo_12 : decode cX0_undo 12 = .ok (.getfield 46, 3) := dk_180 0 46 (dk_at dksX0_undo_0 12 rfl rfl)
theorem dX0_undo_15 : decode cX0_undo 15 = .ok (.iconst 1, 1) := dk_4 (dk_at dksX0_undo_0 15 rfl rfl)
theorem dX0_undo_16 : decode cX0_undo 16 = .ok (.isub, 1) := dk_100 (dk_at dksX0_undo_0 16 rfl rfl)
theorem dX0_undo_17 : decode cX0_undo 17 = .ok (.putfield 46, 3) := dk_181 0 46 (dk_at dksX0_undo_0 17 rfl rfl)
theorem dX0_undo_20 : decode cX0_undo 20 = .ok (.aload_n 0, 1) := dk_42 (dk_at dksX0_undo_0 20 rfl rfl)
theorem dX0_undo_21 : decode cX0_undo 21 = .ok (.getfield 49, 3) := dk_180 0 49 (dk_at dksX0_undo_0 21 rfl rfl)
theorem dX0_undo_24 : decode cX0_undo 24 = .ok (.aload_n 0, 1) := dk_42 (dk_at dksX0_undo_1 0 rfl rfl)
theorem dX0_undo_25 : decode cX0_undo 25 = .ok (.getfield 79, 3) := dk_180 0 79 (dk_at dksX0_undo_1 1 rfl rfl)
theorem dX0_undo_28 : decode cX0_undo 28 = .ok (.aload_n 0, 1) := dk_42 (dk_at dksX0_undo_1 4 rfl rfl)
theorem dX0_undo_29 : decode cX0_undo 29 = .ok (.getfield 46, 3) := dk_180 0 46 (dk_at dksX0_undo_1 5 rfl rfl)
theorem dX0_undo_32 : decode cX0_undo 32 = .ok (.aaload, 1) := dk_50 (dk_at dksX0_undo_1 8 rfl rfl)
theorem dX0_undo_33 : decode cX0_undo 33 = .ok (.invokevirtual 180, 3) := dk_182 0 180 (dk_at dksX0_undo_1 9 rfl rfl)
theorem dX0_undo_36 : decode cX0_undo 36 = .ok (.aload_n 0, 1) := dk_42 (dk_at dksX0_undo_1 12 rfl rfl)
theorem dX0_undo_37 : decode cX0_undo 37 = .ok (.getfield 46, 3) := dk_180 0 46 (dk_at dksX0_undo_1 13 rfl rfl)
theorem dX0_undo_40 : decode cX0_undo 40 = .ok (.ireturn, 1) := dk_172 (dk_at dksX0_undo_1 16 rfl rfl)
abbrev cX0_now : ByteArray := prog_1_method_24_code
def yX0_now : MethodName := ⟨RX0, "now", "(I)I"⟩
def dkwX0_now_3 : List UInt8 := [172, 42, 182, 0, 217, 172, 2, 172]
abbrev dktX0_now_3 : List UInt8 := dkwX0_now_3 ++ []
def dkwX0_now_2 : List UInt8 := [42, 180, 0, 49, 180, 0, 208, 153, 0, 7, 4, 167, 0, 4, 3, 172, 42, 42, 182, 0, 211, 182, 0, 214]
abbrev dktX0_now_2 : List UInt8 := dkwX0_now_2 ++ dktX0_now_3
def dkwX0_now_1 : List UInt8 := [170, 0, 0, 0, 0, 0, 57, 0, 0, 0, 0, 0, 0, 0, 2, 0, 0, 0, 27, 0, 0, 0, 43, 0, 0, 0, 52]
abbrev dktX0_now_1 : List UInt8 := dkwX0_now_1 ++ dktX0_now_2
def dkwX0_now_0 : List UInt8 := [27]
abbrev dktX0_now_0 : List UInt8 := dkwX0_now_0 ++ dktX0_now_1
theorem dksX0_now_0 : cX0_now.data.toList.drop 0 = dktX0_now_0 := by decide +kernel
theorem dksX0_now_1 : cX0_now.data.toList.drop 1 = dktX0_now_1 := dk_seg dksX0_now_0 1 rfl rfl
theorem dksX0_now_2 : cX0_now.data.toList.drop 28 = dktX0_now_2 := dk_seg dksX0_now_1 27 rfl rfl
theorem dksX0_now_3 : cX0_now.data.toList.drop 52 = dktX0_now_3 := dk_seg dksX0_now_2 24 rfl rfl
theorem dX0_now_0 : decode cX0_now 0 = .ok (.iload_n 1, 1) := dk_27 (dk_at dksX0_now_0 0 rfl rfl)
theorem dX0_now_1 : decode cX0_now 1 = .ok (.tableswitch 57 0 2 #[27, 43, 52], 27) := by decide +kernel
theorem dX0_now_28 : decode cX0_now 28 = .ok (.aload_n 0, 1) := dk_42 (dk_at dksX0_now_2 0 rfl rfl)
theorem dX0_now_29 : decode cX0_now 29 = .ok (.getfield 49, 3) := dk_180 0 49 (dk_at dksX0_now_2 1 rfl rfl)
theorem dX0_now_32 : decode cX0_now 32 = .ok (.getfield 208, 3) := dk_180 0 208 (dk_at dksX0_now_2 4 rfl rfl)
theorem dX0_now_35 : decode cX0_now 35 = .ok (.ifCond .eq 7, 3) := dk_153 0 7 (dk_at dksX0_now_2 7 rfl rfl)
theorem dX0_now_38 : decode cX0_now 38 = .ok (.iconst 1, 1) := dk_4 (dk_at dksX0_now_2 10 rfl rfl)
theorem dX0_now_39 : decode cX0_now 39 = .ok (.goto 4, 3) := dk_167 0 4 (dk_at dksX0_now_2 11 rfl rfl)
theorem dX0_now_42 : decode cX0_now 42 = .ok (.iconst 0, 1) := dk_3 (dk_at dksX0_now_2 14 rfl rfl)
theorem dX0_now_43 : decode cX0_now 43 = .ok (.ireturn, 1) := dk_172 (dk_at dksX0_now_2 15 rfl rfl)
theorem dX0_now_44 : decode cX0_now 44 = .ok (.aload_n 0, 1) := dk_42 (dk_at dksX0_now_2 16 rfl rfl)
theorem dX0_now_45 : decode cX0_now 45 = .ok (.aload_n 0, 1) := dk_42 (dk_at dksX0_now_2 17 rfl rfl)
theorem dX0_now_46 : decode cX0_now 46 = .ok (.invokevirtual 211, 3) := dk_182 0 211 (dk_at dksX0_now_2 18 rfl rfl)
theorem dX0_now_49 : decode cX0_now 49 = .ok (.invokevirtual 214, 3) := dk_182 0 214 (dk_at dksX0_now_2 21 rfl rfl)
theorem dX0_now_52 : decode cX0_now 52 = .ok (.ireturn, 1) := dk_172 (dk_at dksX0_now_3 0 rfl rfl)
theorem dX0_now_53 : decode cX0_now 53 = .ok (.aload_n 0, 1) := dk_42 (dk_at dksX0_now_3 1 rfl rfl)
theorem dX0_now_54 : decode cX0_now 54 = .ok (.invokevirtual 217, 3) := dk_182 0 217 (dk_at dksX0_now_3 2 rfl rfl)
theorem dX0_now_57 : decode cX0_now 57 = .ok (.ireturn, 1) := dk_172 (dk_at dksX0_now_3 5 rfl rfl)
theorem dX0_now_58 : decode cX0_now 58 = .ok (.iconst (-1), 1) := dk_2 (dk_at dksX0_now_3 6 rfl rfl)
theorem dX0_now_59 : decode cX0_now 59 = .ok (.ireturn, 1) := dk_172 (dk_at dksX0_now_3 7 rfl rfl)
abbrev cX0_hiding : ByteArray := prog_1_method_23_code
def yX0_hiding : MethodName := ⟨RX0, "hiding", "()I"⟩
def dkwX0_hiding_1 : List UInt8 := [51, 158, 0, 7, 4, 167, 0, 4, 3, 96, 60, 132, 2, 1, 167, 255, 222, 27, 172]
abbrev dktX0_hiding_1 : List UInt8 := dkwX0_hiding_1 ++ []
def dkwX0_hiding_0 : List UInt8 := [3, 60, 3, 61, 28, 42, 180, 0, 30, 180, 0, 126, 162, 0, 29, 27, 42, 180, 0, 49, 180, 0, 148, 28]
abbrev dktX0_hiding_0 : List UInt8 := dkwX0_hiding_0 ++ dktX0_hiding_1
theorem dksX0_hiding_0 : cX0_hiding.data.toList.drop 0 = dktX0_hiding_0 := by decide +kernel
theorem dksX0_hiding_1 : cX0_hiding.data.toList.drop 24 = dktX0_hiding_1 := dk_seg dksX0_hiding_0 24 rfl rfl
theorem dX0_hiding_0 : decode cX0_hiding 0 = .ok (.iconst 0, 1) := dk_3 (dk_at dksX0_hiding_0 0 rfl rfl)
theorem dX0_hiding_1 : decode cX0_hiding 1 = .ok (.istore_n 1, 1) := dk_60 (dk_at dksX0_hiding_0 1 rfl rfl)
theorem dX0_hiding_2 : decode cX0_hiding 2 = .ok (.iconst 0, 1) := dk_3 (dk_at dksX0_hiding_0 2 rfl rfl)
theorem dX0_hiding_3 : decode cX0_hiding 3 = .ok (.istore_n 2, 1) := dk_61 (dk_at dksX0_hiding_0 3 rfl rfl)
theorem dX0_hiding_4 : decode cX0_hiding 4 = .ok (.iload_n 2, 1) := dk_28 (dk_at dksX0_hiding_0 4 rfl rfl)
theorem dX0_hiding_5 : decode cX0_hiding 5 = .ok (.aload_n 0, 1) := dk_42 (dk_at dksX0_hiding_0 5 rfl rfl)
theorem dX0_hiding_6 : decode cX0_hiding 6 = .ok (.getfield 30, 3) := dk_180 0 30 (dk_at dksX0_hiding_0 6 rfl rfl)
theorem dX0_hiding_9 : decode cX0_hiding 9 = .ok (.getfield 126, 3) := dk_180 0 126 (dk_at dksX0_hiding_0 9 rfl rfl)
theorem dX0_hiding_12 : decode cX0_hiding 12 = .ok (.if_icmp .ge 29, 3) := dk_162 0 29 (dk_at dksX0_hiding_0 12 rfl rfl)
theorem dX0_hiding_15 : decode cX0_hiding 15 = .ok (.iload_n 1, 1) := dk_27 (dk_at dksX0_hiding_0 15 rfl rfl)
theorem dX0_hiding_16 : decode cX0_hiding 16 = .ok (.aload_n 0, 1) := dk_42 (dk_at dksX0_hiding_0 16 rfl rfl)
theorem dX0_hiding_17 : decode cX0_hiding 17 = .ok (.getfield 49, 3) := dk_180 0 49 (dk_at dksX0_hiding_0 17 rfl rfl)
theorem dX0_hiding_20 : decode cX0_hiding 20 = .ok (.getfield 148, 3) := dk_180 0 148 (dk_at dksX0_hiding_0 20 rfl rfl)
theorem dX0_hiding_23 : decode cX0_hiding 23 = .ok (.iload_n 2, 1) := dk_28 (dk_at dksX0_hiding_0 23 rfl rfl)
theorem dX0_hiding_24 : decode cX0_hiding 24 = .ok (.baload, 1) := dk_51 (dk_at dksX0_hiding_1 0 rfl rfl)
theorem dX0_hiding_25 : decode cX0_hiding 25 = .ok (.ifCond .le 7, 3) := dk_158 0 7 (dk_at dksX0_hiding_1 1 rfl rfl)
theorem dX0_hiding_28 : decode cX0_hiding 28 = .ok (.iconst 1, 1) := dk_4 (dk_at dksX0_hiding_1 4 rfl rfl)
theorem dX0_hiding_29 : decode cX0_hiding 29 = .ok (.goto 4, 3) := dk_167 0 4 (dk_at dksX0_hiding_1 5 rfl rfl)
theorem dX0_hiding_32 : decode cX0_hiding 32 = .ok (.iconst 0, 1) := dk_3 (dk_at dksX0_hiding_1 8 rfl rfl)
theorem dX0_hiding_33 : decode cX0_hiding 33 = .ok (.iadd, 1) := dk_96 (dk_at dksX0_hiding_1 9 rfl rfl)
theorem dX0_hiding_34 : decode cX0_hiding 34 = .ok (.istore_n 1, 1) := dk_60 (dk_at dksX0_hiding_1 10 rfl rfl)
theorem dX0_hiding_35 : decode cX0_hiding 35 = .ok (.iinc 2 1, 3) := dk_132 2 1 (dk_at dksX0_hiding_1 11 rfl rfl)
theorem dX0_hiding_38 : decode cX0_hiding 38 = .ok (.goto (-34), 3) := dk_167 255 222 (dk_at dksX0_hiding_1 14 rfl rfl)
theorem dX0_hiding_41 : decode cX0_hiding 41 = .ok (.iload_n 1, 1) := dk_27 (dk_at dksX0_hiding_1 17 rfl rfl)
theorem dX0_hiding_42 : decode cX0_hiding 42 = .ok (.ireturn, 1) := dk_172 (dk_at dksX0_hiding_1 18 rfl rfl)
abbrev cX0_widest : ByteArray := prog_1_method_27_code
def yX0_widest : MethodName := ⟨RX0, "widest", "(II)I"⟩
def dkwX0_widest_2 : List UInt8 := [29, 172]
abbrev dktX0_widest_2 : List UInt8 := dkwX0_widest_2 ++ []
def dkwX0_widest_1 : List UInt8 := [182, 0, 227, 182, 0, 230, 154, 0, 9, 132, 3, 255, 167, 255, 235, 29, 154, 0, 8, 16, 247, 167, 0, 4]
abbrev dktX0_widest_1 : List UInt8 := dkwX0_widest_1 ++ dktX0_widest_2
def dkwX0_widest_0 : List UInt8 := [42, 27, 28, 182, 0, 224, 154, 0, 5, 2, 172, 16, 10, 62, 29, 158, 0, 23, 42, 27, 28, 42, 29]
abbrev dktX0_widest_0 : List UInt8 := dkwX0_widest_0 ++ dktX0_widest_1
theorem dksX0_widest_0 : cX0_widest.data.toList.drop 0 = dktX0_widest_0 := by decide +kernel
theorem dksX0_widest_1 : cX0_widest.data.toList.drop 23 = dktX0_widest_1 := dk_seg dksX0_widest_0 23 rfl rfl
theorem dksX0_widest_2 : cX0_widest.data.toList.drop 47 = dktX0_widest_2 := dk_seg dksX0_widest_1 24 rfl rfl
theorem dX0_widest_0 : decode cX0_widest 0 = .ok (.aload_n 0, 1) := dk_42 (dk_at dksX0_widest_0 0 rfl rfl)
theorem dX0_widest_1 : decode cX0_widest 1 = .ok (.iload_n 1, 1) := dk_27 (dk_at dksX0_widest_0 1 rfl rfl)
theorem dX0_widest_2 : decode cX0_widest 2 = .ok (.iload_n 2, 1) := dk_28 (dk_at dksX0_widest_0 2 rfl rfl)
theorem dX0_widest_3 : decode cX0_widest 3 = .ok (.invokevirtual 224, 3) := dk_182 0 224 (dk_at dksX0_widest_0 3 rfl rfl)
theorem dX0_widest_6 : decode cX0_widest 6 = .ok (.ifCond .ne 5, 3) := dk_154 0 5 (dk_at dksX0_widest_0 6 rfl rfl)
theorem dX0_widest_9 : decode cX0_widest 9 = .ok (.iconst (-1), 1) := dk_2 (dk_at dksX0_widest_0 9 rfl rfl)
theorem dX0_widest_10 : decode cX0_widest 10 = .ok (.ireturn, 1) := dk_172 (dk_at dksX0_widest_0 10 rfl rfl)
theorem dX0_widest_11 : decode cX0_widest 11 = .ok (.bipush 10, 2) := dk_16 10 (dk_at dksX0_widest_0 11 rfl rfl)
theorem dX0_widest_13 : decode cX0_widest 13 = .ok (.istore_n 3, 1) := dk_62 (dk_at dksX0_widest_0 13 rfl rfl)
theorem dX0_widest_14 : decode cX0_widest 14 = .ok (.iload_n 3, 1) := dk_29 (dk_at dksX0_widest_0 14 rfl rfl)
theorem dX0_widest_15 : decode cX0_widest 15 = .ok (.ifCond .le 23, 3) := dk_158 0 23 (dk_at dksX0_widest_0 15 rfl rfl)
theorem dX0_widest_18 : decode cX0_widest 18 = .ok (.aload_n 0, 1) := dk_42 (dk_at dksX0_widest_0 18 rfl rfl)
theorem dX0_widest_19 : decode cX0_widest 19 = .ok (.iload_n 1, 1) := dk_27 (dk_at dksX0_widest_0 19 rfl rfl)
theorem dX0_widest_20 : decode cX0_widest 20 = .ok (.iload_n 2, 1) := dk_28 (dk_at dksX0_widest_0 20 rfl rfl)
theorem dX0_widest_21 : decode cX0_widest 21 = .ok (.aload_n 0, 1) := dk_42 (dk_at dksX0_widest_0 21 rfl rfl)
theorem dX0_widest_22 : decode cX0_widest 22 = .ok (.iload_n 3, 1) := dk_29 (dk_at dksX0_widest_0 22 rfl rfl)
theorem dX0_widest_23 : decode cX0_widest 23 = .ok (.invokevirtual 227, 3) := dk_182 0 227 (dk_at dksX0_widest_1 0 rfl rfl)
theorem dX0_widest_26 : decode cX0_widest 26 = .ok (.invokevirtual 230, 3) := dk_182 0 230 (dk_at dksX0_widest_1 3 rfl rfl)
theorem dX0_widest_29 : decode cX0_widest 29 = .ok (.ifCond .ne 9, 3) := dk_154 0 9 (dk_at dksX0_widest_1 6 rfl rfl)
theorem dX0_widest_32 : decode cX0_widest 32 = .ok (.iinc 3 (-1), 3) := dk_132 3 255 (dk_at dksX0_widest_1 9 rfl rfl)
theorem dX0_widest_35 : decode cX0_widest 35 = .ok (.goto (-21), 3) := dk_167 255 235 (dk_at dksX0_widest_1 12 rfl rfl)
theorem dX0_widest_38 : decode cX0_widest 38 = .ok (.iload_n 3, 1) := dk_29 (dk_at dksX0_widest_1 15 rfl rfl)
theorem dX0_widest_39 : decode cX0_widest 39 = .ok (.ifCond .ne 8, 3) := dk_154 0 8 (dk_at dksX0_widest_1 16 rfl rfl)
theorem dX0_widest_42 : decode cX0_widest 42 = .ok (.bipush (-9), 2) := dk_16 247 (dk_at dksX0_widest_1 19 rfl rfl)
theorem dX0_widest_44 : decode cX0_widest 44 = .ok (.goto 4, 3) := dk_167 0 4 (dk_at dksX0_widest_1 21 rfl rfl)
theorem dX0_widest_47 : decode cX0_widest 47 = .ok (.iload_n 3, 1) := dk_29 (dk_at dksX0_widest_2 0 rfl rfl)
theorem dX0_widest_48 : decode cX0_widest 48 = .ok (.ireturn, 1) := dk_172 (dk_at dksX0_widest_2 1 rfl rfl)
abbrev cX0_areYards : ByteArray := prog_1_method_11_code
def yX0_areYards : MethodName := ⟨RX0, "areYards", "(II)Z"⟩
def dkwX0_areYards_1 : List UInt8 := [180, 0, 132, 4, 100, 184, 0, 1, 153, 0, 12, 27, 28, 159, 0, 7, 4, 167, 0, 4, 3, 172]
abbrev dktX0_areYards_1 : List UInt8 := dkwX0_areYards_1 ++ []
def dkwX0_areYards_0 : List UInt8 := [27, 3, 42, 180, 0, 30, 180, 0, 132, 4, 100, 184, 0, 1, 153, 0, 29, 28, 3, 42, 180, 0, 30]
abbrev dktX0_areYards_0 : List UInt8 := dkwX0_areYards_0 ++ dktX0_areYards_1
theorem dksX0_areYards_0 : cX0_areYards.data.toList.drop 0 = dktX0_areYards_0 := by decide +kernel
theorem dksX0_areYards_1 : cX0_areYards.data.toList.drop 23 = dktX0_areYards_1 := dk_seg dksX0_areYards_0 23 rfl rfl
theorem dX0_areYards_0 : decode cX0_areYards 0 = .ok (.iload_n 1, 1) := dk_27 (dk_at dksX0_areYards_0 0 rfl rfl)
theorem dX0_areYards_1 : decode cX0_areYards 1 = .ok (.iconst 0, 1) := dk_3 (dk_at dksX0_areYards_0 1 rfl rfl)
theorem dX0_areYards_2 : decode cX0_areYards 2 = .ok (.aload_n 0, 1) := dk_42 (dk_at dksX0_areYards_0 2 rfl rfl)
theorem dX0_areYards_3 : decode cX0_areYards 3 = .ok (.getfield 30, 3) := dk_180 0 30 (dk_at dksX0_areYards_0 3 rfl rfl)
theorem dX0_areYards_6 : decode cX0_areYards 6 = .ok (.getfield 132, 3) := dk_180 0 132 (dk_at dksX0_areYards_0 6 rfl rfl)
theorem dX0_areYards_9 : decode cX0_areYards 9 = .ok (.iconst 1, 1) := dk_4 (dk_at dksX0_areYards_0 9 rfl rfl)
theorem dX0_areYards_10 : decode cX0_areYards 10 = .ok (.isub, 1) := dk_100 (dk_at dksX0_areYards_0 10 rfl rfl)
theorem dX0_areYards_11 : decode cX0_areYards 11 = .ok (.invokestatic 1, 3) := dk_184 0 1 (dk_at dksX0_areYards_0 11 rfl rfl)
theorem dX0_areYards_14 : decode cX0_areYards 14 = .ok (.ifCond .eq 29, 3) := dk_153 0 29 (dk_at dksX0_areYards_0 14 rfl rfl)
theorem dX0_areYards_17 : decode cX0_areYards 17 = .ok (.iload_n 2, 1) := dk_28 (dk_at dksX0_areYards_0 17 rfl rfl)
theorem dX0_areYards_18 : decode cX0_areYards 18 = .ok (.iconst 0, 1) := dk_3 (dk_at dksX0_areYards_0 18 rfl rfl)
theorem dX0_areYards_19 : decode cX0_areYards 19 = .ok (.aload_n 0, 1) := dk_42 (dk_at dksX0_areYards_0 19 rfl rfl)
theorem dX0_areYards_20 : decode cX0_areYards 20 = .ok (.getfield 30, 3) := dk_180 0 30 (dk_at dksX0_areYards_0 20 rfl rfl)
theorem dX0_areYards_23 : decode cX0_areYards 23 = .ok (.getfield 132, 3) := dk_180 0 132 (dk_at dksX0_areYards_1 0 rfl rfl)
theorem dX0_areYards_26 : decode cX0_areYards 26 = .ok (.iconst 1, 1) := dk_4 (dk_at dksX0_areYards_1 3 rfl rfl)
theorem dX0_areYards_27 : decode cX0_areYards 27 = .ok (.isub, 1) := dk_100 (dk_at dksX0_areYards_1 4 rfl rfl)
theorem dX0_areYards_28 : decode cX0_areYards 28 = .ok (.invokestatic 1, 3) := dk_184 0 1 (dk_at dksX0_areYards_1 5 rfl rfl)
theorem dX0_areYards_31 : decode cX0_areYards 31 = .ok (.ifCond .eq 12, 3) := dk_153 0 12 (dk_at dksX0_areYards_1 8 rfl rfl)
theorem dX0_areYards_34 : decode cX0_areYards 34 = .ok (.iload_n 1, 1) := dk_27 (dk_at dksX0_areYards_1 11 rfl rfl)
theorem dX0_areYards_35 : decode cX0_areYards 35 = .ok (.iload_n 2, 1) := dk_28 (dk_at dksX0_areYards_1 12 rfl rfl)
theorem dX0_areYards_36 : decode cX0_areYards 36 = .ok (.if_icmp .eq 7, 3) := dk_159 0 7 (dk_at dksX0_areYards_1 13 rfl rfl)
theorem dX0_areYards_39 : decode cX0_areYards 39 = .ok (.iconst 1, 1) := dk_4 (dk_at dksX0_areYards_1 16 rfl rfl)
theorem dX0_areYards_40 : decode cX0_areYards 40 = .ok (.goto 4, 3) := dk_167 0 4 (dk_at dksX0_areYards_1 17 rfl rfl)
theorem dX0_areYards_43 : decode cX0_areYards 43 = .ok (.iconst 0, 1) := dk_3 (dk_at dksX0_areYards_1 20 rfl rfl)
theorem dX0_areYards_44 : decode cX0_areYards 44 = .ok (.ireturn, 1) := dk_172 (dk_at dksX0_areYards_1 21 rfl rfl)
abbrev cX0_wide : ByteArray := prog_1_method_25_code
def yX0_wide : MethodName := ⟨RX0, "wide", "(I)I"⟩
def dkwX0_wide_1 : List UInt8 := [27, 161, 0, 9, 4, 29, 120, 167, 0, 4, 3, 128, 61, 132, 3, 1, 167, 255, 220, 28, 172]
abbrev dktX0_wide_1 : List UInt8 := dkwX0_wide_1 ++ []
def dkwX0_wide_0 : List UInt8 := [3, 61, 3, 62, 29, 42, 180, 0, 30, 180, 0, 126, 162, 0, 31, 28, 42, 180, 0, 49, 29, 182, 0, 154]
abbrev dktX0_wide_0 : List UInt8 := dkwX0_wide_0 ++ dktX0_wide_1
theorem dksX0_wide_0 : cX0_wide.data.toList.drop 0 = dktX0_wide_0 := by decide +kernel
theorem dksX0_wide_1 : cX0_wide.data.toList.drop 24 = dktX0_wide_1 := dk_seg dksX0_wide_0 24 rfl rfl
theorem dX0_wide_0 : decode cX0_wide 0 = .ok (.iconst 0, 1) := dk_3 (dk_at dksX0_wide_0 0 rfl rfl)
theorem dX0_wide_1 : decode cX0_wide 1 = .ok (.istore_n 2, 1) := dk_61 (dk_at dksX0_wide_0 1 rfl rfl)
theorem dX0_wide_2 : decode cX0_wide 2 = .ok (.iconst 0, 1) := dk_3 (dk_at dksX0_wide_0 2 rfl rfl)
theorem dX0_wide_3 : decode cX0_wide 3 = .ok (.istore_n 3, 1) := dk_62 (dk_at dksX0_wide_0 3 rfl rfl)
theorem dX0_wide_4 : decode cX0_wide 4 = .ok (.iload_n 3, 1) := dk_29 (dk_at dksX0_wide_0 4 rfl rfl)
theorem dX0_wide_5 : decode cX0_wide 5 = .ok (.aload_n 0, 1) := dk_42 (dk_at dksX0_wide_0 5 rfl rfl)
theorem dX0_wide_6 : decode cX0_wide 6 = .ok (.getfield 30, 3) := dk_180 0 30 (dk_at dksX0_wide_0 6 rfl rfl)
theorem dX0_wide_9 : decode cX0_wide 9 = .ok (.getfield 126, 3) := dk_180 0 126 (dk_at dksX0_wide_0 9 rfl rfl)
theorem dX0_wide_12 : decode cX0_wide 12 = .ok (.if_icmp .ge 31, 3) := dk_162 0 31 (dk_at dksX0_wide_0 12 rfl rfl)
theorem dX0_wide_15 : decode cX0_wide 15 = .ok (.iload_n 2, 1) := dk_28 (dk_at dksX0_wide_0 15 rfl rfl)
theorem dX0_wide_16 : decode cX0_wide 16 = .ok (.aload_n 0, 1) := dk_42 (dk_at dksX0_wide_0 16 rfl rfl)
theorem dX0_wide_17 : decode cX0_wide 17 = .ok (.getfield 49, 3) := dk_180 0 49 (dk_at dksX0_wide_0 17 rfl rfl)
theorem dX0_wide_20 : decode cX0_wide 20 = .ok (.iload_n 3, 1) := dk_29 (dk_at dksX0_wide_0 20 rfl rfl)
theorem dX0_wide_21 : decode cX0_wide 21 = .ok (.invokevirtual 154, 3) := dk_182 0 154 (dk_at dksX0_wide_0 21 rfl rfl)
theorem dX0_wide_24 : decode cX0_wide 24 = .ok (.iload_n 1, 1) := dk_27 (dk_at dksX0_wide_1 0 rfl rfl)
theorem dX0_wide_25 : decode cX0_wide 25 = .ok (.if_icmp .lt 9, 3) := dk_161 0 9 (dk_at dksX0_wide_1 1 rfl rfl)
theorem dX0_wide_28 : decode cX0_wide 28 = .ok (.iconst 1, 1) := dk_4 (dk_at dksX0_wide_1 4 rfl rfl)
theorem dX0_wide_29 : decode cX0_wide 29 = .ok (.iload_n 3, 1) := dk_29 (dk_at dksX0_wide_1 5 rfl rfl)
theorem dX0_wide_30 : decode cX0_wide 30 = .ok (.ishl, 1) := dk_120 (dk_at dksX0_wide_1 6 rfl rfl)
theorem dX0_wide_31 : decode cX0_wide 31 = .ok (.goto 4, 3) := dk_167 0 4 (dk_at dksX0_wide_1 7 rfl rfl)
theorem dX0_wide_34 : decode cX0_wide 34 = .ok (.iconst 0, 1) := dk_3 (dk_at dksX0_wide_1 10 rfl rfl)
theorem dX0_wide_35 : decode cX0_wide 35 = .ok (.ior, 1) := dk_128 (dk_at dksX0_wide_1 11 rfl rfl)
theorem dX0_wide_36 : decode cX0_wide 36 = .ok (.istore_n 2, 1) := dk_61 (dk_at dksX0_wide_1 12 rfl rfl)
theorem dX0_wide_37 : decode cX0_wide 37 = .ok (.iinc 3 1, 3) := dk_132 3 1 (dk_at dksX0_wide_1 13 rfl rfl)
theorem dX0_wide_40 : decode cX0_wide 40 = .ok (.goto (-36), 3) := dk_167 255 220 (dk_at dksX0_wide_1 16 rfl rfl)
theorem dX0_wide_43 : decode cX0_wide 43 = .ok (.iload_n 2, 1) := dk_28 (dk_at dksX0_wide_1 19 rfl rfl)
theorem dX0_wide_44 : decode cX0_wide 44 = .ok (.ireturn, 1) := dk_172 (dk_at dksX0_wide_1 20 rfl rfl)
abbrev cX0_comes : ByteArray := prog_1_method_26_code
def yX0_comes : MethodName := ⟨RX0, "comes", "(III)Z"⟩
def dkwX0_comes_0 : List UInt8 := [42, 180, 0, 30, 27, 28, 29, 182, 0, 220, 16, 247, 159, 0, 7, 4, 167, 0, 4, 3, 172]
abbrev dktX0_comes_0 : List UInt8 := dkwX0_comes_0 ++ []
theorem dksX0_comes_0 : cX0_comes.data.toList.drop 0 = dktX0_comes_0 := by decide +kernel
theorem dX0_comes_0 : decode cX0_comes 0 = .ok (.aload_n 0, 1) := dk_42 (dk_at dksX0_comes_0 0 rfl rfl)
theorem dX0_comes_1 : decode cX0_comes 1 = .ok (.getfield 30, 3) := dk_180 0 30 (dk_at dksX0_comes_0 1 rfl rfl)
theorem dX0_comes_4 : decode cX0_comes 4 = .ok (.iload_n 1, 1) := dk_27 (dk_at dksX0_comes_0 4 rfl rfl)
theorem dX0_comes_5 : decode cX0_comes 5 = .ok (.iload_n 2, 1) := dk_28 (dk_at dksX0_comes_0 5 rfl rfl)
theorem dX0_comes_6 : decode cX0_comes 6 = .ok (.iload_n 3, 1) := dk_29 (dk_at dksX0_comes_0 6 rfl rfl)
theorem dX0_comes_7 : decode cX0_comes 7 = .ok (.invokevirtual 220, 3) := dk_182 0 220 (dk_at dksX0_comes_0 7 rfl rfl)
theorem dX0_comes_10 : decode cX0_comes 10 = .ok (.bipush (-9), 2) := dk_16 247 (dk_at dksX0_comes_0 10 rfl rfl)
theorem dX0_comes_12 : decode cX0_comes 12 = .ok (.if_icmp .eq 7, 3) := dk_159 0 7 (dk_at dksX0_comes_0 12 rfl rfl)
theorem dX0_comes_15 : decode cX0_comes 15 = .ok (.iconst 1, 1) := dk_4 (dk_at dksX0_comes_0 15 rfl rfl)
theorem dX0_comes_16 : decode cX0_comes 16 = .ok (.goto 4, 3) := dk_167 0 4 (dk_at dksX0_comes_0 16 rfl rfl)
theorem dX0_comes_19 : decode cX0_comes 19 = .ok (.iconst 0, 1) := dk_3 (dk_at dksX0_comes_0 19 rfl rfl)
theorem dX0_comes_20 : decode cX0_comes 20 = .ok (.ireturn, 1) := dk_172 (dk_at dksX0_comes_0 20 rfl rfl)
abbrev cX0_way : ByteArray := prog_1_method_28_code
def yX0_way : MethodName := ⟨RX0, "way", "(III)I"⟩
def dkwX0_way_1 : List UInt8 := [182, 0, 227, 182, 0, 220, 167, 0, 4, 2, 172]
abbrev dktX0_way_1 : List UInt8 := dkwX0_way_1 ++ []
def dkwX0_way_0 : List UInt8 := [42, 27, 28, 182, 0, 224, 153, 0, 27, 29, 184, 0, 233, 153, 0, 20, 42, 180, 0, 30, 27, 28, 42, 29]
abbrev dktX0_way_0 : List UInt8 := dkwX0_way_0 ++ dktX0_way_1
theorem dksX0_way_0 : cX0_way.data.toList.drop 0 = dktX0_way_0 := by decide +kernel
theorem dksX0_way_1 : cX0_way.data.toList.drop 24 = dktX0_way_1 := dk_seg dksX0_way_0 24 rfl rfl
theorem dX0_way_0 : decode cX0_way 0 = .ok (.aload_n 0, 1) := dk_42 (dk_at dksX0_way_0 0 rfl rfl)
theorem dX0_way_1 : decode cX0_way 1 = .ok (.iload_n 1, 1) := dk_27 (dk_at dksX0_way_0 1 rfl rfl)
theorem dX0_way_2 : decode cX0_way 2 = .ok (.iload_n 2, 1) := dk_28 (dk_at dksX0_way_0 2 rfl rfl)
theorem dX0_way_3 : decode cX0_way 3 = .ok (.invokevirtual 224, 3) := dk_182 0 224 (dk_at dksX0_way_0 3 rfl rfl)
theorem dX0_way_6 : decode cX0_way 6 = .ok (.ifCond .eq 27, 3) := dk_153 0 27 (dk_at dksX0_way_0 6 rfl rfl)
theorem dX0_way_9 : decode cX0_way 9 = .ok (.iload_n 3, 1) := dk_29 (dk_at dksX0_way_0 9 rfl rfl)
theorem dX0_way_10 : decode cX0_way 10 = .ok (.invokestatic 233, 3) := dk_184 0 233 (dk_at dksX0_way_0 10 rfl rfl)
theorem dX0_way_13 : decode cX0_way 13 = .ok (.ifCond .eq 20, 3) := dk_153 0 20 (dk_at dksX0_way_0 13 rfl rfl)
theorem dX0_way_16 : decode cX0_way 16 = .ok (.aload_n 0, 1) := dk_42 (dk_at dksX0_way_0 16 rfl rfl)
theorem dX0_way_17 : decode cX0_way 17 = .ok (.getfield 30, 3) := dk_180 0 30 (dk_at dksX0_way_0 17 rfl rfl)
theorem dX0_way_20 : decode cX0_way 20 = .ok (.iload_n 1, 1) := dk_27 (dk_at dksX0_way_0 20 rfl rfl)
theorem dX0_way_21 : decode cX0_way 21 = .ok (.iload_n 2, 1) := dk_28 (dk_at dksX0_way_0 21 rfl rfl)
theorem dX0_way_22 : decode cX0_way 22 = .ok (.aload_n 0, 1) := dk_42 (dk_at dksX0_way_0 22 rfl rfl)
theorem dX0_way_23 : decode cX0_way 23 = .ok (.iload_n 3, 1) := dk_29 (dk_at dksX0_way_0 23 rfl rfl)
theorem dX0_way_24 : decode cX0_way 24 = .ok (.invokevirtual 227, 3) := dk_182 0 227 (dk_at dksX0_way_1 0 rfl rfl)
theorem dX0_way_27 : decode cX0_way 27 = .ok (.invokevirtual 220, 3) := dk_182 0 220 (dk_at dksX0_way_1 3 rfl rfl)
theorem dX0_way_30 : decode cX0_way 30 = .ok (.goto 4, 3) := dk_167 0 4 (dk_at dksX0_way_1 6 rfl rfl)
theorem dX0_way_33 : decode cX0_way 33 = .ok (.iconst (-1), 1) := dk_2 (dk_at dksX0_way_1 9 rfl rfl)
theorem dX0_way_34 : decode cX0_way 34 = .ok (.ireturn, 1) := dk_172 (dk_at dksX0_way_1 10 rfl rfl)
abbrev cX0_isWidth : ByteArray := prog_1_method_4_code
def yX0_isWidth : MethodName := ⟨RX0, "isWidth", "(I)Z"⟩
def dkwX0_isWidth_0 : List UInt8 := [26, 4, 16, 10, 184, 0, 1, 172]
abbrev dktX0_isWidth_0 : List UInt8 := dkwX0_isWidth_0 ++ []
theorem dksX0_isWidth_0 : cX0_isWidth.data.toList.drop 0 = dktX0_isWidth_0 := by decide +kernel
theorem dX0_isWidth_0 : decode cX0_isWidth 0 = .ok (.iload_n 0, 1) := dk_26 (dk_at dksX0_isWidth_0 0 rfl rfl)
theorem dX0_isWidth_1 : decode cX0_isWidth 1 = .ok (.iconst 1, 1) := dk_4 (dk_at dksX0_isWidth_0 1 rfl rfl)
theorem dX0_isWidth_2 : decode cX0_isWidth 2 = .ok (.bipush 10, 2) := dk_16 10 (dk_at dksX0_isWidth_0 2 rfl rfl)
theorem dX0_isWidth_4 : decode cX0_isWidth 4 = .ok (.invokestatic 1, 3) := dk_184 0 1 (dk_at dksX0_isWidth_0 4 rfl rfl)
theorem dX0_isWidth_7 : decode cX0_isWidth 7 = .ok (.ireturn, 1) := dk_172 (dk_at dksX0_isWidth_0 7 rfl rfl)
abbrev cX0_flow : ByteArray := prog_1_method_35_code
def yX0_flow : MethodName := ⟨RX0, "flow", "(III)I"⟩
def dkwX0_flow_1 : List UInt8 := [54, 4, 29, 154, 0, 8, 21, 4, 167, 0, 11, 42, 27, 28, 21, 4, 182, 0, 255, 172]
abbrev dktX0_flow_1 : List UInt8 := dkwX0_flow_1 ++ []
def dkwX0_flow_0 : List UInt8 := [42, 27, 28, 182, 0, 224, 153, 0, 10, 29, 184, 0, 189, 154, 0, 5, 2, 172, 42, 27, 28, 182, 0, 252]
abbrev dktX0_flow_0 : List UInt8 := dkwX0_flow_0 ++ dktX0_flow_1
theorem dksX0_flow_0 : cX0_flow.data.toList.drop 0 = dktX0_flow_0 := by decide +kernel
theorem dksX0_flow_1 : cX0_flow.data.toList.drop 24 = dktX0_flow_1 := dk_seg dksX0_flow_0 24 rfl rfl
theorem dX0_flow_0 : decode cX0_flow 0 = .ok (.aload_n 0, 1) := dk_42 (dk_at dksX0_flow_0 0 rfl rfl)
theorem dX0_flow_1 : decode cX0_flow 1 = .ok (.iload_n 1, 1) := dk_27 (dk_at dksX0_flow_0 1 rfl rfl)
theorem dX0_flow_2 : decode cX0_flow 2 = .ok (.iload_n 2, 1) := dk_28 (dk_at dksX0_flow_0 2 rfl rfl)
theorem dX0_flow_3 : decode cX0_flow 3 = .ok (.invokevirtual 224, 3) := dk_182 0 224 (dk_at dksX0_flow_0 3 rfl rfl)
theorem dX0_flow_6 : decode cX0_flow 6 = .ok (.ifCond .eq 10, 3) := dk_153 0 10 (dk_at dksX0_flow_0 6 rfl rfl)
theorem dX0_flow_9 : decode cX0_flow 9 = .ok (.iload_n 3, 1) := dk_29 (dk_at dksX0_flow_0 9 rfl rfl)
theorem dX0_flow_10 : decode cX0_flow 10 = .ok (.invokestatic 189, 3) := dk_184 0 189 (dk_at dksX0_flow_0 10 rfl rfl)
theorem dX0_flow_13 : decode cX0_flow 13 = .ok (.ifCond .ne 5, 3) := dk_154 0 5 (dk_at dksX0_flow_0 13 rfl rfl)
theorem dX0_flow_16 : decode cX0_flow 16 = .ok (.iconst (-1), 1) := dk_2 (dk_at dksX0_flow_0 16 rfl rfl)
theorem dX0_flow_17 : decode cX0_flow 17 = .ok (.ireturn, 1) := dk_172 (dk_at dksX0_flow_0 17 rfl rfl)
theorem dX0_flow_18 : decode cX0_flow 18 = .ok (.aload_n 0, 1) := dk_42 (dk_at dksX0_flow_0 18 rfl rfl)
theorem dX0_flow_19 : decode cX0_flow 19 = .ok (.iload_n 1, 1) := dk_27 (dk_at dksX0_flow_0 19 rfl rfl)
theorem dX0_flow_20 : decode cX0_flow 20 = .ok (.iload_n 2, 1) := dk_28 (dk_at dksX0_flow_0 20 rfl rfl)
theorem dX0_flow_21 : decode cX0_flow 21 = .ok (.invokevirtual 252, 3) := dk_182 0 252 (dk_at dksX0_flow_0 21 rfl rfl)
theorem dX0_flow_24 : decode cX0_flow 24 = .ok (.istore 4, 2) := dk_54 4 (dk_at dksX0_flow_1 0 rfl rfl)
theorem dX0_flow_26 : decode cX0_flow 26 = .ok (.iload_n 3, 1) := dk_29 (dk_at dksX0_flow_1 2 rfl rfl)
theorem dX0_flow_27 : decode cX0_flow 27 = .ok (.ifCond .ne 8, 3) := dk_154 0 8 (dk_at dksX0_flow_1 3 rfl rfl)
theorem dX0_flow_30 : decode cX0_flow 30 = .ok (.iload 4, 2) := dk_21 4 (dk_at dksX0_flow_1 6 rfl rfl)
theorem dX0_flow_32 : decode cX0_flow 32 = .ok (.goto 11, 3) := dk_167 0 11 (dk_at dksX0_flow_1 8 rfl rfl)
theorem dX0_flow_35 : decode cX0_flow 35 = .ok (.aload_n 0, 1) := dk_42 (dk_at dksX0_flow_1 11 rfl rfl)
theorem dX0_flow_36 : decode cX0_flow 36 = .ok (.iload_n 1, 1) := dk_27 (dk_at dksX0_flow_1 12 rfl rfl)
theorem dX0_flow_37 : decode cX0_flow 37 = .ok (.iload_n 2, 1) := dk_28 (dk_at dksX0_flow_1 13 rfl rfl)
theorem dX0_flow_38 : decode cX0_flow 38 = .ok (.iload 4, 2) := dk_21 4 (dk_at dksX0_flow_1 14 rfl rfl)
theorem dX0_flow_40 : decode cX0_flow 40 = .ok (.invokevirtual 255, 3) := dk_182 0 255 (dk_at dksX0_flow_1 16 rfl rfl)
theorem dX0_flow_43 : decode cX0_flow 43 = .ok (.ireturn, 1) := dk_172 (dk_at dksX0_flow_1 19 rfl rfl)
abbrev cX0_flowOf : ByteArray := prog_1_method_33_code
def yX0_flowOf : MethodName := ⟨RX0, "flowOf", "(II)I"⟩
def dkwX0_flowOf_1 : List UInt8 := [27, 28, 182, 0, 246, 153, 0, 15, 29, 42, 27, 28, 182, 0, 249, 96, 62, 167, 255, 238, 29, 172]
abbrev dktX0_flowOf_1 : List UInt8 := dkwX0_flowOf_1 ++ []
def dkwX0_flowOf_0 : List UInt8 := [3, 62, 29, 16, 9, 162, 0, 16, 42, 180, 0, 84, 29, 3, 79, 132, 3, 1, 167, 255, 240, 3, 62, 42]
abbrev dktX0_flowOf_0 : List UInt8 := dkwX0_flowOf_0 ++ dktX0_flowOf_1
theorem dksX0_flowOf_0 : cX0_flowOf.data.toList.drop 0 = dktX0_flowOf_0 := by decide +kernel
theorem dksX0_flowOf_1 : cX0_flowOf.data.toList.drop 24 = dktX0_flowOf_1 := dk_seg dksX0_flowOf_0 24 rfl rfl
theorem dX0_flowOf_0 : decode cX0_flowOf 0 = .ok (.iconst 0, 1) := dk_3 (dk_at dksX0_flowOf_0 0 rfl rfl)
theorem dX0_flowOf_1 : decode cX0_flowOf 1 = .ok (.istore_n 3, 1) := dk_62 (dk_at dksX0_flowOf_0 1 rfl rfl)
theorem dX0_flowOf_2 : decode cX0_flowOf 2 = .ok (.iload_n 3, 1) := dk_29 (dk_at dksX0_flowOf_0 2 rfl rfl)
theorem dX0_flowOf_3 : decode cX0_flowOf 3 = .ok (.bipush 9, 2) := dk_16 9 (dk_at dksX0_flowOf_0 3 rfl rfl)
theorem dX0_flowOf_5 : decode cX0_flowOf 5 = .ok (.if_icmp .ge 16, 3) := dk_162 0 16 (dk_at dksX0_flowOf_0 5 rfl rfl)
theorem dX0_flowOf_8 : decode cX0_flowOf 8 = .ok (.aload_n 0, 1) := dk_42 (dk_at dksX0_flowOf_0 8 rfl rfl)
theorem dX0_flowOf_9 : decode cX0_flowOf 9 = .ok (.getfield 84, 3) := dk_180 0 84 (dk_at dksX0_flowOf_0 9 rfl rfl)
theorem dX0_flowOf_12 : decode cX0_flowOf 12 = .ok (.iload_n 3, 1) := dk_29 (dk_at dksX0_flowOf_0 12 rfl rfl)
theorem dX0_flowOf_13 : decode cX0_flowOf 13 = .ok (.iconst 0, 1) := dk_3 (dk_at dksX0_flowOf_0 13 rfl rfl)
theorem dX0_flowOf_14 : decode cX0_flowOf 14 = .ok (.iastore, 1) := dk_79 (dk_at dksX0_flowOf_0 14 rfl rfl)
theorem dX0_flowOf_15 : decode cX0_flowOf 15 = .ok (.iinc 3 1, 3) := dk_132 3 1 (dk_at dksX0_flowOf_0 15 rfl rfl)
theorem dX0_flowOf_18 : decode cX0_flowOf 18 = .ok (.goto (-16), 3) := dk_167 255 240 (dk_at dksX0_flowOf_0 18 rfl rfl)
theorem dX0_flowOf_21 : decode cX0_flowOf 21 = .ok (.iconst 0, 1) := dk_3 (dk_at dksX0_flowOf_0 21 rfl rfl)
theorem dX0_flowOf_22 : decode cX0_flowOf 22 = .ok (.istore_n 3, 1) := dk_62 (dk_at dksX0_flowOf_0 22 rfl rfl)
theorem dX0_flowOf_23 : decode cX0_flowOf 23 = .ok (.aload_n 0, 1) := dk_42 (dk_at dksX0_flowOf_0 23 rfl rfl)
theorem dX0_flowOf_24 : decode cX0_flowOf 24 = .ok (.iload_n 1, 1) := dk_27 (dk_at dksX0_flowOf_1 0 rfl rfl)
theorem dX0_flowOf_25 : decode cX0_flowOf 25 = .ok (.iload_n 2, 1) := dk_28 (dk_at dksX0_flowOf_1 1 rfl rfl)
theorem dX0_flowOf_26 : decode cX0_flowOf 26 = .ok (.invokevirtual 246, 3) := dk_182 0 246 (dk_at dksX0_flowOf_1 2 rfl rfl)
theorem dX0_flowOf_29 : decode cX0_flowOf 29 = .ok (.ifCond .eq 15, 3) := dk_153 0 15 (dk_at dksX0_flowOf_1 5 rfl rfl)
theorem dX0_flowOf_32 : decode cX0_flowOf 32 = .ok (.iload_n 3, 1) := dk_29 (dk_at dksX0_flowOf_1 8 rfl rfl)
theorem dX0_flowOf_33 : decode cX0_flowOf 33 = .ok (.aload_n 0, 1) := dk_42 (dk_at dksX0_flowOf_1 9 rfl rfl)
theorem dX0_flowOf_34 : decode cX0_flowOf 34 = .ok (.iload_n 1, 1) := dk_27 (dk_at dksX0_flowOf_1 10 rfl rfl)
theorem dX0_flowOf_35 : decode cX0_flowOf 35 = .ok (.iload_n 2, 1) := dk_28 (dk_at dksX0_flowOf_1 11 rfl rfl)
theorem dX0_flowOf_36 : decode cX0_flowOf 36 = .ok (.invokevirtual 249, 3) := dk_182 0 249 (dk_at dksX0_flowOf_1 12 rfl rfl)
theorem dX0_flowOf_39 : decode cX0_flowOf 39 = .ok (.iadd, 1) := dk_96 (dk_at dksX0_flowOf_1 15 rfl rfl)
theorem dX0_flowOf_40 : decode cX0_flowOf 40 = .ok (.istore_n 3, 1) := dk_62 (dk_at dksX0_flowOf_1 16 rfl rfl)
theorem dX0_flowOf_41 : decode cX0_flowOf 41 = .ok (.goto (-18), 3) := dk_167 255 238 (dk_at dksX0_flowOf_1 17 rfl rfl)
theorem dX0_flowOf_44 : decode cX0_flowOf 44 = .ok (.iload_n 3, 1) := dk_29 (dk_at dksX0_flowOf_1 20 rfl rfl)
theorem dX0_flowOf_45 : decode cX0_flowOf 45 = .ok (.ireturn, 1) := dk_172 (dk_at dksX0_flowOf_1 21 rfl rfl)
abbrev cX0_finds : ByteArray := prog_1_method_31_code
def yX0_finds : MethodName := ⟨RX0, "finds", "(II)Z"⟩
def dkwX0_finds_6 : List UInt8 := [132, 5, 1, 167, 255, 159, 167, 255, 138, 21, 4, 28, 184, 0, 204, 172]
abbrev dktX0_finds_6 : List UInt8 := dkwX0_finds_6 ++ []
def dkwX0_finds_5 : List UInt8 := [21, 7, 120, 128, 54, 4, 42, 180, 0, 88, 21, 7, 21, 6, 79, 4, 62, 132, 6, 1, 167, 255, 180]
abbrev dktX0_finds_5 : List UInt8 := dkwX0_finds_5 ++ dktX0_finds_6
def dkwX0_finds_4 : List UInt8 := [21, 6, 21, 5, 182, 0, 239, 158, 0, 33, 21, 4, 21, 7, 184, 0, 204, 154, 0, 23, 21, 4, 4]
abbrev dktX0_finds_4 : List UInt8 := dkwX0_finds_4 ++ dktX0_finds_5
def dkwX0_finds_3 : List UInt8 := [162, 0, 70, 21, 4, 21, 5, 184, 0, 204, 153, 0, 60, 42, 21, 6, 21, 5, 182, 0, 236, 54, 7, 42]
abbrev dktX0_finds_3 : List UInt8 := dkwX0_finds_3 ++ dktX0_finds_4
def dkwX0_finds_2 : List UInt8 := [21, 5, 42, 180, 0, 30, 180, 0, 132, 162, 0, 91, 3, 54, 6, 21, 6, 42, 180, 0, 30, 180, 0, 126]
abbrev dktX0_finds_2 : List UInt8 := dkwX0_finds_2 ++ dktX0_finds_3
def dkwX0_finds_1 : List UInt8 := [4, 27, 120, 54, 4, 29, 153, 0, 120, 21, 4, 28, 184, 0, 204, 154, 0, 111, 3, 62, 3, 54, 5]
abbrev dktX0_finds_1 : List UInt8 := dkwX0_finds_1 ++ dktX0_finds_2
def dkwX0_finds_0 : List UInt8 := [3, 62, 29, 16, 8, 162, 0, 17, 42, 180, 0, 88, 29, 16, 247, 79, 132, 3, 1, 167, 255, 239, 4, 62]
abbrev dktX0_finds_0 : List UInt8 := dkwX0_finds_0 ++ dktX0_finds_1
theorem dksX0_finds_0 : cX0_finds.data.toList.drop 0 = dktX0_finds_0 := by decide +kernel
theorem dksX0_finds_1 : cX0_finds.data.toList.drop 24 = dktX0_finds_1 := dk_seg dksX0_finds_0 24 rfl rfl
theorem dksX0_finds_2 : cX0_finds.data.toList.drop 47 = dktX0_finds_2 := dk_seg dksX0_finds_1 23 rfl rfl
theorem dksX0_finds_3 : cX0_finds.data.toList.drop 71 = dktX0_finds_3 := dk_seg dksX0_finds_2 24 rfl rfl
theorem dksX0_finds_4 : cX0_finds.data.toList.drop 95 = dktX0_finds_4 := dk_seg dksX0_finds_3 24 rfl rfl
theorem dksX0_finds_5 : cX0_finds.data.toList.drop 118 = dktX0_finds_5 := dk_seg dksX0_finds_4 23 rfl rfl
theorem dksX0_finds_6 : cX0_finds.data.toList.drop 141 = dktX0_finds_6 := dk_seg dksX0_finds_5 23 rfl rfl
theorem dX0_finds_0 : decode cX0_finds 0 = .ok (.iconst 0, 1) := dk_3 (dk_at dksX0_finds_0 0 rfl rfl)
theorem dX0_finds_1 : decode cX0_finds 1 = .ok (.istore_n 3, 1) := dk_62 (dk_at dksX0_finds_0 1 rfl rfl)
theorem dX0_finds_2 : decode cX0_finds 2 = .ok (.iload_n 3, 1) := dk_29 (dk_at dksX0_finds_0 2 rfl rfl)
theorem dX0_finds_3 : decode cX0_finds 3 = .ok (.bipush 8, 2) := dk_16 8 (dk_at dksX0_finds_0 3 rfl rfl)
theorem dX0_finds_5 : decode cX0_finds 5 = .ok (.if_icmp .ge 17, 3) := dk_162 0 17 (dk_at dksX0_finds_0 5 rfl rfl)
theorem dX0_finds_8 : decode cX0_finds 8 = .ok (.aload_n 0, 1) := dk_42 (dk_at dksX0_finds_0 8 rfl rfl)
theorem dX0_finds_9 : decode cX0_finds 9 = .ok (.getfield 88, 3) := dk_180 0 88 (dk_at dksX0_finds_0 9 rfl rfl)
theorem dX0_finds_12 : decode cX0_finds 12 = .ok (.iload_n 3, 1) := dk_29 (dk_at dksX0_finds_0 12 rfl rfl)
theorem dX0_finds_13 : decode cX0_finds 13 = .ok (.bipush (-9), 2) := dk_16 247 (dk_at dksX0_finds_0 13 rfl rfl)
theorem dX0_finds_15 : decode cX0_finds 15 = .ok (.iastore, 1) := dk_79 (dk_at dksX0_finds_0 15 rfl rfl)
theorem dX0_finds_16 : decode cX0_finds 16 = .ok (.iinc 3 1, 3) := dk_132 3 1 (dk_at dksX0_finds_0 16 rfl rfl)
theorem dX0_finds_19 : decode cX0_finds 19 = .ok (.goto (-17), 3) := dk_167 255 239 (dk_at dksX0_finds_0 19 rfl rfl)
theorem dX0_finds_22 : decode cX0_finds 22 = .ok (.iconst 1, 1) := dk_4 (dk_at dksX0_finds_0 22 rfl rfl)
theorem dX0_finds_23 : decode cX0_finds 23 = .ok (.istore_n 3, 1) := dk_62 (dk_at dksX0_finds_0 23 rfl rfl)
theorem dX0_finds_24 : decode cX0_finds 24 = .ok (.iconst 1, 1) := dk_4 (dk_at dksX0_finds_1 0 rfl rfl)
theorem dX0_finds_25 : decode cX0_finds 25 = .ok (.iload_n 1, 1) := dk_27 (dk_at dksX0_finds_1 1 rfl rfl)
theorem dX0_finds_26 : decode cX0_finds 26 = .ok (.ishl, 1) := dk_120 (dk_at dksX0_finds_1 2 rfl rfl)
theorem dX0_finds_27 : decode cX0_finds 27 = .ok (.istore 4, 2) := dk_54 4 (dk_at dksX0_finds_1 3 rfl rfl)
theorem dX0_finds_29 : decode cX0_finds 29 = .ok (.iload_n 3, 1) := dk_29 (dk_at dksX0_finds_1 5 rfl rfl)
theorem dX0_finds_30 : decode cX0_finds 30 = .ok (.ifCond .eq 120, 3) := dk_153 0 120 (dk_at dksX0_finds_1 6 rfl rfl)
theorem dX0_finds_33 : decode cX0_finds 33 = .ok (.iload 4, 2) := dk_21 4 (dk_at dksX0_finds_1 9 rfl rfl)
theorem dX0_finds_35 : decode cX0_finds 35 = .ok (.iload_n 2, 1) := dk_28 (dk_at dksX0_finds_1 11 rfl rfl)
theorem dX0_finds_36 : decode cX0_finds 36 = .ok (.invokestatic 204, 3) := dk_184 0 204 (dk_at dksX0_finds_1 12 rfl rfl)
theorem dX0_finds_39 : decode cX0_finds 39 = .ok (.ifCond .ne 111, 3) := dk_154 0 111 (dk_at dksX0_finds_1 15 rfl rfl)
theorem dX0_finds_42 : decode cX0_finds 42 = .ok (.iconst 0, 1) := dk_3 (dk_at dksX0_finds_1 18 rfl rfl)
theorem dX0_finds_43 : decode cX0_finds 43 = .ok (.istore_n 3, 1) := dk_62 (dk_at dksX0_finds_1 19 rfl rfl)
theorem dX0_finds_44 : decode cX0_finds 44 = .ok (.iconst 0, 1) := dk_3 (dk_at dksX0_finds_1 20 rfl rfl)
theorem dX0_finds_45 : decode cX0_finds 45 = .ok (.istore 5, 2) := dk_54 5 (dk_at dksX0_finds_1 21 rfl rfl)
theorem dX0_finds_47 : decode cX0_finds 47 = .ok (.iload 5, 2) := dk_21 5 (dk_at dksX0_finds_2 0 rfl rfl)
theorem dX0_finds_49 : decode cX0_finds 49 = .ok (.aload_n 0, 1) := dk_42 (dk_at dksX0_finds_2 2 rfl rfl)
theorem dX0_finds_50 : decode cX0_finds 50 = .ok (.getfield 30, 3) := dk_180 0 30 (dk_at dksX0_finds_2 3 rfl rfl)
theorem dX0_finds_53 : decode cX0_finds 53 = .ok (.getfield 132, 3) := dk_180 0 132 (dk_at dksX0_finds_2 6 rfl rfl)
theorem dX0_finds_56 : decode cX0_finds 56 = .ok (.if_icmp .ge 91, 3) := dk_162 0 91 (dk_at dksX0_finds_2 9 rfl rfl)
theorem dX0_finds_59 : decode cX0_finds 59 = .ok (.iconst 0, 1) := dk_3 (dk_at dksX0_finds_2 12 rfl rfl)
theorem dX0_finds_60 : decode cX0_finds 60 = .ok (.istore 6, 2) := dk_54 6 (dk_at dksX0_finds_2 13 rfl rfl)
theorem dX0_finds_62 : decode cX0_finds 62 = .ok (.iload 6, 2) := dk_21 6 (dk_at dksX0_finds_2 15 rfl rfl)
theorem dX0_finds_64 : decode cX0_finds 64 = .ok (.aload_n 0, 1) := dk_42 (dk_at dksX0_finds_2 17 rfl rfl)
theorem dX0_finds_65 : decode cX0_finds 65 = .ok (.getfield 30, 3) := dk_180 0 30 (dk_at dksX0_finds_2 18 rfl rfl)
theorem dX0_finds_68 : decode cX0_finds 68 = .ok (.getfield 126, 3) := dk_180 0 126 (dk_at dksX0_finds_2 21 rfl rfl)
theorem dX0_finds_71 : decode cX0_finds 71 = .ok (.if_icmp .ge 70, 3) := dk_162 0 70 (dk_at dksX0_finds_3 0 rfl rfl)
theorem dX0_finds_74 : decode cX0_finds 74 = .ok (.iload 4, 2) := dk_21 4 (dk_at dksX0_finds_3 3 rfl rfl)
theorem dX0_finds_76 : decode cX0_finds 76 = .ok (.iload 5, 2) := dk_21 5 (dk_at dksX0_finds_3 5 rfl rfl)
theorem dX0_finds_78 : decode cX0_finds 78 = .ok (.invokestatic 204, 3) := dk_184 0 204 (dk_at dksX0_finds_3 7 rfl rfl)
theorem dX0_finds_81 : decode cX0_finds 81 = .ok (.ifCond .eq 60, 3) := dk_153 0 60 (dk_at dksX0_finds_3 10 rfl rfl)
theorem dX0_finds_84 : decode cX0_finds 84 = .ok (.aload_n 0, 1) := dk_42 (dk_at dksX0_finds_3 13 rfl rfl)
theorem dX0_finds_85 : decode cX0_finds 85 = .ok (.iload 6, 2) := dk_21 6 (dk_at dksX0_finds_3 14 rfl rfl)
theorem dX0_finds_87 : decode cX0_finds 87 = .ok (.iload 5, 2) := dk_21 5 (dk_at dksX0_finds_3 16 rfl rfl)
theorem dX0_finds_89 : decode cX0_finds 89 = .ok (.invokevirtual 236, 3) := dk_182 0 236 (dk_at dksX0_finds_3 18 rfl rfl)
theorem dX0_finds_92 : decode cX0_finds 92 = .ok (.istore 7, 2) := dk_54 7 (dk_at dksX0_finds_3 21 rfl rfl)
theorem dX0_finds_94 : decode cX0_finds 94 = .ok (.aload_n 0, 1) := dk_42 (dk_at dksX0_finds_3 23 rfl rfl)
theorem dX0_finds_95 : decode cX0_finds 95 = .ok (.iload 6, 2) := dk_21 6 (dk_at dksX0_finds_4 0 rfl rfl)
theorem dX0_finds_97 : decode cX0_finds 97 = .ok (.iload 5, 2) := dk_21 5 (dk_at dksX0_finds_4 2 rfl rfl)
theorem dX0_finds_99 : decode cX0_finds 99 = .ok (.invokevirtual 239, 3) := dk_182 0 239 (dk_at dksX0_finds_4 4 rfl rfl)
theorem dX0_finds_102 : decode cX0_finds 102 = .ok (.ifCond .le 33, 3) := dk_158 0 33 (dk_at dksX0_finds_4 7 rfl rfl)
theorem dX0_finds_105 : decode cX0_finds 105 = .ok (.iload 4, 2) := dk_21 4 (dk_at dksX0_finds_4 10 rfl rfl)
theorem dX0_finds_107 : decode cX0_finds 107 = .ok (.iload 7, 2) := dk_21 7 (dk_at dksX0_finds_4 12 rfl rfl)
theorem dX0_finds_109 : decode cX0_finds 109 = .ok (.invokestatic 204, 3) := dk_184 0 204 (dk_at dksX0_finds_4 14 rfl rfl)
theorem dX0_finds_112 : decode cX0_finds 112 = .ok (.ifCond .ne 23, 3) := dk_154 0 23 (dk_at dksX0_finds_4 17 rfl rfl)
theorem dX0_finds_115 : decode cX0_finds 115 = .ok (.iload 4, 2) := dk_21 4 (dk_at dksX0_finds_4 20 rfl rfl)
theorem dX0_finds_117 : decode cX0_finds 117 = .ok (.iconst 1, 1) := dk_4 (dk_at dksX0_finds_4 22 rfl rfl)
theorem dX0_finds_118 : decode cX0_finds 118 = .ok (.iload 7, 2) := dk_21 7 (dk_at dksX0_finds_5 0 rfl rfl)
theorem dX0_finds_120 : decode cX0_finds 120 = .ok (.ishl, 1) := dk_120 (dk_at dksX0_finds_5 2 rfl rfl)
theorem dX0_finds_121 : decode cX0_finds 121 = .ok (.ior, 1) := dk_128 (dk_at dksX0_finds_5 3 rfl rfl)
theorem dX0_finds_122 : decode cX0_finds 122 = .ok (.istore 4, 2) := dk_54 4 (dk_at dksX0_finds_5 4 rfl rfl)
theorem dX0_finds_124 : decode cX0_finds 124 = .ok (.aload_n 0, 1) := dk_42 (dk_at dksX0_finds_5 6 rfl rfl)
theorem dX0_finds_125 : decode cX0_finds 125 = .ok (.getfield 88, 3) := dk_180 0 88 (dk_at dksX0_finds_5 7 rfl rfl)
theorem dX0_finds_128 : decode cX0_finds 128 = .ok (.iload 7, 2) := dk_21 7 (dk_at dksX0_finds_5 10 rfl rfl)
theorem dX0_finds_130 : decode cX0_finds 130 = .ok (.iload 6, 2) := dk_21 6 (dk_at dksX0_finds_5 12 rfl rfl)
theorem dX0_finds_132 : decode cX0_finds 132 = .ok (.iastore, 1) := dk_79 (dk_at dksX0_finds_5 14 rfl rfl)
theorem dX0_finds_133 : decode cX0_finds 133 = .ok (.iconst 1, 1) := dk_4 (dk_at dksX0_finds_5 15 rfl rfl)
theorem dX0_finds_134 : decode cX0_finds 134 = .ok (.istore_n 3, 1) := dk_62 (dk_at dksX0_finds_5 16 rfl rfl)
theorem dX0_finds_135 : decode cX0_finds 135 = .ok (.iinc 6 1, 3) := dk_132 6 1 (dk_at dksX0_finds_5 17 rfl rfl)
theorem dX0_finds_138 : decode cX0_finds 138 = .ok (.goto (-76), 3) := dk_167 255 180 (dk_at dksX0_finds_5 20 rfl rfl)
theorem dX0_finds_141 : decode cX0_finds 141 = .ok (.iinc 5 1, 3) := dk_132 5 1 (dk_at dksX0_finds_6 0 rfl rfl)
theorem dX0_finds_144 : decode cX0_finds 144 = .ok (.goto (-97), 3) := dk_167 255 159 (dk_at dksX0_finds_6 3 rfl rfl)
theorem dX0_finds_147 : decode cX0_finds 147 = .ok (.goto (-118), 3) := dk_167 255 138 (dk_at dksX0_finds_6 6 rfl rfl)
theorem dX0_finds_150 : decode cX0_finds 150 = .ok (.iload 4, 2) := dk_21 4 (dk_at dksX0_finds_6 9 rfl rfl)
theorem dX0_finds_152 : decode cX0_finds 152 = .ok (.iload_n 2, 1) := dk_28 (dk_at dksX0_finds_6 11 rfl rfl)
theorem dX0_finds_153 : decode cX0_finds 153 = .ok (.invokestatic 204, 3) := dk_184 0 204 (dk_at dksX0_finds_6 12 rfl rfl)
theorem dX0_finds_156 : decode cX0_finds 156 = .ok (.ireturn, 1) := dk_172 (dk_at dksX0_finds_6 15 rfl rfl)
abbrev cX0_beyond : ByteArray := prog_1_method_30_code
def yX0_beyond : MethodName := ⟨RX0, "beyond", "(II)I"⟩
def dkwX0_beyond_1 : List UInt8 := [167, 0, 12, 42, 180, 0, 30, 180, 0, 139, 27, 46, 172]
abbrev dktX0_beyond_1 : List UInt8 := dkwX0_beyond_1 ++ []
def dkwX0_beyond_0 : List UInt8 := [42, 180, 0, 30, 180, 0, 139, 27, 46, 28, 160, 0, 15, 42, 180, 0, 30, 180, 0, 142, 27, 46]
abbrev dktX0_beyond_0 : List UInt8 := dkwX0_beyond_0 ++ dktX0_beyond_1
theorem dksX0_beyond_0 : cX0_beyond.data.toList.drop 0 = dktX0_beyond_0 := by decide +kernel
theorem dksX0_beyond_1 : cX0_beyond.data.toList.drop 22 = dktX0_beyond_1 := dk_seg dksX0_beyond_0 22 rfl rfl
theorem dX0_beyond_0 : decode cX0_beyond 0 = .ok (.aload_n 0, 1) := dk_42 (dk_at dksX0_beyond_0 0 rfl rfl)
theorem dX0_beyond_1 : decode cX0_beyond 1 = .ok (.getfield 30, 3) := dk_180 0 30 (dk_at dksX0_beyond_0 1 rfl rfl)
theorem dX0_beyond_4 : decode cX0_beyond 4 = .ok (.getfield 139, 3) := dk_180 0 139 (dk_at dksX0_beyond_0 4 rfl rfl)
theorem dX0_beyond_7 : decode cX0_beyond 7 = .ok (.iload_n 1, 1) := dk_27 (dk_at dksX0_beyond_0 7 rfl rfl)
theorem dX0_beyond_8 : decode cX0_beyond 8 = .ok (.iaload, 1) := dk_46 (dk_at dksX0_beyond_0 8 rfl rfl)
theorem dX0_beyond_9 : decode cX0_beyond 9 = .ok (.iload_n 2, 1) := dk_28 (dk_at dksX0_beyond_0 9 rfl rfl)
theorem dX0_beyond_10 : decode cX0_beyond 10 = .ok (.if_icmp .ne 15, 3) := dk_160 0 15 (dk_at dksX0_beyond_0 10 rfl rfl)
theorem dX0_beyond_13 : decode cX0_beyond 13 = .ok (.aload_n 0, 1) := dk_42 (dk_at dksX0_beyond_0 13 rfl rfl)
theorem dX0_beyond_14 : decode cX0_beyond 14 = .ok (.getfield 30, 3) := dk_180 0 30 (dk_at dksX0_beyond_0 14 rfl rfl)
theorem dX0_beyond_17 : decode cX0_beyond 17 = .ok (.getfield 142, 3) := dk_180 0 142 (dk_at dksX0_beyond_0 17 rfl rfl)
theorem dX0_beyond_20 : decode cX0_beyond 20 = .ok (.iload_n 1, 1) := dk_27 (dk_at dksX0_beyond_0 20 rfl rfl)
theorem dX0_beyond_21 : decode cX0_beyond 21 = .ok (.iaload, 1) := dk_46 (dk_at dksX0_beyond_0 21 rfl rfl)
theorem dX0_beyond_22 : decode cX0_beyond 22 = .ok (.goto 12, 3) := dk_167 0 12 (dk_at dksX0_beyond_1 0 rfl rfl)
theorem dX0_beyond_25 : decode cX0_beyond 25 = .ok (.aload_n 0, 1) := dk_42 (dk_at dksX0_beyond_1 3 rfl rfl)
theorem dX0_beyond_26 : decode cX0_beyond 26 = .ok (.getfield 30, 3) := dk_180 0 30 (dk_at dksX0_beyond_1 4 rfl rfl)
theorem dX0_beyond_29 : decode cX0_beyond 29 = .ok (.getfield 139, 3) := dk_180 0 139 (dk_at dksX0_beyond_1 7 rfl rfl)
theorem dX0_beyond_32 : decode cX0_beyond 32 = .ok (.iload_n 1, 1) := dk_27 (dk_at dksX0_beyond_1 10 rfl rfl)
theorem dX0_beyond_33 : decode cX0_beyond 33 = .ok (.iaload, 1) := dk_46 (dk_at dksX0_beyond_1 11 rfl rfl)
theorem dX0_beyond_34 : decode cX0_beyond 34 = .ok (.ireturn, 1) := dk_172 (dk_at dksX0_beyond_1 12 rfl rfl)
abbrev cX0_room : ByteArray := prog_1_method_29_code
def yX0_room : MethodName := ⟨RX0, "room", "(II)I"⟩
def dkwX0_room_2 : List UInt8 := [27, 182, 0, 154, 42, 180, 0, 84, 27, 46, 96, 167, 0, 4, 3, 172]
abbrev dktX0_room_2 : List UInt8 := dkwX0_room_2 ++ []
def dkwX0_room_1 : List UInt8 := [180, 0, 84, 27, 46, 100, 172, 42, 180, 0, 30, 180, 0, 142, 27, 46, 28, 160, 0, 21, 42, 180, 0, 49]
abbrev dktX0_room_1 : List UInt8 := dkwX0_room_1 ++ dktX0_room_2
def dkwX0_room_0 : List UInt8 := [42, 180, 0, 30, 180, 0, 139, 27, 46, 28, 160, 0, 19, 42, 180, 0, 49, 27, 182, 0, 154, 42]
abbrev dktX0_room_0 : List UInt8 := dkwX0_room_0 ++ dktX0_room_1
theorem dksX0_room_0 : cX0_room.data.toList.drop 0 = dktX0_room_0 := by decide +kernel
theorem dksX0_room_1 : cX0_room.data.toList.drop 22 = dktX0_room_1 := dk_seg dksX0_room_0 22 rfl rfl
theorem dksX0_room_2 : cX0_room.data.toList.drop 46 = dktX0_room_2 := dk_seg dksX0_room_1 24 rfl rfl
theorem dX0_room_0 : decode cX0_room 0 = .ok (.aload_n 0, 1) := dk_42 (dk_at dksX0_room_0 0 rfl rfl)
theorem dX0_room_1 : decode cX0_room 1 = .ok (.getfield 30, 3) := dk_180 0 30 (dk_at dksX0_room_0 1 rfl rfl)
theorem dX0_room_4 : decode cX0_room 4 = .ok (.getfield 139, 3) := dk_180 0 139 (dk_at dksX0_room_0 4 rfl rfl)
theorem dX0_room_7 : decode cX0_room 7 = .ok (.iload_n 1, 1) := dk_27 (dk_at dksX0_room_0 7 rfl rfl)
theorem dX0_room_8 : decode cX0_room 8 = .ok (.iaload, 1) := dk_46 (dk_at dksX0_room_0 8 rfl rfl)
theorem dX0_room_9 : decode cX0_room 9 = .ok (.iload_n 2, 1) := dk_28 (dk_at dksX0_room_0 9 rfl rfl)
theorem dX0_room_10 : decode cX0_room 10 = .ok (.if_icmp .ne 19, 3) := dk_160 0 19 (dk_at dksX0_room_0 10 rfl rfl)
theorem dX0_room_13 : decode cX0_room 13 = .ok (.aload_n 0, 1) := dk_42 (dk_at dksX0_room_0 13 rfl rfl)
theorem dX0_room_14 : decode cX0_room 14 = .ok (.getfield 49, 3) := dk_180 0 49 (dk_at dksX0_room_0 14 rfl rfl)
theorem dX0_room_17 : decode cX0_room 17 = .ok (.iload_n 1, 1) := dk_27 (dk_at dksX0_room_0 17 rfl rfl)
theorem dX0_room_18 : decode cX0_room 18 = .ok (.invokevirtual 154, 3) := dk_182 0 154 (dk_at dksX0_room_0 18 rfl rfl)
theorem dX0_room_21 : decode cX0_room 21 = .ok (.aload_n 0, 1) := dk_42 (dk_at dksX0_room_0 21 rfl rfl)
theorem dX0_room_22 : decode cX0_room 22 = .ok (.getfield 84, 3) := dk_180 0 84 (dk_at dksX0_room_1 0 rfl rfl)
theorem dX0_room_25 : decode cX0_room 25 = .ok (.iload_n 1, 1) := dk_27 (dk_at dksX0_room_1 3 rfl rfl)
theorem dX0_room_26 : decode cX0_room 26 = .ok (.iaload, 1) := dk_46 (dk_at dksX0_room_1 4 rfl rfl)
theorem dX0_room_27 : decode cX0_room 27 = .ok (.isub, 1) := dk_100 (dk_at dksX0_room_1 5 rfl rfl)
theorem dX0_room_28 : decode cX0_room 28 = .ok (.ireturn, 1) := dk_172 (dk_at dksX0_room_1 6 rfl rfl)
theorem dX0_room_29 : decode cX0_room 29 = .ok (.aload_n 0, 1) := dk_42 (dk_at dksX0_room_1 7 rfl rfl)
theorem dX0_room_30 : decode cX0_room 30 = .ok (.getfield 30, 3) := dk_180 0 30 (dk_at dksX0_room_1 8 rfl rfl)
theorem dX0_room_33 : decode cX0_room 33 = .ok (.getfield 142, 3) := dk_180 0 142 (dk_at dksX0_room_1 11 rfl rfl)
theorem dX0_room_36 : decode cX0_room 36 = .ok (.iload_n 1, 1) := dk_27 (dk_at dksX0_room_1 14 rfl rfl)
theorem dX0_room_37 : decode cX0_room 37 = .ok (.iaload, 1) := dk_46 (dk_at dksX0_room_1 15 rfl rfl)
theorem dX0_room_38 : decode cX0_room 38 = .ok (.iload_n 2, 1) := dk_28 (dk_at dksX0_room_1 16 rfl rfl)
theorem dX0_room_39 : decode cX0_room 39 = .ok (.if_icmp .ne 21, 3) := dk_160 0 21 (dk_at dksX0_room_1 17 rfl rfl)
theorem dX0_room_42 : decode cX0_room 42 = .ok (.aload_n 0, 1) := dk_42 (dk_at dksX0_room_1 20 rfl rfl)
theorem dX0_room_43 : decode cX0_room 43 = .ok (.getfield 49, 3) := dk_180 0 49 (dk_at dksX0_room_1 21 rfl rfl)
theorem dX0_room_46 : decode cX0_room 46 = .ok (.iload_n 1, 1) := dk_27 (dk_at dksX0_room_2 0 rfl rfl)
theorem dX0_room_47 : decode cX0_room 47 = .ok (.invokevirtual 154, 3) := dk_182 0 154 (dk_at dksX0_room_2 1 rfl rfl)
theorem dX0_room_50 : decode cX0_room 50 = .ok (.aload_n 0, 1) := dk_42 (dk_at dksX0_room_2 4 rfl rfl)
theorem dX0_room_51 : decode cX0_room 51 = .ok (.getfield 84, 3) := dk_180 0 84 (dk_at dksX0_room_2 5 rfl rfl)
theorem dX0_room_54 : decode cX0_room 54 = .ok (.iload_n 1, 1) := dk_27 (dk_at dksX0_room_2 8 rfl rfl)
theorem dX0_room_55 : decode cX0_room 55 = .ok (.iaload, 1) := dk_46 (dk_at dksX0_room_2 9 rfl rfl)
theorem dX0_room_56 : decode cX0_room 56 = .ok (.iadd, 1) := dk_96 (dk_at dksX0_room_2 10 rfl rfl)
theorem dX0_room_57 : decode cX0_room 57 = .ok (.goto 4, 3) := dk_167 0 4 (dk_at dksX0_room_2 11 rfl rfl)
theorem dX0_room_60 : decode cX0_room 60 = .ok (.iconst 0, 1) := dk_3 (dk_at dksX0_room_2 14 rfl rfl)
theorem dX0_room_61 : decode cX0_room 61 = .ok (.ireturn, 1) := dk_172 (dk_at dksX0_room_2 15 rfl rfl)
abbrev cX0_sends : ByteArray := prog_1_method_32_code
def yX0_sends : MethodName := ⟨RX0, "sends", "(II)I"⟩
def dkwX0_sends_5 : List UInt8 := [46, 21, 4, 182, 0, 236, 54, 4, 167, 255, 194, 29, 172]
abbrev dktX0_sends_5 : List UInt8 := dkwX0_sends_5 ++ []
def dkwX0_sends_4 : List UInt8 := [21, 4, 46, 46, 21, 4, 160, 0, 7, 29, 167, 0, 5, 29, 116, 96, 79, 42, 42, 180, 0, 88, 21, 4]
abbrev dktX0_sends_4 : List UInt8 := dkwX0_sends_4 ++ dktX0_sends_5
def dkwX0_sends_3 : List UInt8 := [180, 0, 84, 42, 180, 0, 88, 21, 4, 46, 92, 46, 42, 180, 0, 30, 180, 0, 142, 42, 180, 0, 88]
abbrev dktX0_sends_3 : List UInt8 := dkwX0_sends_3 ++ dktX0_sends_4
def dkwX0_sends_2 : List UInt8 := [21, 4, 46, 21, 4, 182, 0, 236, 54, 4, 167, 255, 206, 28, 54, 4, 21, 4, 27, 159, 0, 62, 42]
abbrev dktX0_sends_2 : List UInt8 := dkwX0_sends_2 ++ dktX0_sends_3
def dkwX0_sends_1 : List UInt8 := [180, 0, 88, 21, 4, 46, 21, 4, 182, 0, 236, 182, 0, 239, 184, 0, 243, 62, 42, 42, 180, 0, 88]
abbrev dktX0_sends_1 : List UInt8 := dkwX0_sends_1 ++ dktX0_sends_2
def dkwX0_sends_0 : List UInt8 := [18, 242, 62, 28, 54, 4, 21, 4, 27, 159, 0, 50, 29, 42, 42, 180, 0, 88, 21, 4, 46, 42, 42]
abbrev dktX0_sends_0 : List UInt8 := dkwX0_sends_0 ++ dktX0_sends_1
theorem dksX0_sends_0 : cX0_sends.data.toList.drop 0 = dktX0_sends_0 := by decide +kernel
theorem dksX0_sends_1 : cX0_sends.data.toList.drop 23 = dktX0_sends_1 := dk_seg dksX0_sends_0 23 rfl rfl
theorem dksX0_sends_2 : cX0_sends.data.toList.drop 46 = dktX0_sends_2 := dk_seg dksX0_sends_1 23 rfl rfl
theorem dksX0_sends_3 : cX0_sends.data.toList.drop 69 = dktX0_sends_3 := dk_seg dksX0_sends_2 23 rfl rfl
theorem dksX0_sends_4 : cX0_sends.data.toList.drop 92 = dktX0_sends_4 := dk_seg dksX0_sends_3 23 rfl rfl
theorem dksX0_sends_5 : cX0_sends.data.toList.drop 116 = dktX0_sends_5 := dk_seg dksX0_sends_4 24 rfl rfl
theorem dX0_sends_0 : decode cX0_sends 0 = .ok (.ldc 242, 2) := dk_18 242 (dk_at dksX0_sends_0 0 rfl rfl)
theorem dX0_sends_2 : decode cX0_sends 2 = .ok (.istore_n 3, 1) := dk_62 (dk_at dksX0_sends_0 2 rfl rfl)
theorem dX0_sends_3 : decode cX0_sends 3 = .ok (.iload_n 2, 1) := dk_28 (dk_at dksX0_sends_0 3 rfl rfl)
theorem dX0_sends_4 : decode cX0_sends 4 = .ok (.istore 4, 2) := dk_54 4 (dk_at dksX0_sends_0 4 rfl rfl)
theorem dX0_sends_6 : decode cX0_sends 6 = .ok (.iload 4, 2) := dk_21 4 (dk_at dksX0_sends_0 6 rfl rfl)
theorem dX0_sends_8 : decode cX0_sends 8 = .ok (.iload_n 1, 1) := dk_27 (dk_at dksX0_sends_0 8 rfl rfl)
theorem dX0_sends_9 : decode cX0_sends 9 = .ok (.if_icmp .eq 50, 3) := dk_159 0 50 (dk_at dksX0_sends_0 9 rfl rfl)
theorem dX0_sends_12 : decode cX0_sends 12 = .ok (.iload_n 3, 1) := dk_29 (dk_at dksX0_sends_0 12 rfl rfl)
theorem dX0_sends_13 : decode cX0_sends 13 = .ok (.aload_n 0, 1) := dk_42 (dk_at dksX0_sends_0 13 rfl rfl)
theorem dX0_sends_14 : decode cX0_sends 14 = .ok (.aload_n 0, 1) := dk_42 (dk_at dksX0_sends_0 14 rfl rfl)
theorem dX0_sends_15 : decode cX0_sends 15 = .ok (.getfield 88, 3) := dk_180 0 88 (dk_at dksX0_sends_0 15 rfl rfl)
theorem dX0_sends_18 : decode cX0_sends 18 = .ok (.iload 4, 2) := dk_21 4 (dk_at dksX0_sends_0 18 rfl rfl)
theorem dX0_sends_20 : decode cX0_sends 20 = .ok (.iaload, 1) := dk_46 (dk_at dksX0_sends_0 20 rfl rfl)
theorem dX0_sends_21 : decode cX0_sends 21 = .ok (.aload_n 0, 1) := dk_42 (dk_at dksX0_sends_0 21 rfl rfl)
theorem dX0_sends_22 : decode cX0_sends 22 = .ok (.aload_n 0, 1) := dk_42 (dk_at dksX0_sends_0 22 rfl rfl)
theorem dX0_sends_23 : decode cX0_sends 23 = .ok (.getfield 88, 3) := dk_180 0 88 (dk_at dksX0_sends_1 0 rfl rfl)
theorem dX0_sends_26 : decode cX0_sends 26 = .ok (.iload 4, 2) := dk_21 4 (dk_at dksX0_sends_1 3 rfl rfl)
theorem dX0_sends_28 : decode cX0_sends 28 = .ok (.iaload, 1) := dk_46 (dk_at dksX0_sends_1 5 rfl rfl)
theorem dX0_sends_29 : decode cX0_sends 29 = .ok (.iload 4, 2) := dk_21 4 (dk_at dksX0_sends_1 6 rfl rfl)
theorem dX0_sends_31 : decode cX0_sends 31 = .ok (.invokevirtual 236, 3) := dk_182 0 236 (dk_at dksX0_sends_1 8 rfl rfl)
theorem dX0_sends_34 : decode cX0_sends 34 = .ok (.invokevirtual 239, 3) := dk_182 0 239 (dk_at dksX0_sends_1 11 rfl rfl)
theorem dX0_sends_37 : decode cX0_sends 37 = .ok (.invokestatic 243, 3) := dk_184 0 243 (dk_at dksX0_sends_1 14 rfl rfl)
theorem dX0_sends_40 : decode cX0_sends 40 = .ok (.istore_n 3, 1) := dk_62 (dk_at dksX0_sends_1 17 rfl rfl)
theorem dX0_sends_41 : decode cX0_sends 41 = .ok (.aload_n 0, 1) := dk_42 (dk_at dksX0_sends_1 18 rfl rfl)
theorem dX0_sends_42 : decode cX0_sends 42 = .ok (.aload_n 0, 1) := dk_42 (dk_at dksX0_sends_1 19 rfl rfl)
theorem dX0_sends_43 : decode cX0_sends 43 = .ok (.getfield 88, 3) := dk_180 0 88 (dk_at dksX0_sends_1 20 rfl rfl)
theorem dX0_sends_46 : decode cX0_sends 46 = .ok (.iload 4, 2) := dk_21 4 (dk_at dksX0_sends_2 0 rfl rfl)
theorem dX0_sends_48 : decode cX0_sends 48 = .ok (.iaload, 1) := dk_46 (dk_at dksX0_sends_2 2 rfl rfl)
theorem dX0_sends_49 : decode cX0_sends 49 = .ok (.iload 4, 2) := dk_21 4 (dk_at dksX0_sends_2 3 rfl rfl)
theorem dX0_sends_51 : decode cX0_sends 51 = .ok (.invokevirtual 236, 3) := dk_182 0 236 (dk_at dksX0_sends_2 5 rfl rfl)
theorem dX0_sends_54 : decode cX0_sends 54 = .ok (.istore 4, 2) := dk_54 4 (dk_at dksX0_sends_2 8 rfl rfl)
theorem dX0_sends_56 : decode cX0_sends 56 = .ok (.goto (-50), 3) := dk_167 255 206 (dk_at dksX0_sends_2 10 rfl rfl)
theorem dX0_sends_59 : decode cX0_sends 59 = .ok (.iload_n 2, 1) := dk_28 (dk_at dksX0_sends_2 13 rfl rfl)
theorem dX0_sends_60 : decode cX0_sends 60 = .ok (.istore 4, 2) := dk_54 4 (dk_at dksX0_sends_2 14 rfl rfl)
theorem dX0_sends_62 : decode cX0_sends 62 = .ok (.iload 4, 2) := dk_21 4 (dk_at dksX0_sends_2 16 rfl rfl)
theorem dX0_sends_64 : decode cX0_sends 64 = .ok (.iload_n 1, 1) := dk_27 (dk_at dksX0_sends_2 18 rfl rfl)
theorem dX0_sends_65 : decode cX0_sends 65 = .ok (.if_icmp .eq 62, 3) := dk_159 0 62 (dk_at dksX0_sends_2 19 rfl rfl)
theorem dX0_sends_68 : decode cX0_sends 68 = .ok (.aload_n 0, 1) := dk_42 (dk_at dksX0_sends_2 22 rfl rfl)
theorem dX0_sends_69 : decode cX0_sends 69 = .ok (.getfield 84, 3) := dk_180 0 84 (dk_at dksX0_sends_3 0 rfl rfl)
theorem dX0_sends_72 : decode cX0_sends 72 = .ok (.aload_n 0, 1) := dk_42 (dk_at dksX0_sends_3 3 rfl rfl)
theorem dX0_sends_73 : decode cX0_sends 73 = .ok (.getfield 88, 3) := dk_180 0 88 (dk_at dksX0_sends_3 4 rfl rfl)
theorem dX0_sends_76 : decode cX0_sends 76 = .ok (.iload 4, 2) := dk_21 4 (dk_at dksX0_sends_3 7 rfl rfl)
theorem dX0_sends_78 : decode cX0_sends 78 = .ok (.iaload, 1) := dk_46 (dk_at dksX0_sends_3 9 rfl rfl)
theorem dX0_sends_79 : decode cX0_sends 79 = .ok (.dup2, 1) := dk_92 (dk_at dksX0_sends_3 10 rfl rfl)
theorem dX0_sends_80 : decode cX0_sends 80 = .ok (.iaload, 1) := dk_46 (dk_at dksX0_sends_3 11 rfl rfl)
theorem dX0_sends_81 : decode cX0_sends 81 = .ok (.aload_n 0, 1) := dk_42 (dk_at dksX0_sends_3 12 rfl rfl)
theorem dX0_sends_82 : decode cX0_sends 82 = .ok (.getfield 30, 3) := dk_180 0 30 (dk_at dksX0_sends_3 13 rfl rfl)
theorem dX0_sends_85 : decode cX0_sends 85 = .ok (.getfield 142, 3) := dk_180 0 142 (dk_at dksX0_sends_3 16 rfl rfl)
theorem dX0_sends_88 : decode cX0_sends 88 = .ok (.aload_n 0, 1) := dk_42 (dk_at dksX0_sends_3 19 rfl rfl)
theorem dX0_sends_89 : decode cX0_sends 89 = .ok (.getfield 88, 3) := dk_180 0 88 (dk_at dksX0_sends_3 20 rfl rfl)
theorem dX0_sends_92 : decode cX0_sends 92 = .ok (.iload 4, 2) := dk_21 4 (dk_at dksX0_sends_4 0 rfl rfl)
theorem dX0_sends_94 : decode cX0_sends 94 = .ok (.iaload, 1) := dk_46 (dk_at dksX0_sends_4 2 rfl rfl)
theorem dX0_sends_95 : decode cX0_sends 95 = .ok (.iaload, 1) := dk_46 (dk_at dksX0_sends_4 3 rfl rfl)
theorem dX0_sends_96 : decode cX0_sends 96 = .ok (.iload 4, 2) := dk_21 4 (dk_at dksX0_sends_4 4 rfl rfl)
theorem dX0_sends_98 : decode cX0_sends 98 = .ok (.if_icmp .ne 7, 3) := dk_160 0 7 (dk_at dksX0_sends_4 6 rfl rfl)
theorem dX0_sends_101 : decode cX0_sends 101 = .ok (.iload_n 3, 1) := dk_29 (dk_at dksX0_sends_4 9 rfl rfl)
theorem dX0_sends_102 : decode cX0_sends 102 = .ok (.goto 5, 3) := dk_167 0 5 (dk_at dksX0_sends_4 10 rfl rfl)
theorem dX0_sends_105 : decode cX0_sends 105 = .ok (.iload_n 3, 1) := dk_29 (dk_at dksX0_sends_4 13 rfl rfl)
theorem dX0_sends_106 : decode cX0_sends 106 = .ok (.ineg, 1) := dk_116 (dk_at dksX0_sends_4 14 rfl rfl)
theorem dX0_sends_107 : decode cX0_sends 107 = .ok (.iadd, 1) := dk_96 (dk_at dksX0_sends_4 15 rfl rfl)
theorem dX0_sends_108 : decode cX0_sends 108 = .ok (.iastore, 1) := dk_79 (dk_at dksX0_sends_4 16 rfl rfl)
theorem dX0_sends_109 : decode cX0_sends 109 = .ok (.aload_n 0, 1) := dk_42 (dk_at dksX0_sends_4 17 rfl rfl)
theorem dX0_sends_110 : decode cX0_sends 110 = .ok (.aload_n 0, 1) := dk_42 (dk_at dksX0_sends_4 18 rfl rfl)
theorem dX0_sends_111 : decode cX0_sends 111 = .ok (.getfield 88, 3) := dk_180 0 88 (dk_at dksX0_sends_4 19 rfl rfl)
theorem dX0_sends_114 : decode cX0_sends 114 = .ok (.iload 4, 2) := dk_21 4 (dk_at dksX0_sends_4 22 rfl rfl)
theorem dX0_sends_116 : decode cX0_sends 116 = .ok (.iaload, 1) := dk_46 (dk_at dksX0_sends_5 0 rfl rfl)
theorem dX0_sends_117 : decode cX0_sends 117 = .ok (.iload 4, 2) := dk_21 4 (dk_at dksX0_sends_5 1 rfl rfl)
theorem dX0_sends_119 : decode cX0_sends 119 = .ok (.invokevirtual 236, 3) := dk_182 0 236 (dk_at dksX0_sends_5 3 rfl rfl)
theorem dX0_sends_122 : decode cX0_sends 122 = .ok (.istore 4, 2) := dk_54 4 (dk_at dksX0_sends_5 6 rfl rfl)
theorem dX0_sends_124 : decode cX0_sends 124 = .ok (.goto (-62), 3) := dk_167 255 194 (dk_at dksX0_sends_5 8 rfl rfl)
theorem dX0_sends_127 : decode cX0_sends 127 = .ok (.iload_n 3, 1) := dk_29 (dk_at dksX0_sends_5 11 rfl rfl)
theorem dX0_sends_128 : decode cX0_sends 128 = .ok (.ireturn, 1) := dk_172 (dk_at dksX0_sends_5 12 rfl rfl)
abbrev cX0_narrows : ByteArray := prog_1_method_34_code
def yX0_narrows : MethodName := ⟨RX0, "narrows", "(III)I"⟩
def dkwX0_narrows_4 : List UInt8 := [172]
abbrev dktX0_narrows_4 : List UInt8 := dkwX0_narrows_4 ++ []
def dkwX0_narrows_3 : List UInt8 := [126, 182, 0, 230, 154, 0, 8, 21, 6, 167, 0, 5, 21, 5, 54, 5, 132, 6, 255, 167, 255, 181, 21, 5]
abbrev dktX0_narrows_3 : List UInt8 := dkwX0_narrows_3 ++ dktX0_narrows_4
def dkwX0_narrows_2 : List UInt8 := [21, 7, 153, 0, 34, 42, 21, 6, 182, 0, 214, 29, 160, 0, 24, 42, 27, 28, 21, 4, 21, 6, 2, 130]
abbrev dktX0_narrows_2 : List UInt8 := dkwX0_narrows_2 ++ dktX0_narrows_3
def dkwX0_narrows_1 : List UInt8 := [159, 0, 16, 21, 6, 184, 0, 195, 21, 5, 184, 0, 195, 163, 0, 7, 4, 167, 0, 4, 3, 54, 7]
abbrev dktX0_narrows_1 : List UInt8 := dkwX0_narrows_1 ++ dktX0_narrows_2
def dkwX0_narrows_0 : List UInt8 := [42, 182, 0, 211, 54, 4, 16, 247, 54, 5, 21, 4, 54, 6, 21, 6, 155, 0, 76, 21, 5, 16, 247]
abbrev dktX0_narrows_0 : List UInt8 := dkwX0_narrows_0 ++ dktX0_narrows_1
theorem dksX0_narrows_0 : cX0_narrows.data.toList.drop 0 = dktX0_narrows_0 := by decide +kernel
theorem dksX0_narrows_1 : cX0_narrows.data.toList.drop 23 = dktX0_narrows_1 := dk_seg dksX0_narrows_0 23 rfl rfl
theorem dksX0_narrows_2 : cX0_narrows.data.toList.drop 46 = dktX0_narrows_2 := dk_seg dksX0_narrows_1 23 rfl rfl
theorem dksX0_narrows_3 : cX0_narrows.data.toList.drop 70 = dktX0_narrows_3 := dk_seg dksX0_narrows_2 24 rfl rfl
theorem dksX0_narrows_4 : cX0_narrows.data.toList.drop 94 = dktX0_narrows_4 := dk_seg dksX0_narrows_3 24 rfl rfl
theorem dX0_narrows_0 : decode cX0_narrows 0 = .ok (.aload_n 0, 1) := dk_42 (dk_at dksX0_narrows_0 0 rfl rfl)
theorem dX0_narrows_1 : decode cX0_narrows 1 = .ok (.invokevirtual 211, 3) := dk_182 0 211 (dk_at dksX0_narrows_0 1 rfl rfl)
theorem dX0_narrows_4 : decode cX0_narrows 4 = .ok (.istore 4, 2) := dk_54 4 (dk_at dksX0_narrows_0 4 rfl rfl)
theorem dX0_narrows_6 : decode cX0_narrows 6 = .ok (.bipush (-9), 2) := dk_16 247 (dk_at dksX0_narrows_0 6 rfl rfl)
theorem dX0_narrows_8 : decode cX0_narrows 8 = .ok (.istore 5, 2) := dk_54 5 (dk_at dksX0_narrows_0 8 rfl rfl)
theorem dX0_narrows_10 : decode cX0_narrows 10 = .ok (.iload 4, 2) := dk_21 4 (dk_at dksX0_narrows_0 10 rfl rfl)
theorem dX0_narrows_12 : decode cX0_narrows 12 = .ok (.istore 6, 2) := dk_54 6 (dk_at dksX0_narrows_0 12 rfl rfl)
theorem dX0_narrows_14 : decode cX0_narrows 14 = .ok (.iload 6, 2) := dk_21 6 (dk_at dksX0_narrows_0 14 rfl rfl)
theorem dX0_narrows_16 : decode cX0_narrows 16 = .ok (.ifCond .lt 76, 3) := dk_155 0 76 (dk_at dksX0_narrows_0 16 rfl rfl)
theorem dX0_narrows_19 : decode cX0_narrows 19 = .ok (.iload 5, 2) := dk_21 5 (dk_at dksX0_narrows_0 19 rfl rfl)
theorem dX0_narrows_21 : decode cX0_narrows 21 = .ok (.bipush (-9), 2) := dk_16 247 (dk_at dksX0_narrows_0 21 rfl rfl)
theorem dX0_narrows_23 : decode cX0_narrows 23 = .ok (.if_icmp .eq 16, 3) := dk_159 0 16 (dk_at dksX0_narrows_1 0 rfl rfl)
theorem dX0_narrows_26 : decode cX0_narrows 26 = .ok (.iload 6, 2) := dk_21 6 (dk_at dksX0_narrows_1 3 rfl rfl)
theorem dX0_narrows_28 : decode cX0_narrows 28 = .ok (.invokestatic 195, 3) := dk_184 0 195 (dk_at dksX0_narrows_1 5 rfl rfl)
theorem dX0_narrows_31 : decode cX0_narrows 31 = .ok (.iload 5, 2) := dk_21 5 (dk_at dksX0_narrows_1 8 rfl rfl)
theorem dX0_narrows_33 : decode cX0_narrows 33 = .ok (.invokestatic 195, 3) := dk_184 0 195 (dk_at dksX0_narrows_1 10 rfl rfl)
theorem dX0_narrows_36 : decode cX0_narrows 36 = .ok (.if_icmp .gt 7, 3) := dk_163 0 7 (dk_at dksX0_narrows_1 13 rfl rfl)
theorem dX0_narrows_39 : decode cX0_narrows 39 = .ok (.iconst 1, 1) := dk_4 (dk_at dksX0_narrows_1 16 rfl rfl)
theorem dX0_narrows_40 : decode cX0_narrows 40 = .ok (.goto 4, 3) := dk_167 0 4 (dk_at dksX0_narrows_1 17 rfl rfl)
theorem dX0_narrows_43 : decode cX0_narrows 43 = .ok (.iconst 0, 1) := dk_3 (dk_at dksX0_narrows_1 20 rfl rfl)
theorem dX0_narrows_44 : decode cX0_narrows 44 = .ok (.istore 7, 2) := dk_54 7 (dk_at dksX0_narrows_1 21 rfl rfl)
theorem dX0_narrows_46 : decode cX0_narrows 46 = .ok (.iload 7, 2) := dk_21 7 (dk_at dksX0_narrows_2 0 rfl rfl)
theorem dX0_narrows_48 : decode cX0_narrows 48 = .ok (.ifCond .eq 34, 3) := dk_153 0 34 (dk_at dksX0_narrows_2 2 rfl rfl)
theorem dX0_narrows_51 : decode cX0_narrows 51 = .ok (.aload_n 0, 1) := dk_42 (dk_at dksX0_narrows_2 5 rfl rfl)
theorem dX0_narrows_52 : decode cX0_narrows 52 = .ok (.iload 6, 2) := dk_21 6 (dk_at dksX0_narrows_2 6 rfl rfl)
theorem dX0_narrows_54 : decode cX0_narrows 54 = .ok (.invokevirtual 214, 3) := dk_182 0 214 (dk_at dksX0_narrows_2 8 rfl rfl)
theorem dX0_narrows_57 : decode cX0_narrows 57 = .ok (.iload_n 3, 1) := dk_29 (dk_at dksX0_narrows_2 11 rfl rfl)
theorem dX0_narrows_58 : decode cX0_narrows 58 = .ok (.if_icmp .ne 24, 3) := dk_160 0 24 (dk_at dksX0_narrows_2 12 rfl rfl)
theorem dX0_narrows_61 : decode cX0_narrows 61 = .ok (.aload_n 0, 1) := dk_42 (dk_at dksX0_narrows_2 15 rfl rfl)
theorem dX0_narrows_62 : decode cX0_narrows 62 = .ok (.iload_n 1, 1) := dk_27 (dk_at dksX0_narrows_2 16 rfl rfl)
theorem dX0_narrows_63 : decode cX0_narrows 63 = .ok (.iload_n 2, 1) := dk_28 (dk_at dksX0_narrows_2 17 rfl rfl)
theorem dX0_narrows_64 : decode cX0_narrows 64 = .ok (.iload 4, 2) := dk_21 4 (dk_at dksX0_narrows_2 18 rfl rfl)
theorem dX0_narrows_66 : decode cX0_narrows 66 = .ok (.iload 6, 2) := dk_21 6 (dk_at dksX0_narrows_2 20 rfl rfl)
theorem dX0_narrows_68 : decode cX0_narrows 68 = .ok (.iconst (-1), 1) := dk_2 (dk_at dksX0_narrows_2 22 rfl rfl)
theorem dX0_narrows_69 : decode cX0_narrows 69 = .ok (.ixor, 1) := dk_130 (dk_at dksX0_narrows_2 23 rfl rfl)
theorem dX0_narrows_70 : decode cX0_narrows 70 = .ok (.iand, 1) := dk_126 (dk_at dksX0_narrows_3 0 rfl rfl)
theorem dX0_narrows_71 : decode cX0_narrows 71 = .ok (.invokevirtual 230, 3) := dk_182 0 230 (dk_at dksX0_narrows_3 1 rfl rfl)
theorem dX0_narrows_74 : decode cX0_narrows 74 = .ok (.ifCond .ne 8, 3) := dk_154 0 8 (dk_at dksX0_narrows_3 4 rfl rfl)
theorem dX0_narrows_77 : decode cX0_narrows 77 = .ok (.iload 6, 2) := dk_21 6 (dk_at dksX0_narrows_3 7 rfl rfl)
theorem dX0_narrows_79 : decode cX0_narrows 79 = .ok (.goto 5, 3) := dk_167 0 5 (dk_at dksX0_narrows_3 9 rfl rfl)
theorem dX0_narrows_82 : decode cX0_narrows 82 = .ok (.iload 5, 2) := dk_21 5 (dk_at dksX0_narrows_3 12 rfl rfl)
theorem dX0_narrows_84 : decode cX0_narrows 84 = .ok (.istore 5, 2) := dk_54 5 (dk_at dksX0_narrows_3 14 rfl rfl)
theorem dX0_narrows_86 : decode cX0_narrows 86 = .ok (.iinc 6 (-1), 3) := dk_132 6 255 (dk_at dksX0_narrows_3 16 rfl rfl)
theorem dX0_narrows_89 : decode cX0_narrows 89 = .ok (.goto (-75), 3) := dk_167 255 181 (dk_at dksX0_narrows_3 19 rfl rfl)
theorem dX0_narrows_92 : decode cX0_narrows 92 = .ok (.iload 5, 2) := dk_21 5 (dk_at dksX0_narrows_3 22 rfl rfl)
theorem dX0_narrows_94 : decode cX0_narrows 94 = .ok (.ireturn, 1) := dk_172 (dk_at dksX0_narrows_4 0 rfl rfl)
abbrev cX0_need : ByteArray := prog_1_method_36_code
def yX0_need : MethodName := ⟨RX0, "need", "(III)I"⟩
def dkwX0_need_5 : List UInt8 := [167, 255, 183, 21, 6, 172]
abbrev dktX0_need_5 : List UInt8 := dkwX0_need_5 ++ []
def dkwX0_need_4 : List UInt8 := [21, 4, 21, 7, 128, 182, 0, 230, 153, 0, 8, 21, 7, 167, 0, 5, 21, 6, 54, 6, 132, 7, 255]
abbrev dktX0_need_4 : List UInt8 := dkwX0_need_4 ++ dktX0_need_5
def dkwX0_need_3 : List UInt8 := [167, 0, 4, 3, 54, 8, 21, 7, 21, 5, 2, 130, 126, 154, 0, 27, 21, 8, 153, 0, 22, 42, 27, 28]
abbrev dktX0_need_3 : List UInt8 := dkwX0_need_3 ++ dktX0_need_4
def dkwX0_need_2 : List UInt8 := [155, 0, 74, 21, 6, 16, 247, 159, 0, 16, 21, 7, 184, 0, 195, 21, 6, 184, 0, 195, 163, 0, 7, 4]
abbrev dktX0_need_2 : List UInt8 := dkwX0_need_2 ++ dktX0_need_3
def dkwX0_need_1 : List UInt8 := [54, 4, 42, 182, 0, 211, 21, 4, 2, 130, 126, 54, 5, 16, 247, 54, 6, 21, 5, 54, 7, 21, 7]
abbrev dktX0_need_1 : List UInt8 := dkwX0_need_1 ++ dktX0_need_2
def dkwX0_need_0 : List UInt8 := [42, 27, 28, 182, 0, 224, 153, 0, 10, 29, 184, 0, 233, 154, 0, 5, 2, 172, 42, 29, 182, 0, 227]
abbrev dktX0_need_0 : List UInt8 := dkwX0_need_0 ++ dktX0_need_1
theorem dksX0_need_0 : cX0_need.data.toList.drop 0 = dktX0_need_0 := by decide +kernel
theorem dksX0_need_1 : cX0_need.data.toList.drop 23 = dktX0_need_1 := dk_seg dksX0_need_0 23 rfl rfl
theorem dksX0_need_2 : cX0_need.data.toList.drop 46 = dktX0_need_2 := dk_seg dksX0_need_1 23 rfl rfl
theorem dksX0_need_3 : cX0_need.data.toList.drop 70 = dktX0_need_3 := dk_seg dksX0_need_2 24 rfl rfl
theorem dksX0_need_4 : cX0_need.data.toList.drop 94 = dktX0_need_4 := dk_seg dksX0_need_3 24 rfl rfl
theorem dksX0_need_5 : cX0_need.data.toList.drop 117 = dktX0_need_5 := dk_seg dksX0_need_4 23 rfl rfl
theorem dX0_need_0 : decode cX0_need 0 = .ok (.aload_n 0, 1) := dk_42 (dk_at dksX0_need_0 0 rfl rfl)
theorem dX0_need_1 : decode cX0_need 1 = .ok (.iload_n 1, 1) := dk_27 (dk_at dksX0_need_0 1 rfl rfl)
theorem dX0_need_2 : decode cX0_need 2 = .ok (.iload_n 2, 1) := dk_28 (dk_at dksX0_need_0 2 rfl rfl)
theorem dX0_need_3 : decode cX0_need 3 = .ok (.invokevirtual 224, 3) := dk_182 0 224 (dk_at dksX0_need_0 3 rfl rfl)
theorem dX0_need_6 : decode cX0_need 6 = .ok (.ifCond .eq 10, 3) := dk_153 0 10 (dk_at dksX0_need_0 6 rfl rfl)
theorem dX0_need_9 : decode cX0_need 9 = .ok (.iload_n 3, 1) := dk_29 (dk_at dksX0_need_0 9 rfl rfl)
theorem dX0_need_10 : decode cX0_need 10 = .ok (.invokestatic 233, 3) := dk_184 0 233 (dk_at dksX0_need_0 10 rfl rfl)
theorem dX0_need_13 : decode cX0_need 13 = .ok (.ifCond .ne 5, 3) := dk_154 0 5 (dk_at dksX0_need_0 13 rfl rfl)
theorem dX0_need_16 : decode cX0_need 16 = .ok (.iconst (-1), 1) := dk_2 (dk_at dksX0_need_0 16 rfl rfl)
theorem dX0_need_17 : decode cX0_need 17 = .ok (.ireturn, 1) := dk_172 (dk_at dksX0_need_0 17 rfl rfl)
theorem dX0_need_18 : decode cX0_need 18 = .ok (.aload_n 0, 1) := dk_42 (dk_at dksX0_need_0 18 rfl rfl)
theorem dX0_need_19 : decode cX0_need 19 = .ok (.iload_n 3, 1) := dk_29 (dk_at dksX0_need_0 19 rfl rfl)
theorem dX0_need_20 : decode cX0_need 20 = .ok (.invokevirtual 227, 3) := dk_182 0 227 (dk_at dksX0_need_0 20 rfl rfl)
theorem dX0_need_23 : decode cX0_need 23 = .ok (.istore 4, 2) := dk_54 4 (dk_at dksX0_need_1 0 rfl rfl)
theorem dX0_need_25 : decode cX0_need 25 = .ok (.aload_n 0, 1) := dk_42 (dk_at dksX0_need_1 2 rfl rfl)
theorem dX0_need_26 : decode cX0_need 26 = .ok (.invokevirtual 211, 3) := dk_182 0 211 (dk_at dksX0_need_1 3 rfl rfl)
theorem dX0_need_29 : decode cX0_need 29 = .ok (.iload 4, 2) := dk_21 4 (dk_at dksX0_need_1 6 rfl rfl)
theorem dX0_need_31 : decode cX0_need 31 = .ok (.iconst (-1), 1) := dk_2 (dk_at dksX0_need_1 8 rfl rfl)
theorem dX0_need_32 : decode cX0_need 32 = .ok (.ixor, 1) := dk_130 (dk_at dksX0_need_1 9 rfl rfl)
theorem dX0_need_33 : decode cX0_need 33 = .ok (.iand, 1) := dk_126 (dk_at dksX0_need_1 10 rfl rfl)
theorem dX0_need_34 : decode cX0_need 34 = .ok (.istore 5, 2) := dk_54 5 (dk_at dksX0_need_1 11 rfl rfl)
theorem dX0_need_36 : decode cX0_need 36 = .ok (.bipush (-9), 2) := dk_16 247 (dk_at dksX0_need_1 13 rfl rfl)
theorem dX0_need_38 : decode cX0_need 38 = .ok (.istore 6, 2) := dk_54 6 (dk_at dksX0_need_1 15 rfl rfl)
theorem dX0_need_40 : decode cX0_need 40 = .ok (.iload 5, 2) := dk_21 5 (dk_at dksX0_need_1 17 rfl rfl)
theorem dX0_need_42 : decode cX0_need 42 = .ok (.istore 7, 2) := dk_54 7 (dk_at dksX0_need_1 19 rfl rfl)
theorem dX0_need_44 : decode cX0_need 44 = .ok (.iload 7, 2) := dk_21 7 (dk_at dksX0_need_1 21 rfl rfl)
theorem dX0_need_46 : decode cX0_need 46 = .ok (.ifCond .lt 74, 3) := dk_155 0 74 (dk_at dksX0_need_2 0 rfl rfl)
theorem dX0_need_49 : decode cX0_need 49 = .ok (.iload 6, 2) := dk_21 6 (dk_at dksX0_need_2 3 rfl rfl)
theorem dX0_need_51 : decode cX0_need 51 = .ok (.bipush (-9), 2) := dk_16 247 (dk_at dksX0_need_2 5 rfl rfl)
theorem dX0_need_53 : decode cX0_need 53 = .ok (.if_icmp .eq 16, 3) := dk_159 0 16 (dk_at dksX0_need_2 7 rfl rfl)
theorem dX0_need_56 : decode cX0_need 56 = .ok (.iload 7, 2) := dk_21 7 (dk_at dksX0_need_2 10 rfl rfl)
theorem dX0_need_58 : decode cX0_need 58 = .ok (.invokestatic 195, 3) := dk_184 0 195 (dk_at dksX0_need_2 12 rfl rfl)
theorem dX0_need_61 : decode cX0_need 61 = .ok (.iload 6, 2) := dk_21 6 (dk_at dksX0_need_2 15 rfl rfl)
theorem dX0_need_63 : decode cX0_need 63 = .ok (.invokestatic 195, 3) := dk_184 0 195 (dk_at dksX0_need_2 17 rfl rfl)
theorem dX0_need_66 : decode cX0_need 66 = .ok (.if_icmp .gt 7, 3) := dk_163 0 7 (dk_at dksX0_need_2 20 rfl rfl)
theorem dX0_need_69 : decode cX0_need 69 = .ok (.iconst 1, 1) := dk_4 (dk_at dksX0_need_2 23 rfl rfl)
theorem dX0_need_70 : decode cX0_need 70 = .ok (.goto 4, 3) := dk_167 0 4 (dk_at dksX0_need_3 0 rfl rfl)
theorem dX0_need_73 : decode cX0_need 73 = .ok (.iconst 0, 1) := dk_3 (dk_at dksX0_need_3 3 rfl rfl)
theorem dX0_need_74 : decode cX0_need 74 = .ok (.istore 8, 2) := dk_54 8 (dk_at dksX0_need_3 4 rfl rfl)
theorem dX0_need_76 : decode cX0_need 76 = .ok (.iload 7, 2) := dk_21 7 (dk_at dksX0_need_3 6 rfl rfl)
theorem dX0_need_78 : decode cX0_need 78 = .ok (.iload 5, 2) := dk_21 5 (dk_at dksX0_need_3 8 rfl rfl)
theorem dX0_need_80 : decode cX0_need 80 = .ok (.iconst (-1), 1) := dk_2 (dk_at dksX0_need_3 10 rfl rfl)
theorem dX0_need_81 : decode cX0_need 81 = .ok (.ixor, 1) := dk_130 (dk_at dksX0_need_3 11 rfl rfl)
theorem dX0_need_82 : decode cX0_need 82 = .ok (.iand, 1) := dk_126 (dk_at dksX0_need_3 12 rfl rfl)
theorem dX0_need_83 : decode cX0_need 83 = .ok (.ifCond .ne 27, 3) := dk_154 0 27 (dk_at dksX0_need_3 13 rfl rfl)
theorem dX0_need_86 : decode cX0_need 86 = .ok (.iload 8, 2) := dk_21 8 (dk_at dksX0_need_3 16 rfl rfl)
theorem dX0_need_88 : decode cX0_need 88 = .ok (.ifCond .eq 22, 3) := dk_153 0 22 (dk_at dksX0_need_3 18 rfl rfl)
theorem dX0_need_91 : decode cX0_need 91 = .ok (.aload_n 0, 1) := dk_42 (dk_at dksX0_need_3 21 rfl rfl)
theorem dX0_need_92 : decode cX0_need 92 = .ok (.iload_n 1, 1) := dk_27 (dk_at dksX0_need_3 22 rfl rfl)
theorem dX0_need_93 : decode cX0_need 93 = .ok (.iload_n 2, 1) := dk_28 (dk_at dksX0_need_3 23 rfl rfl)
theorem dX0_need_94 : decode cX0_need 94 = .ok (.iload 4, 2) := dk_21 4 (dk_at dksX0_need_4 0 rfl rfl)
theorem dX0_need_96 : decode cX0_need 96 = .ok (.iload 7, 2) := dk_21 7 (dk_at dksX0_need_4 2 rfl rfl)
theorem dX0_need_98 : decode cX0_need 98 = .ok (.ior, 1) := dk_128 (dk_at dksX0_need_4 4 rfl rfl)
theorem dX0_need_99 : decode cX0_need 99 = .ok (.invokevirtual 230, 3) := dk_182 0 230 (dk_at dksX0_need_4 5 rfl rfl)
theorem dX0_need_102 : decode cX0_need 102 = .ok (.ifCond .eq 8, 3) := dk_153 0 8 (dk_at dksX0_need_4 8 rfl rfl)
theorem dX0_need_105 : decode cX0_need 105 = .ok (.iload 7, 2) := dk_21 7 (dk_at dksX0_need_4 11 rfl rfl)
theorem dX0_need_107 : decode cX0_need 107 = .ok (.goto 5, 3) := dk_167 0 5 (dk_at dksX0_need_4 13 rfl rfl)
theorem dX0_need_110 : decode cX0_need 110 = .ok (.iload 6, 2) := dk_21 6 (dk_at dksX0_need_4 16 rfl rfl)
theorem dX0_need_112 : decode cX0_need 112 = .ok (.istore 6, 2) := dk_54 6 (dk_at dksX0_need_4 18 rfl rfl)
theorem dX0_need_114 : decode cX0_need 114 = .ok (.iinc 7 (-1), 3) := dk_132 7 255 (dk_at dksX0_need_4 20 rfl rfl)
theorem dX0_need_117 : decode cX0_need 117 = .ok (.goto (-73), 3) := dk_167 255 183 (dk_at dksX0_need_5 0 rfl rfl)
theorem dX0_need_120 : decode cX0_need 120 = .ok (.iload 6, 2) := dk_21 6 (dk_at dksX0_need_5 3 rfl rfl)
theorem dX0_need_122 : decode cX0_need 122 = .ok (.ireturn, 1) := dk_172 (dk_at dksX0_need_5 5 rfl rfl)
abbrev cX0_odds : ByteArray := prog_1_method_39_code
def yX0_odds : MethodName := ⟨RX0, "odds", "(IIII)I"⟩
def dkwX0_odds_5 : List UInt8 := [21, 4, 154, 0, 11, 21, 5, 21, 7, 108, 167, 0, 8, 21, 6, 21, 7, 108, 172]
abbrev dktX0_odds_5 : List UInt8 := dkwX0_odds_5 ++ []
def dkwX0_odds_4 : List UInt8 := [16, 10, 42, 180, 0, 30, 180, 0, 126, 184, 1, 2, 54, 6, 21, 5, 21, 6, 184, 1, 5, 54, 7]
abbrev dktX0_odds_4 : List UInt8 := dkwX0_odds_4 ++ dktX0_odds_5
def dkwX0_odds_3 : List UInt8 := [29, 42, 180, 0, 30, 180, 0, 126, 21, 7, 100, 184, 1, 2, 104, 96, 54, 5, 132, 6, 255, 167, 255, 201]
abbrev dktX0_odds_3 : List UInt8 := dkwX0_odds_3 ++ dktX0_odds_4
def dkwX0_odds_2 : List UInt8 := [182, 0, 230, 153, 0, 39, 21, 6, 184, 0, 195, 54, 7, 21, 5, 16, 10, 29, 100, 21, 7, 184, 1, 2]
abbrev dktX0_odds_2 : List UInt8 := dkwX0_odds_2 ++ dktX0_odds_3
def dkwX0_odds_1 : List UInt8 := [154, 0, 5, 2, 172, 3, 54, 5, 42, 182, 0, 211, 54, 6, 21, 6, 155, 0, 56, 42, 27, 28, 21, 6]
abbrev dktX0_odds_1 : List UInt8 := dkwX0_odds_1 ++ dktX0_odds_2
def dkwX0_odds_0 : List UInt8 := [42, 27, 28, 182, 0, 224, 153, 0, 21, 29, 3, 16, 10, 184, 0, 1, 153, 0, 11, 21, 4, 184, 0, 189]
abbrev dktX0_odds_0 : List UInt8 := dkwX0_odds_0 ++ dktX0_odds_1
theorem dksX0_odds_0 : cX0_odds.data.toList.drop 0 = dktX0_odds_0 := by decide +kernel
theorem dksX0_odds_1 : cX0_odds.data.toList.drop 24 = dktX0_odds_1 := dk_seg dksX0_odds_0 24 rfl rfl
theorem dksX0_odds_2 : cX0_odds.data.toList.drop 48 = dktX0_odds_2 := dk_seg dksX0_odds_1 24 rfl rfl
theorem dksX0_odds_3 : cX0_odds.data.toList.drop 72 = dktX0_odds_3 := dk_seg dksX0_odds_2 24 rfl rfl
theorem dksX0_odds_4 : cX0_odds.data.toList.drop 96 = dktX0_odds_4 := dk_seg dksX0_odds_3 24 rfl rfl
theorem dksX0_odds_5 : cX0_odds.data.toList.drop 119 = dktX0_odds_5 := dk_seg dksX0_odds_4 23 rfl rfl
theorem dX0_odds_0 : decode cX0_odds 0 = .ok (.aload_n 0, 1) := dk_42 (dk_at dksX0_odds_0 0 rfl rfl)
theorem dX0_odds_1 : decode cX0_odds 1 = .ok (.iload_n 1, 1) := dk_27 (dk_at dksX0_odds_0 1 rfl rfl)
theorem dX0_odds_2 : decode cX0_odds 2 = .ok (.iload_n 2, 1) := dk_28 (dk_at dksX0_odds_0 2 rfl rfl)
theorem dX0_odds_3 : decode cX0_odds 3 = .ok (.invokevirtual 224, 3) := dk_182 0 224 (dk_at dksX0_odds_0 3 rfl rfl)
theorem dX0_odds_6 : decode cX0_odds 6 = .ok (.ifCond .eq 21, 3) := dk_153 0 21 (dk_at dksX0_odds_0 6 rfl rfl)
theorem dX0_odds_9 : decode cX0_odds 9 = .ok (.iload_n 3, 1) := dk_29 (dk_at dksX0_odds_0 9 rfl rfl)
theorem dX0_odds_10 : decode cX0_odds 10 = .ok (.iconst 0, 1) := dk_3 (dk_at dksX0_odds_0 10 rfl rfl)
theorem dX0_odds_11 : decode cX0_odds 11 = .ok (.bipush 10, 2) := dk_16 10 (dk_at dksX0_odds_0 11 rfl rfl)
theorem dX0_odds_13 : decode cX0_odds 13 = .ok (.invokestatic 1, 3) := dk_184 0 1 (dk_at dksX0_odds_0 13 rfl rfl)
theorem dX0_odds_16 : decode cX0_odds 16 = .ok (.ifCond .eq 11, 3) := dk_153 0 11 (dk_at dksX0_odds_0 16 rfl rfl)
theorem dX0_odds_19 : decode cX0_odds 19 = .ok (.iload 4, 2) := dk_21 4 (dk_at dksX0_odds_0 19 rfl rfl)
theorem dX0_odds_21 : decode cX0_odds 21 = .ok (.invokestatic 189, 3) := dk_184 0 189 (dk_at dksX0_odds_0 21 rfl rfl)
theorem dX0_odds_24 : decode cX0_odds 24 = .ok (.ifCond .ne 5, 3) := dk_154 0 5 (dk_at dksX0_odds_1 0 rfl rfl)
theorem dX0_odds_27 : decode cX0_odds 27 = .ok (.iconst (-1), 1) := dk_2 (dk_at dksX0_odds_1 3 rfl rfl)
theorem dX0_odds_28 : decode cX0_odds 28 = .ok (.ireturn, 1) := dk_172 (dk_at dksX0_odds_1 4 rfl rfl)
theorem dX0_odds_29 : decode cX0_odds 29 = .ok (.iconst 0, 1) := dk_3 (dk_at dksX0_odds_1 5 rfl rfl)
theorem dX0_odds_30 : decode cX0_odds 30 = .ok (.istore 5, 2) := dk_54 5 (dk_at dksX0_odds_1 6 rfl rfl)
theorem dX0_odds_32 : decode cX0_odds 32 = .ok (.aload_n 0, 1) := dk_42 (dk_at dksX0_odds_1 8 rfl rfl)
theorem dX0_odds_33 : decode cX0_odds 33 = .ok (.invokevirtual 211, 3) := dk_182 0 211 (dk_at dksX0_odds_1 9 rfl rfl)
theorem dX0_odds_36 : decode cX0_odds 36 = .ok (.istore 6, 2) := dk_54 6 (dk_at dksX0_odds_1 12 rfl rfl)
theorem dX0_odds_38 : decode cX0_odds 38 = .ok (.iload 6, 2) := dk_21 6 (dk_at dksX0_odds_1 14 rfl rfl)
theorem dX0_odds_40 : decode cX0_odds 40 = .ok (.ifCond .lt 56, 3) := dk_155 0 56 (dk_at dksX0_odds_1 16 rfl rfl)
theorem dX0_odds_43 : decode cX0_odds 43 = .ok (.aload_n 0, 1) := dk_42 (dk_at dksX0_odds_1 19 rfl rfl)
theorem dX0_odds_44 : decode cX0_odds 44 = .ok (.iload_n 1, 1) := dk_27 (dk_at dksX0_odds_1 20 rfl rfl)
theorem dX0_odds_45 : decode cX0_odds 45 = .ok (.iload_n 2, 1) := dk_28 (dk_at dksX0_odds_1 21 rfl rfl)
theorem dX0_odds_46 : decode cX0_odds 46 = .ok (.iload 6, 2) := dk_21 6 (dk_at dksX0_odds_1 22 rfl rfl)
theorem dX0_odds_48 : decode cX0_odds 48 = .ok (.invokevirtual 230, 3) := dk_182 0 230 (dk_at dksX0_odds_2 0 rfl rfl)
theorem dX0_odds_51 : decode cX0_odds 51 = .ok (.ifCond .eq 39, 3) := dk_153 0 39 (dk_at dksX0_odds_2 3 rfl rfl)
theorem dX0_odds_54 : decode cX0_odds 54 = .ok (.iload 6, 2) := dk_21 6 (dk_at dksX0_odds_2 6 rfl rfl)
theorem dX0_odds_56 : decode cX0_odds 56 = .ok (.invokestatic 195, 3) := dk_184 0 195 (dk_at dksX0_odds_2 8 rfl rfl)
theorem dX0_odds_59 : decode cX0_odds 59 = .ok (.istore 7, 2) := dk_54 7 (dk_at dksX0_odds_2 11 rfl rfl)
theorem dX0_odds_61 : decode cX0_odds 61 = .ok (.iload 5, 2) := dk_21 5 (dk_at dksX0_odds_2 13 rfl rfl)
theorem dX0_odds_63 : decode cX0_odds 63 = .ok (.bipush 10, 2) := dk_16 10 (dk_at dksX0_odds_2 15 rfl rfl)
theorem dX0_odds_65 : decode cX0_odds 65 = .ok (.iload_n 3, 1) := dk_29 (dk_at dksX0_odds_2 17 rfl rfl)
theorem dX0_odds_66 : decode cX0_odds 66 = .ok (.isub, 1) := dk_100 (dk_at dksX0_odds_2 18 rfl rfl)
theorem dX0_odds_67 : decode cX0_odds 67 = .ok (.iload 7, 2) := dk_21 7 (dk_at dksX0_odds_2 19 rfl rfl)
theorem dX0_odds_69 : decode cX0_odds 69 = .ok (.invokestatic 258, 3) := dk_184 1 2 (dk_at dksX0_odds_2 21 rfl rfl)
theorem dX0_odds_72 : decode cX0_odds 72 = .ok (.iload_n 3, 1) := dk_29 (dk_at dksX0_odds_3 0 rfl rfl)
theorem dX0_odds_73 : decode cX0_odds 73 = .ok (.aload_n 0, 1) := dk_42 (dk_at dksX0_odds_3 1 rfl rfl)
theorem dX0_odds_74 : decode cX0_odds 74 = .ok (.getfield 30, 3) := dk_180 0 30 (dk_at dksX0_odds_3 2 rfl rfl)
theorem dX0_odds_77 : decode cX0_odds 77 = .ok (.getfield 126, 3) := dk_180 0 126 (dk_at dksX0_odds_3 5 rfl rfl)
theorem dX0_odds_80 : decode cX0_odds 80 = .ok (.iload 7, 2) := dk_21 7 (dk_at dksX0_odds_3 8 rfl rfl)
theorem dX0_odds_82 : decode cX0_odds 82 = .ok (.isub, 1) := dk_100 (dk_at dksX0_odds_3 10 rfl rfl)
theorem dX0_odds_83 : decode cX0_odds 83 = .ok (.invokestatic 258, 3) := dk_184 1 2 (dk_at dksX0_odds_3 11 rfl rfl)
theorem dX0_odds_86 : decode cX0_odds 86 = .ok (.imul, 1) := dk_104 (dk_at dksX0_odds_3 14 rfl rfl)
theorem dX0_odds_87 : decode cX0_odds 87 = .ok (.iadd, 1) := dk_96 (dk_at dksX0_odds_3 15 rfl rfl)
theorem dX0_odds_88 : decode cX0_odds 88 = .ok (.istore 5, 2) := dk_54 5 (dk_at dksX0_odds_3 16 rfl rfl)
theorem dX0_odds_90 : decode cX0_odds 90 = .ok (.iinc 6 (-1), 3) := dk_132 6 255 (dk_at dksX0_odds_3 18 rfl rfl)
theorem dX0_odds_93 : decode cX0_odds 93 = .ok (.goto (-55), 3) := dk_167 255 201 (dk_at dksX0_odds_3 21 rfl rfl)
theorem dX0_odds_96 : decode cX0_odds 96 = .ok (.bipush 10, 2) := dk_16 10 (dk_at dksX0_odds_4 0 rfl rfl)
theorem dX0_odds_98 : decode cX0_odds 98 = .ok (.aload_n 0, 1) := dk_42 (dk_at dksX0_odds_4 2 rfl rfl)
theorem dX0_odds_99 : decode cX0_odds 99 = .ok (.getfield 30, 3) := dk_180 0 30 (dk_at dksX0_odds_4 3 rfl rfl)
theorem dX0_odds_102 : decode cX0_odds 102 = .ok (.getfield 126, 3) := dk_180 0 126 (dk_at dksX0_odds_4 6 rfl rfl)
theorem dX0_odds_105 : decode cX0_odds 105 = .ok (.invokestatic 258, 3) := dk_184 1 2 (dk_at dksX0_odds_4 9 rfl rfl)
theorem dX0_odds_108 : decode cX0_odds 108 = .ok (.istore 6, 2) := dk_54 6 (dk_at dksX0_odds_4 12 rfl rfl)
theorem dX0_odds_110 : decode cX0_odds 110 = .ok (.iload 5, 2) := dk_21 5 (dk_at dksX0_odds_4 14 rfl rfl)
theorem dX0_odds_112 : decode cX0_odds 112 = .ok (.iload 6, 2) := dk_21 6 (dk_at dksX0_odds_4 16 rfl rfl)
theorem dX0_odds_114 : decode cX0_odds 114 = .ok (.invokestatic 261, 3) := dk_184 1 5 (dk_at dksX0_odds_4 18 rfl rfl)
theorem dX0_odds_117 : decode cX0_odds 117 = .ok (.istore 7, 2) := dk_54 7 (dk_at dksX0_odds_4 21 rfl rfl)
theorem dX0_odds_119 : decode cX0_odds 119 = .ok (.iload 4, 2) := dk_21 4 (dk_at dksX0_odds_5 0 rfl rfl)
theorem dX0_odds_121 : decode cX0_odds 121 = .ok (.ifCond .ne 11, 3) := dk_154 0 11 (dk_at dksX0_odds_5 2 rfl rfl)
theorem dX0_odds_124 : decode cX0_odds 124 = .ok (.iload 5, 2) := dk_21 5 (dk_at dksX0_odds_5 5 rfl rfl)
theorem dX0_odds_126 : decode cX0_odds 126 = .ok (.iload 7, 2) := dk_21 7 (dk_at dksX0_odds_5 7 rfl rfl)
theorem dX0_odds_128 : decode cX0_odds 128 = .ok (.idiv, 1) := dk_108 (dk_at dksX0_odds_5 9 rfl rfl)
theorem dX0_odds_129 : decode cX0_odds 129 = .ok (.goto 8, 3) := dk_167 0 8 (dk_at dksX0_odds_5 10 rfl rfl)
theorem dX0_odds_132 : decode cX0_odds 132 = .ok (.iload 6, 2) := dk_21 6 (dk_at dksX0_odds_5 13 rfl rfl)
theorem dX0_odds_134 : decode cX0_odds 134 = .ok (.iload 7, 2) := dk_21 7 (dk_at dksX0_odds_5 15 rfl rfl)
theorem dX0_odds_136 : decode cX0_odds 136 = .ok (.idiv, 1) := dk_108 (dk_at dksX0_odds_5 17 rfl rfl)
theorem dX0_odds_137 : decode cX0_odds 137 = .ok (.ireturn, 1) := dk_172 (dk_at dksX0_odds_5 18 rfl rfl)
abbrev cX0_power : ByteArray := prog_1_method_38_code
def yX0_power : MethodName := ⟨RX0, "power", "(II)I"⟩
def dkwX0_power_0 : List UInt8 := [4, 61, 3, 62, 29, 27, 162, 0, 13, 28, 26, 104, 61, 132, 3, 1, 167, 255, 244, 28, 172]
abbrev dktX0_power_0 : List UInt8 := dkwX0_power_0 ++ []
theorem dksX0_power_0 : cX0_power.data.toList.drop 0 = dktX0_power_0 := by decide +kernel
theorem dX0_power_0 : decode cX0_power 0 = .ok (.iconst 1, 1) := dk_4 (dk_at dksX0_power_0 0 rfl rfl)
theorem dX0_power_1 : decode cX0_power 1 = .ok (.istore_n 2, 1) := dk_61 (dk_at dksX0_power_0 1 rfl rfl)
theorem dX0_power_2 : decode cX0_power 2 = .ok (.iconst 0, 1) := dk_3 (dk_at dksX0_power_0 2 rfl rfl)
theorem dX0_power_3 : decode cX0_power 3 = .ok (.istore_n 3, 1) := dk_62 (dk_at dksX0_power_0 3 rfl rfl)
theorem dX0_power_4 : decode cX0_power 4 = .ok (.iload_n 3, 1) := dk_29 (dk_at dksX0_power_0 4 rfl rfl)
theorem dX0_power_5 : decode cX0_power 5 = .ok (.iload_n 1, 1) := dk_27 (dk_at dksX0_power_0 5 rfl rfl)
theorem dX0_power_6 : decode cX0_power 6 = .ok (.if_icmp .ge 13, 3) := dk_162 0 13 (dk_at dksX0_power_0 6 rfl rfl)
theorem dX0_power_9 : decode cX0_power 9 = .ok (.iload_n 2, 1) := dk_28 (dk_at dksX0_power_0 9 rfl rfl)
theorem dX0_power_10 : decode cX0_power 10 = .ok (.iload_n 0, 1) := dk_26 (dk_at dksX0_power_0 10 rfl rfl)
theorem dX0_power_11 : decode cX0_power 11 = .ok (.imul, 1) := dk_104 (dk_at dksX0_power_0 11 rfl rfl)
theorem dX0_power_12 : decode cX0_power 12 = .ok (.istore_n 2, 1) := dk_61 (dk_at dksX0_power_0 12 rfl rfl)
theorem dX0_power_13 : decode cX0_power 13 = .ok (.iinc 3 1, 3) := dk_132 3 1 (dk_at dksX0_power_0 13 rfl rfl)
theorem dX0_power_16 : decode cX0_power 16 = .ok (.goto (-12), 3) := dk_167 255 244 (dk_at dksX0_power_0 16 rfl rfl)
theorem dX0_power_19 : decode cX0_power 19 = .ok (.iload_n 2, 1) := dk_28 (dk_at dksX0_power_0 19 rfl rfl)
theorem dX0_power_20 : decode cX0_power 20 = .ok (.ireturn, 1) := dk_172 (dk_at dksX0_power_0 20 rfl rfl)
abbrev cX0_gcd : ByteArray := prog_1_method_37_code
def yX0_gcd : MethodName := ⟨RX0, "gcd", "(II)I"⟩
def dkwX0_gcd_0 : List UInt8 := [26, 61, 27, 62, 29, 153, 0, 16, 28, 29, 112, 54, 4, 29, 61, 21, 4, 62, 167, 255, 242, 28, 172]
abbrev dktX0_gcd_0 : List UInt8 := dkwX0_gcd_0 ++ []
theorem dksX0_gcd_0 : cX0_gcd.data.toList.drop 0 = dktX0_gcd_0 := by decide +kernel
theorem dX0_gcd_0 : decode cX0_gcd 0 = .ok (.iload_n 0, 1) := dk_26 (dk_at dksX0_gcd_0 0 rfl rfl)
theorem dX0_gcd_1 : decode cX0_gcd 1 = .ok (.istore_n 2, 1) := dk_61 (dk_at dksX0_gcd_0 1 rfl rfl)
theorem dX0_gcd_2 : decode cX0_gcd 2 = .ok (.iload_n 1, 1) := dk_27 (dk_at dksX0_gcd_0 2 rfl rfl)
theorem dX0_gcd_3 : decode cX0_gcd 3 = .ok (.istore_n 3, 1) := dk_62 (dk_at dksX0_gcd_0 3 rfl rfl)
theorem dX0_gcd_4 : decode cX0_gcd 4 = .ok (.iload_n 3, 1) := dk_29 (dk_at dksX0_gcd_0 4 rfl rfl)
theorem dX0_gcd_5 : decode cX0_gcd 5 = .ok (.ifCond .eq 16, 3) := dk_153 0 16 (dk_at dksX0_gcd_0 5 rfl rfl)
theorem dX0_gcd_8 : decode cX0_gcd 8 = .ok (.iload_n 2, 1) := dk_28 (dk_at dksX0_gcd_0 8 rfl rfl)
theorem dX0_gcd_9 : decode cX0_gcd 9 = .ok (.iload_n 3, 1) := dk_29 (dk_at dksX0_gcd_0 9 rfl rfl)
theorem dX0_gcd_10 : decode cX0_gcd 10 = .ok (.irem, 1) := dk_112 (dk_at dksX0_gcd_0 10 rfl rfl)
theorem dX0_gcd_11 : decode cX0_gcd 11 = .ok (.istore 4, 2) := dk_54 4 (dk_at dksX0_gcd_0 11 rfl rfl)
theorem dX0_gcd_13 : decode cX0_gcd 13 = .ok (.iload_n 3, 1) := dk_29 (dk_at dksX0_gcd_0 13 rfl rfl)
theorem dX0_gcd_14 : decode cX0_gcd 14 = .ok (.istore_n 2, 1) := dk_61 (dk_at dksX0_gcd_0 14 rfl rfl)
theorem dX0_gcd_15 : decode cX0_gcd 15 = .ok (.iload 4, 2) := dk_21 4 (dk_at dksX0_gcd_0 15 rfl rfl)
theorem dX0_gcd_17 : decode cX0_gcd 17 = .ok (.istore_n 3, 1) := dk_62 (dk_at dksX0_gcd_0 17 rfl rfl)
theorem dX0_gcd_18 : decode cX0_gcd 18 = .ok (.goto (-14), 3) := dk_167 255 242 (dk_at dksX0_gcd_0 18 rfl rfl)
theorem dX0_gcd_21 : decode cX0_gcd 21 = .ok (.iload_n 2, 1) := dk_28 (dk_at dksX0_gcd_0 21 rfl rfl)
theorem dX0_gcd_22 : decode cX0_gcd 22 = .ok (.ireturn, 1) := dk_172 (dk_at dksX0_gcd_0 22 rfl rfl)
abbrev cX0_carriage : ByteArray := prog_1_method_41_code
def yX0_carriage : MethodName := ⟨RX0, "carriage", "(I)I"⟩
def dkwX0_carriage_1 : List UInt8 := [182, 1, 11, 27, 2, 160, 0, 10, 42, 180, 1, 8, 167, 0, 9, 42, 180, 0, 94, 27, 46, 172]
abbrev dktX0_carriage_1 : List UInt8 := dkwX0_carriage_1 ++ []
def dkwX0_carriage_0 : List UInt8 := [27, 2, 159, 0, 13, 42, 27, 182, 0, 162, 154, 0, 5, 2, 172, 42, 2, 181, 1, 8, 42, 3, 3, 3]
abbrev dktX0_carriage_0 : List UInt8 := dkwX0_carriage_0 ++ dktX0_carriage_1
theorem dksX0_carriage_0 : cX0_carriage.data.toList.drop 0 = dktX0_carriage_0 := by decide +kernel
theorem dksX0_carriage_1 : cX0_carriage.data.toList.drop 24 = dktX0_carriage_1 := dk_seg dksX0_carriage_0 24 rfl rfl
theorem dX0_carriage_0 : decode cX0_carriage 0 = .ok (.iload_n 1, 1) := dk_27 (dk_at dksX0_carriage_0 0 rfl rfl)
theorem dX0_carriage_1 : decode cX0_carriage 1 = .ok (.iconst (-1), 1) := dk_2 (dk_at dksX0_carriage_0 1 rfl rfl)
theorem dX0_carriage_2 : decode cX0_carriage 2 = .ok (.if_icmp .eq 13, 3) := dk_159 0 13 (dk_at dksX0_carriage_0 2 rfl rfl)
theorem dX0_carriage_5 : decode cX0_carriage 5 = .ok (.aload_n 0, 1) := dk_42 (dk_at dksX0_carriage_0 5 rfl rfl)
theorem dX0_carriage_6 : decode cX0_carriage 6 = .ok (.iload_n 1, 1) := dk_27 (dk_at dksX0_carriage_0 6 rfl rfl)
theorem dX0_carriage_7 : decode cX0_carriage 7 = .ok (.invokevirtual 162, 3) := dk_182 0 162 (dk_at dksX0_carriage_0 7 rfl rfl)
theorem dX0_carriage_10 : decode cX0_carriage 10 = .ok (.ifCond .ne 5, 3) := dk_154 0 5 (dk_at dksX0_carriage_0 10 rfl rfl)
theorem dX0_carriage_13 : decode cX0_carriage 13 = .ok (.iconst (-1), 1) := dk_2 (dk_at dksX0_carriage_0 13 rfl rfl)
theorem dX0_carriage_14 : decode cX0_carriage 14 = .ok (.ireturn, 1) := dk_172 (dk_at dksX0_carriage_0 14 rfl rfl)
theorem dX0_carriage_15 : decode cX0_carriage 15 = .ok (.aload_n 0, 1) := dk_42 (dk_at dksX0_carriage_0 15 rfl rfl)
theorem dX0_carriage_16 : decode cX0_carriage 16 = .ok (.iconst (-1), 1) := dk_2 (dk_at dksX0_carriage_0 16 rfl rfl)
theorem dX0_carriage_17 : decode cX0_carriage 17 = .ok (.putfield 264, 3) := dk_181 1 8 (dk_at dksX0_carriage_0 17 rfl rfl)
theorem dX0_carriage_20 : decode cX0_carriage 20 = .ok (.aload_n 0, 1) := dk_42 (dk_at dksX0_carriage_0 20 rfl rfl)
theorem dX0_carriage_21 : decode cX0_carriage 21 = .ok (.iconst 0, 1) := dk_3 (dk_at dksX0_carriage_0 21 rfl rfl)
theorem dX0_carriage_22 : decode cX0_carriage 22 = .ok (.iconst 0, 1) := dk_3 (dk_at dksX0_carriage_0 22 rfl rfl)
theorem dX0_carriage_23 : decode cX0_carriage 23 = .ok (.iconst 0, 1) := dk_3 (dk_at dksX0_carriage_0 23 rfl rfl)
theorem dX0_carriage_24 : decode cX0_carriage 24 = .ok (.invokevirtual 267, 3) := dk_182 1 11 (dk_at dksX0_carriage_1 0 rfl rfl)
theorem dX0_carriage_27 : decode cX0_carriage 27 = .ok (.iload_n 1, 1) := dk_27 (dk_at dksX0_carriage_1 3 rfl rfl)
theorem dX0_carriage_28 : decode cX0_carriage 28 = .ok (.iconst (-1), 1) := dk_2 (dk_at dksX0_carriage_1 4 rfl rfl)
theorem dX0_carriage_29 : decode cX0_carriage 29 = .ok (.if_icmp .ne 10, 3) := dk_160 0 10 (dk_at dksX0_carriage_1 5 rfl rfl)
theorem dX0_carriage_32 : decode cX0_carriage 32 = .ok (.aload_n 0, 1) := dk_42 (dk_at dksX0_carriage_1 8 rfl rfl)
theorem dX0_carriage_33 : decode cX0_carriage 33 = .ok (.getfield 264, 3) := dk_180 1 8 (dk_at dksX0_carriage_1 9 rfl rfl)
theorem dX0_carriage_36 : decode cX0_carriage 36 = .ok (.goto 9, 3) := dk_167 0 9 (dk_at dksX0_carriage_1 12 rfl rfl)
theorem dX0_carriage_39 : decode cX0_carriage 39 = .ok (.aload_n 0, 1) := dk_42 (dk_at dksX0_carriage_1 15 rfl rfl)
theorem dX0_carriage_40 : decode cX0_carriage 40 = .ok (.getfield 94, 3) := dk_180 0 94 (dk_at dksX0_carriage_1 16 rfl rfl)
theorem dX0_carriage_43 : decode cX0_carriage 43 = .ok (.iload_n 1, 1) := dk_27 (dk_at dksX0_carriage_1 19 rfl rfl)
theorem dX0_carriage_44 : decode cX0_carriage 44 = .ok (.iaload, 1) := dk_46 (dk_at dksX0_carriage_1 20 rfl rfl)
theorem dX0_carriage_45 : decode cX0_carriage 45 = .ok (.ireturn, 1) := dk_172 (dk_at dksX0_carriage_1 21 rfl rfl)
abbrev cX0_gives : ByteArray := prog_1_method_40_code
def yX0_gives : MethodName := ⟨RX0, "gives", "(III)V"⟩
def dkwX0_gives_5 : List UInt8 := [180, 0, 91, 27, 16, 247, 79, 42, 27, 4, 96, 28, 29, 182, 1, 11, 177]
abbrev dktX0_gives_5 : List UInt8 := dkwX0_gives_5 ++ []
def dkwX0_gives_4 : List UInt8 := [27, 4, 96, 28, 4, 21, 4, 120, 128, 29, 4, 96, 182, 1, 11, 132, 4, 1, 167, 255, 187, 42]
abbrev dktX0_gives_4 : List UInt8 := dkwX0_gives_4 ++ dktX0_gives_5
def dkwX0_gives_3 : List UInt8 := [182, 0, 154, 42, 180, 0, 30, 180, 0, 168, 27, 46, 161, 0, 27, 42, 180, 0, 91, 27, 21, 4, 79, 42]
abbrev dktX0_gives_3 : List UInt8 := dkwX0_gives_3 ++ dktX0_gives_4
def dkwX0_gives_2 : List UInt8 := [180, 0, 30, 180, 0, 126, 162, 0, 63, 28, 21, 4, 184, 0, 204, 154, 0, 48, 42, 180, 0, 49, 21, 4]
abbrev dktX0_gives_2 : List UInt8 := dkwX0_gives_2 ++ dktX0_gives_3
def dkwX0_gives_1 : List UInt8 := [42, 180, 0, 91, 3, 42, 180, 0, 94, 3, 16, 6, 184, 0, 174, 177, 3, 54, 4, 21, 4, 42]
abbrev dktX0_gives_1 : List UInt8 := dkwX0_gives_1 ++ dktX0_gives_2
def dkwX0_gives_0 : List UInt8 := [27, 42, 180, 0, 30, 180, 0, 129, 160, 0, 32, 29, 42, 180, 1, 8, 164, 0, 23, 42, 29, 181, 1, 8]
abbrev dktX0_gives_0 : List UInt8 := dkwX0_gives_0 ++ dktX0_gives_1
theorem dksX0_gives_0 : cX0_gives.data.toList.drop 0 = dktX0_gives_0 := by decide +kernel
theorem dksX0_gives_1 : cX0_gives.data.toList.drop 24 = dktX0_gives_1 := dk_seg dksX0_gives_0 24 rfl rfl
theorem dksX0_gives_2 : cX0_gives.data.toList.drop 46 = dktX0_gives_2 := dk_seg dksX0_gives_1 22 rfl rfl
theorem dksX0_gives_3 : cX0_gives.data.toList.drop 70 = dktX0_gives_3 := dk_seg dksX0_gives_2 24 rfl rfl
theorem dksX0_gives_4 : cX0_gives.data.toList.drop 94 = dktX0_gives_4 := dk_seg dksX0_gives_3 24 rfl rfl
theorem dksX0_gives_5 : cX0_gives.data.toList.drop 116 = dktX0_gives_5 := dk_seg dksX0_gives_4 22 rfl rfl
theorem dX0_gives_0 : decode cX0_gives 0 = .ok (.iload_n 1, 1) := dk_27 (dk_at dksX0_gives_0 0 rfl rfl)
theorem dX0_gives_1 : decode cX0_gives 1 = .ok (.aload_n 0, 1) := dk_42 (dk_at dksX0_gives_0 1 rfl rfl)
theorem dX0_gives_2 : decode cX0_gives 2 = .ok (.getfield 30, 3) := dk_180 0 30 (dk_at dksX0_gives_0 2 rfl rfl)
theorem dX0_gives_5 : decode cX0_gives 5 = .ok (.getfield 129, 3) := dk_180 0 129 (dk_at dksX0_gives_0 5 rfl rfl)
theorem dX0_gives_8 : decode cX0_gives 8 = .ok (.if_icmp .ne 32, 3) := dk_160 0 32 (dk_at dksX0_gives_0 8 rfl rfl)
theorem dX0_gives_11 : decode cX0_gives 11 = .ok (.iload_n 3, 1) := dk_29 (dk_at dksX0_gives_0 11 rfl rfl)
theorem dX0_gives_12 : decode cX0_gives 12 = .ok (.aload_n 0, 1) := dk_42 (dk_at dksX0_gives_0 12 rfl rfl)
theorem dX0_gives_13 : decode cX0_gives 13 = .ok (.getfield 264, 3) := dk_180 1 8 (dk_at dksX0_gives_0 13 rfl rfl)
theorem dX0_gives_16 : decode cX0_gives 16 = .ok (.if_icmp .le 23, 3) := dk_164 0 23 (dk_at dksX0_gives_0 16 rfl rfl)
theorem dX0_gives_19 : decode cX0_gives 19 = .ok (.aload_n 0, 1) := dk_42 (dk_at dksX0_gives_0 19 rfl rfl)
theorem dX0_gives_20 : decode cX0_gives 20 = .ok (.iload_n 3, 1) := dk_29 (dk_at dksX0_gives_0 20 rfl rfl)
theorem dX0_gives_21 : decode cX0_gives 21 = .ok (.putfield 264, 3) := dk_181 1 8 (dk_at dksX0_gives_0 21 rfl rfl)
theorem dX0_gives_24 : decode cX0_gives 24 = .ok (.aload_n 0, 1) := dk_42 (dk_at dksX0_gives_1 0 rfl rfl)
theorem dX0_gives_25 : decode cX0_gives 25 = .ok (.getfield 91, 3) := dk_180 0 91 (dk_at dksX0_gives_1 1 rfl rfl)
theorem dX0_gives_28 : decode cX0_gives 28 = .ok (.iconst 0, 1) := dk_3 (dk_at dksX0_gives_1 4 rfl rfl)
theorem dX0_gives_29 : decode cX0_gives 29 = .ok (.aload_n 0, 1) := dk_42 (dk_at dksX0_gives_1 5 rfl rfl)
theorem dX0_gives_30 : decode cX0_gives 30 = .ok (.getfield 94, 3) := dk_180 0 94 (dk_at dksX0_gives_1 6 rfl rfl)
theorem dX0_gives_33 : decode cX0_gives 33 = .ok (.iconst 0, 1) := dk_3 (dk_at dksX0_gives_1 9 rfl rfl)
theorem dX0_gives_34 : decode cX0_gives 34 = .ok (.bipush 6, 2) := dk_16 6 (dk_at dksX0_gives_1 10 rfl rfl)
theorem dX0_gives_36 : decode cX0_gives 36 = .ok (.invokestatic 174, 3) := dk_184 0 174 (dk_at dksX0_gives_1 12 rfl rfl)
theorem dX0_gives_39 : decode cX0_gives 39 = .ok (.return_, 1) := dk_177 (dk_at dksX0_gives_1 15 rfl rfl)
theorem dX0_gives_40 : decode cX0_gives 40 = .ok (.iconst 0, 1) := dk_3 (dk_at dksX0_gives_1 16 rfl rfl)
theorem dX0_gives_41 : decode cX0_gives 41 = .ok (.istore 4, 2) := dk_54 4 (dk_at dksX0_gives_1 17 rfl rfl)
theorem dX0_gives_43 : decode cX0_gives 43 = .ok (.iload 4, 2) := dk_21 4 (dk_at dksX0_gives_1 19 rfl rfl)
theorem dX0_gives_45 : decode cX0_gives 45 = .ok (.aload_n 0, 1) := dk_42 (dk_at dksX0_gives_1 21 rfl rfl)
theorem dX0_gives_46 : decode cX0_gives 46 = .ok (.getfield 30, 3) := dk_180 0 30 (dk_at dksX0_gives_2 0 rfl rfl)
theorem dX0_gives_49 : decode cX0_gives 49 = .ok (.getfield 126, 3) := dk_180 0 126 (dk_at dksX0_gives_2 3 rfl rfl)
theorem dX0_gives_52 : decode cX0_gives 52 = .ok (.if_icmp .ge 63, 3) := dk_162 0 63 (dk_at dksX0_gives_2 6 rfl rfl)
theorem dX0_gives_55 : decode cX0_gives 55 = .ok (.iload_n 2, 1) := dk_28 (dk_at dksX0_gives_2 9 rfl rfl)
theorem dX0_gives_56 : decode cX0_gives 56 = .ok (.iload 4, 2) := dk_21 4 (dk_at dksX0_gives_2 10 rfl rfl)
theorem dX0_gives_58 : decode cX0_gives 58 = .ok (.invokestatic 204, 3) := dk_184 0 204 (dk_at dksX0_gives_2 12 rfl rfl)
theorem dX0_gives_61 : decode cX0_gives 61 = .ok (.ifCond .ne 48, 3) := dk_154 0 48 (dk_at dksX0_gives_2 15 rfl rfl)
theorem dX0_gives_64 : decode cX0_gives 64 = .ok (.aload_n 0, 1) := dk_42 (dk_at dksX0_gives_2 18 rfl rfl)
theorem dX0_gives_65 : decode cX0_gives 65 = .ok (.getfield 49, 3) := dk_180 0 49 (dk_at dksX0_gives_2 19 rfl rfl)
theorem dX0_gives_68 : decode cX0_gives 68 = .ok (.iload 4, 2) := dk_21 4 (dk_at dksX0_gives_2 22 rfl rfl)
theorem dX0_gives_70 : decode cX0_gives 70 = .ok (.invokevirtual 154, 3) := dk_182 0 154 (dk_at dksX0_gives_3 0 rfl rfl)
theorem dX0_gives_73 : decode cX0_gives 73 = .ok (.aload_n 0, 1) := dk_42 (dk_at dksX0_gives_3 3 rfl rfl)
theorem dX0_gives_74 : decode cX0_gives 74 = .ok (.getfield 30, 3) := dk_180 0 30 (dk_at dksX0_gives_3 4 rfl rfl)
theorem dX0_gives_77 : decode cX0_gives 77 = .ok (.getfield 168, 3) := dk_180 0 168 (dk_at dksX0_gives_3 7 rfl rfl)
theorem dX0_gives_80 : decode cX0_gives 80 = .ok (.iload_n 1, 1) := dk_27 (dk_at dksX0_gives_3 10 rfl rfl)
theorem dX0_gives_81 : decode cX0_gives 81 = .ok (.iaload, 1) := dk_46 (dk_at dksX0_gives_3 11 rfl rfl)
theorem dX0_gives_82 : decode cX0_gives 82 = .ok (.if_icmp .lt 27, 3) := dk_161 0 27 (dk_at dksX0_gives_3 12 rfl rfl)
theorem dX0_gives_85 : decode cX0_gives 85 = .ok (.aload_n 0, 1) := dk_42 (dk_at dksX0_gives_3 15 rfl rfl)
theorem dX0_gives_86 : decode cX0_gives 86 = .ok (.getfield 91, 3) := dk_180 0 91 (dk_at dksX0_gives_3 16 rfl rfl)
theorem dX0_gives_89 : decode cX0_gives 89 = .ok (.iload_n 1, 1) := dk_27 (dk_at dksX0_gives_3 19 rfl rfl)
theorem dX0_gives_90 : decode cX0_gives 90 = .ok (.iload 4, 2) := dk_21 4 (dk_at dksX0_gives_3 20 rfl rfl)
theorem dX0_gives_92 : decode cX0_gives 92 = .ok (.iastore, 1) := dk_79 (dk_at dksX0_gives_3 22 rfl rfl)
theorem dX0_gives_93 : decode cX0_gives 93 = .ok (.aload_n 0, 1) := dk_42 (dk_at dksX0_gives_3 23 rfl rfl)
theorem dX0_gives_94 : decode cX0_gives 94 = .ok (.iload_n 1, 1) := dk_27 (dk_at dksX0_gives_4 0 rfl rfl)
theorem dX0_gives_95 : decode cX0_gives 95 = .ok (.iconst 1, 1) := dk_4 (dk_at dksX0_gives_4 1 rfl rfl)
theorem dX0_gives_96 : decode cX0_gives 96 = .ok (.iadd, 1) := dk_96 (dk_at dksX0_gives_4 2 rfl rfl)
theorem dX0_gives_97 : decode cX0_gives 97 = .ok (.iload_n 2, 1) := dk_28 (dk_at dksX0_gives_4 3 rfl rfl)
theorem dX0_gives_98 : decode cX0_gives 98 = .ok (.iconst 1, 1) := dk_4 (dk_at dksX0_gives_4 4 rfl rfl)
theorem dX0_gives_99 : decode cX0_gives 99 = .ok (.iload 4, 2) := dk_21 4 (dk_at dksX0_gives_4 5 rfl rfl)
theorem dX0_gives_101 : decode cX0_gives 101 = .ok (.ishl, 1) := dk_120 (dk_at dksX0_gives_4 7 rfl rfl)
theorem dX0_gives_102 : decode cX0_gives 102 = .ok (.ior, 1) := dk_128 (dk_at dksX0_gives_4 8 rfl rfl)
theorem dX0_gives_103 : decode cX0_gives 103 = .ok (.iload_n 3, 1) := dk_29 (dk_at dksX0_gives_4 9 rfl rfl)
theorem dX0_gives_104 : decode cX0_gives 104 = .ok (.iconst 1, 1) := dk_4 (dk_at dksX0_gives_4 10 rfl rfl)
theorem dX0_gives_105 : decode cX0_gives 105 = .ok (.iadd, 1) := dk_96 (dk_at dksX0_gives_4 11 rfl rfl)
theorem dX0_gives_106 : decode cX0_gives 106 = .ok (.invokevirtual 267, 3) := dk_182 1 11 (dk_at dksX0_gives_4 12 rfl rfl)
theorem dX0_gives_109 : decode cX0_gives 109 = .ok (.iinc 4 1, 3) := dk_132 4 1 (dk_at dksX0_gives_4 15 rfl rfl)
theorem dX0_gives_112 : decode cX0_gives 112 = .ok (.goto (-69), 3) := dk_167 255 187 (dk_at dksX0_gives_4 18 rfl rfl)
theorem dX0_gives_115 : decode cX0_gives 115 = .ok (.aload_n 0, 1) := dk_42 (dk_at dksX0_gives_4 21 rfl rfl)
theorem dX0_gives_116 : decode cX0_gives 116 = .ok (.getfield 91, 3) := dk_180 0 91 (dk_at dksX0_gives_5 0 rfl rfl)
theorem dX0_gives_119 : decode cX0_gives 119 = .ok (.iload_n 1, 1) := dk_27 (dk_at dksX0_gives_5 3 rfl rfl)
theorem dX0_gives_120 : decode cX0_gives 120 = .ok (.bipush (-9), 2) := dk_16 247 (dk_at dksX0_gives_5 4 rfl rfl)
theorem dX0_gives_122 : decode cX0_gives 122 = .ok (.iastore, 1) := dk_79 (dk_at dksX0_gives_5 6 rfl rfl)
theorem dX0_gives_123 : decode cX0_gives 123 = .ok (.aload_n 0, 1) := dk_42 (dk_at dksX0_gives_5 7 rfl rfl)
theorem dX0_gives_124 : decode cX0_gives 124 = .ok (.iload_n 1, 1) := dk_27 (dk_at dksX0_gives_5 8 rfl rfl)
theorem dX0_gives_125 : decode cX0_gives 125 = .ok (.iconst 1, 1) := dk_4 (dk_at dksX0_gives_5 9 rfl rfl)
theorem dX0_gives_126 : decode cX0_gives 126 = .ok (.iadd, 1) := dk_96 (dk_at dksX0_gives_5 10 rfl rfl)
theorem dX0_gives_127 : decode cX0_gives 127 = .ok (.iload_n 2, 1) := dk_28 (dk_at dksX0_gives_5 11 rfl rfl)
theorem dX0_gives_128 : decode cX0_gives 128 = .ok (.iload_n 3, 1) := dk_29 (dk_at dksX0_gives_5 12 rfl rfl)
theorem dX0_gives_129 : decode cX0_gives 129 = .ok (.invokevirtual 267, 3) := dk_182 1 11 (dk_at dksX0_gives_5 13 rfl rfl)
theorem dX0_gives_132 : decode cX0_gives 132 = .ok (.return_, 1) := dk_177 (dk_at dksX0_gives_5 16 rfl rfl)
abbrev cX0_measures : ByteArray := prog_1_method_42_code
def yX0_measures : MethodName := ⟨RX0, "measures", "(II)I"⟩
def dkwX0_measures_2 : List UInt8 := [160, 0, 7, 4, 167, 0, 4, 3, 84, 42, 89, 180, 0, 43, 4, 96, 181, 0, 43, 42, 180, 0, 43, 172]
abbrev dktX0_measures_2 : List UInt8 := dkwX0_measures_2 ++ []
def dkwX0_measures_1 : List UInt8 := [16, 253, 172, 42, 180, 0, 97, 42, 180, 0, 43, 27, 79, 42, 180, 0, 100, 42, 180, 0, 43, 28, 4]
abbrev dktX0_measures_1 : List UInt8 := dkwX0_measures_1 ++ dktX0_measures_2
def dkwX0_measures_0 : List UInt8 := [27, 184, 0, 233, 153, 0, 10, 28, 184, 0, 189, 154, 0, 5, 2, 172, 42, 180, 0, 43, 7, 160, 0, 6]
abbrev dktX0_measures_0 : List UInt8 := dkwX0_measures_0 ++ dktX0_measures_1
theorem dksX0_measures_0 : cX0_measures.data.toList.drop 0 = dktX0_measures_0 := by decide +kernel
theorem dksX0_measures_1 : cX0_measures.data.toList.drop 24 = dktX0_measures_1 := dk_seg dksX0_measures_0 24 rfl rfl
theorem dksX0_measures_2 : cX0_measures.data.toList.drop 47 = dktX0_measures_2 := dk_seg dksX0_measures_1 23 rfl rfl
theorem dX0_measures_0 : decode cX0_measures 0 = .ok (.iload_n 1, 1) := dk_27 (dk_at dksX0_measures_0 0 rfl rfl)
theorem dX0_measures_1 : decode cX0_measures 1 = .ok (.invokestatic 233, 3) := dk_184 0 233 (dk_at dksX0_measures_0 1 rfl rfl)
theorem dX0_measures_4 : decode cX0_measures 4 = .ok (.ifCond .eq 10, 3) := dk_153 0 10 (dk_at dksX0_measures_0 4 rfl rfl)
theorem dX0_measures_7 : decode cX0_measures 7 = .ok (.iload_n 2, 1) := dk_28 (dk_at dksX0_measures_0 7 rfl rfl)
theorem dX0_measures_8 : decode cX0_measures 8 = .ok (.invokestatic 189, 3) := dk_184 0 189 (dk_at dksX0_measures_0 8 rfl rfl)
theorem dX0_measures_11 : decode cX0_measures 11 = .ok (.ifCond .ne 5, 3) := dk_154 0 5 (dk_at dksX0_measures_0 11 rfl rfl)
theorem dX0_measures_14 : decode cX0_measures 14 = .ok (.iconst (-1), 1) := dk_2 (dk_at dksX0_measures_0 14 rfl rfl)
theorem dX0_measures_15 : decode cX0_measures 15 = .ok (.ireturn, 1) := dk_172 (dk_at dksX0_measures_0 15 rfl rfl)
theorem dX0_measures_16 : decode cX0_measures 16 = .ok (.aload_n 0, 1) := dk_42 (dk_at dksX0_measures_0 16 rfl rfl)
theorem dX0_measures_17 : decode cX0_measures 17 = .ok (.getfield 43, 3) := dk_180 0 43 (dk_at dksX0_measures_0 17 rfl rfl)
theorem dX0_measures_20 : decode cX0_measures 20 = .ok (.iconst 4, 1) := dk_7 (dk_at dksX0_measures_0 20 rfl rfl)
theorem dX0_measures_21 : decode cX0_measures 21 = .ok (.if_icmp .ne 6, 3) := dk_160 0 6 (dk_at dksX0_measures_0 21 rfl rfl)
theorem dX0_measures_24 : decode cX0_measures 24 = .ok (.bipush (-3), 2) := dk_16 253 (dk_at dksX0_measures_1 0 rfl rfl)
theorem dX0_measures_26 : decode cX0_measures 26 = .ok (.ireturn, 1) := dk_172 (dk_at dksX0_measures_1 2 rfl rfl)
theorem dX0_measures_27 : decode cX0_measures 27 = .ok (.aload_n 0, 1) := dk_42 (dk_at dksX0_measures_1 3 rfl rfl)
theorem dX0_measures_28 : decode cX0_measures 28 = .ok (.getfield 97, 3) := dk_180 0 97 (dk_at dksX0_measures_1 4 rfl rfl)
theorem dX0_measures_31 : decode cX0_measures 31 = .ok (.aload_n 0, 1) := dk_42 (dk_at dksX0_measures_1 7 rfl rfl)
theorem dX0_measures_32 : decode cX0_measures 32 = .ok (.getfield 43, 3) := dk_180 0 43 (dk_at dksX0_measures_1 8 rfl rfl)
theorem dX0_measures_35 : decode cX0_measures 35 = .ok (.iload_n 1, 1) := dk_27 (dk_at dksX0_measures_1 11 rfl rfl)
theorem dX0_measures_36 : decode cX0_measures 36 = .ok (.iastore, 1) := dk_79 (dk_at dksX0_measures_1 12 rfl rfl)
theorem dX0_measures_37 : decode cX0_measures 37 = .ok (.aload_n 0, 1) := dk_42 (dk_at dksX0_measures_1 13 rfl rfl)
theorem dX0_measures_38 : decode cX0_measures 38 = .ok (.getfield 100, 3) := dk_180 0 100 (dk_at dksX0_measures_1 14 rfl rfl)
theorem dX0_measures_41 : decode cX0_measures 41 = .ok (.aload_n 0, 1) := dk_42 (dk_at dksX0_measures_1 17 rfl rfl)
theorem dX0_measures_42 : decode cX0_measures 42 = .ok (.getfield 43, 3) := dk_180 0 43 (dk_at dksX0_measures_1 18 rfl rfl)
theorem dX0_measures_45 : decode cX0_measures 45 = .ok (.iload_n 2, 1) := dk_28 (dk_at dksX0_measures_1 21 rfl rfl)
theorem dX0_measures_46 : decode cX0_measures 46 = .ok (.iconst 1, 1) := dk_4 (dk_at dksX0_measures_1 22 rfl rfl)
theorem dX0_measures_47 : decode cX0_measures 47 = .ok (.if_icmp .ne 7, 3) := dk_160 0 7 (dk_at dksX0_measures_2 0 rfl rfl)
theorem dX0_measures_50 : decode cX0_measures 50 = .ok (.iconst 1, 1) := dk_4 (dk_at dksX0_measures_2 3 rfl rfl)
theorem dX0_measures_51 : decode cX0_measures 51 = .ok (.goto 4, 3) := dk_167 0 4 (dk_at dksX0_measures_2 4 rfl rfl)
theorem dX0_measures_54 : decode cX0_measures 54 = .ok (.iconst 0, 1) := dk_3 (dk_at dksX0_measures_2 7 rfl rfl)
theorem dX0_measures_55 : decode cX0_measures 55 = .ok (.bastore, 1) := dk_84 (dk_at dksX0_measures_2 8 rfl rfl)
theorem dX0_measures_56 : decode cX0_measures 56 = .ok (.aload_n 0, 1) := dk_42 (dk_at dksX0_measures_2 9 rfl rfl)
theorem dX0_measures_57 : decode cX0_measures 57 = .ok (.dup, 1) := dk_89 (dk_at dksX0_measures_2 10 rfl rfl)
theorem dX0_measures_58 : decode cX0_measures 58 = .ok (.getfield 43, 3) := dk_180 0 43 (dk_at dksX0_measures_2 11 rfl rfl)
theorem dX0_measures_61 : decode cX0_measures 61 = .ok (.iconst 1, 1) := dk_4 (dk_at dksX0_measures_2 14 rfl rfl)
theorem dX0_measures_62 : decode cX0_measures 62 = .ok (.iadd, 1) := dk_96 (dk_at dksX0_measures_2 15 rfl rfl)
theorem dX0_measures_63 : decode cX0_measures 63 = .ok (.putfield 43, 3) := dk_181 0 43 (dk_at dksX0_measures_2 16 rfl rfl)
theorem dX0_measures_66 : decode cX0_measures 66 = .ok (.aload_n 0, 1) := dk_42 (dk_at dksX0_measures_2 19 rfl rfl)
theorem dX0_measures_67 : decode cX0_measures 67 = .ok (.getfield 43, 3) := dk_180 0 43 (dk_at dksX0_measures_2 20 rfl rfl)
theorem dX0_measures_70 : decode cX0_measures 70 = .ok (.ireturn, 1) := dk_172 (dk_at dksX0_measures_2 23 rfl rfl)
abbrev cX0_forget : ByteArray := prog_1_method_43_code
def yX0_forget : MethodName := ⟨RX0, "forget", "()I"⟩
def dkwX0_forget_0 : List UInt8 := [42, 180, 0, 43, 60, 42, 3, 181, 0, 43, 27, 172]
abbrev dktX0_forget_0 : List UInt8 := dkwX0_forget_0 ++ []
theorem dksX0_forget_0 : cX0_forget.data.toList.drop 0 = dktX0_forget_0 := by decide +kernel
theorem dX0_forget_0 : decode cX0_forget 0 = .ok (.aload_n 0, 1) := dk_42 (dk_at dksX0_forget_0 0 rfl rfl)
theorem dX0_forget_1 : decode cX0_forget 1 = .ok (.getfield 43, 3) := dk_180 0 43 (dk_at dksX0_forget_0 1 rfl rfl)
theorem dX0_forget_4 : decode cX0_forget 4 = .ok (.istore_n 1, 1) := dk_60 (dk_at dksX0_forget_0 4 rfl rfl)
theorem dX0_forget_5 : decode cX0_forget 5 = .ok (.aload_n 0, 1) := dk_42 (dk_at dksX0_forget_0 5 rfl rfl)
theorem dX0_forget_6 : decode cX0_forget 6 = .ok (.iconst 0, 1) := dk_3 (dk_at dksX0_forget_0 6 rfl rfl)
theorem dX0_forget_7 : decode cX0_forget 7 = .ok (.putfield 43, 3) := dk_181 0 43 (dk_at dksX0_forget_0 7 rfl rfl)
theorem dX0_forget_10 : decode cX0_forget 10 = .ok (.iload_n 1, 1) := dk_27 (dk_at dksX0_forget_0 10 rfl rfl)
theorem dX0_forget_11 : decode cX0_forget 11 = .ok (.ireturn, 1) := dk_172 (dk_at dksX0_forget_0 11 rfl rfl)
abbrev cX0_deeds : ByteArray := prog_1_method_46_code
def yX0_deeds : MethodName := ⟨RX0, "deeds", "(I)I"⟩
def dkwX0_deeds_2 : List UInt8 := [167, 0, 4, 29, 62, 132, 2, 1, 132, 4, 1, 167, 255, 215, 27, 154, 0, 7, 28, 167, 0, 4, 29, 172]
abbrev dktX0_deeds_2 : List UInt8 := dkwX0_deeds_2 ++ []
def dkwX0_deeds_1 : List UInt8 := [42, 21, 4, 16, 10, 108, 21, 4, 16, 10, 112, 182, 1, 19, 153, 0, 17, 28, 154, 0, 8, 21, 4]
abbrev dktX0_deeds_1 : List UInt8 := dkwX0_deeds_1 ++ dktX0_deeds_2
def dkwX0_deeds_0 : List UInt8 := [27, 184, 0, 189, 154, 0, 5, 2, 172, 3, 61, 16, 247, 62, 3, 54, 4, 21, 4, 16, 100, 162, 0, 40]
abbrev dktX0_deeds_0 : List UInt8 := dkwX0_deeds_0 ++ dktX0_deeds_1
theorem dksX0_deeds_0 : cX0_deeds.data.toList.drop 0 = dktX0_deeds_0 := by decide +kernel
theorem dksX0_deeds_1 : cX0_deeds.data.toList.drop 24 = dktX0_deeds_1 := dk_seg dksX0_deeds_0 24 rfl rfl
theorem dksX0_deeds_2 : cX0_deeds.data.toList.drop 47 = dktX0_deeds_2 := dk_seg dksX0_deeds_1 23 rfl rfl
theorem dX0_deeds_0 : decode cX0_deeds 0 = .ok (.iload_n 1, 1) := dk_27 (dk_at dksX0_deeds_0 0 rfl rfl)
theorem dX0_deeds_1 : decode cX0_deeds 1 = .ok (.invokestatic 189, 3) := dk_184 0 189 (dk_at dksX0_deeds_0 1 rfl rfl)
theorem dX0_deeds_4 : decode cX0_deeds 4 = .ok (.ifCond .ne 5, 3) := dk_154 0 5 (dk_at dksX0_deeds_0 4 rfl rfl)
theorem dX0_deeds_7 : decode cX0_deeds 7 = .ok (.iconst (-1), 1) := dk_2 (dk_at dksX0_deeds_0 7 rfl rfl)
theorem dX0_deeds_8 : decode cX0_deeds 8 = .ok (.ireturn, 1) := dk_172 (dk_at dksX0_deeds_0 8 rfl rfl)
theorem dX0_deeds_9 : decode cX0_deeds 9 = .ok (.iconst 0, 1) := dk_3 (dk_at dksX0_deeds_0 9 rfl rfl)
theorem dX0_deeds_10 : decode cX0_deeds 10 = .ok (.istore_n 2, 1) := dk_61 (dk_at dksX0_deeds_0 10 rfl rfl)
theorem dX0_deeds_11 : decode cX0_deeds 11 = .ok (.bipush (-9), 2) := dk_16 247 (dk_at dksX0_deeds_0 11 rfl rfl)
theorem dX0_deeds_13 : decode cX0_deeds 13 = .ok (.istore_n 3, 1) := dk_62 (dk_at dksX0_deeds_0 13 rfl rfl)
theorem dX0_deeds_14 : decode cX0_deeds 14 = .ok (.iconst 0, 1) := dk_3 (dk_at dksX0_deeds_0 14 rfl rfl)
theorem dX0_deeds_15 : decode cX0_deeds 15 = .ok (.istore 4, 2) := dk_54 4 (dk_at dksX0_deeds_0 15 rfl rfl)
theorem dX0_deeds_17 : decode cX0_deeds 17 = .ok (.iload 4, 2) := dk_21 4 (dk_at dksX0_deeds_0 17 rfl rfl)
theorem dX0_deeds_19 : decode cX0_deeds 19 = .ok (.bipush 100, 2) := dk_16 100 (dk_at dksX0_deeds_0 19 rfl rfl)
theorem dX0_deeds_21 : decode cX0_deeds 21 = .ok (.if_icmp .ge 40, 3) := dk_162 0 40 (dk_at dksX0_deeds_0 21 rfl rfl)
theorem dX0_deeds_24 : decode cX0_deeds 24 = .ok (.aload_n 0, 1) := dk_42 (dk_at dksX0_deeds_1 0 rfl rfl)
theorem dX0_deeds_25 : decode cX0_deeds 25 = .ok (.iload 4, 2) := dk_21 4 (dk_at dksX0_deeds_1 1 rfl rfl)
theorem dX0_deeds_27 : decode cX0_deeds 27 = .ok (.bipush 10, 2) := dk_16 10 (dk_at dksX0_deeds_1 3 rfl rfl)
theorem dX0_deeds_29 : decode cX0_deeds 29 = .ok (.idiv, 1) := dk_108 (dk_at dksX0_deeds_1 5 rfl rfl)
theorem dX0_deeds_30 : decode cX0_deeds 30 = .ok (.iload 4, 2) := dk_21 4 (dk_at dksX0_deeds_1 6 rfl rfl)
theorem dX0_deeds_32 : decode cX0_deeds 32 = .ok (.bipush 10, 2) := dk_16 10 (dk_at dksX0_deeds_1 8 rfl rfl)
theorem dX0_deeds_34 : decode cX0_deeds 34 = .ok (.irem, 1) := dk_112 (dk_at dksX0_deeds_1 10 rfl rfl)
theorem dX0_deeds_35 : decode cX0_deeds 35 = .ok (.invokevirtual 275, 3) := dk_182 1 19 (dk_at dksX0_deeds_1 11 rfl rfl)
theorem dX0_deeds_38 : decode cX0_deeds 38 = .ok (.ifCond .eq 17, 3) := dk_153 0 17 (dk_at dksX0_deeds_1 14 rfl rfl)
theorem dX0_deeds_41 : decode cX0_deeds 41 = .ok (.iload_n 2, 1) := dk_28 (dk_at dksX0_deeds_1 17 rfl rfl)
theorem dX0_deeds_42 : decode cX0_deeds 42 = .ok (.ifCond .ne 8, 3) := dk_154 0 8 (dk_at dksX0_deeds_1 18 rfl rfl)
theorem dX0_deeds_45 : decode cX0_deeds 45 = .ok (.iload 4, 2) := dk_21 4 (dk_at dksX0_deeds_1 21 rfl rfl)
theorem dX0_deeds_47 : decode cX0_deeds 47 = .ok (.goto 4, 3) := dk_167 0 4 (dk_at dksX0_deeds_2 0 rfl rfl)
theorem dX0_deeds_50 : decode cX0_deeds 50 = .ok (.iload_n 3, 1) := dk_29 (dk_at dksX0_deeds_2 3 rfl rfl)
theorem dX0_deeds_51 : decode cX0_deeds 51 = .ok (.istore_n 3, 1) := dk_62 (dk_at dksX0_deeds_2 4 rfl rfl)
theorem dX0_deeds_52 : decode cX0_deeds 52 = .ok (.iinc 2 1, 3) := dk_132 2 1 (dk_at dksX0_deeds_2 5 rfl rfl)
theorem dX0_deeds_55 : decode cX0_deeds 55 = .ok (.iinc 4 1, 3) := dk_132 4 1 (dk_at dksX0_deeds_2 8 rfl rfl)
theorem dX0_deeds_58 : decode cX0_deeds 58 = .ok (.goto (-41), 3) := dk_167 255 215 (dk_at dksX0_deeds_2 11 rfl rfl)
theorem dX0_deeds_61 : decode cX0_deeds 61 = .ok (.iload_n 1, 1) := dk_27 (dk_at dksX0_deeds_2 14 rfl rfl)
theorem dX0_deeds_62 : decode cX0_deeds 62 = .ok (.ifCond .ne 7, 3) := dk_154 0 7 (dk_at dksX0_deeds_2 15 rfl rfl)
theorem dX0_deeds_65 : decode cX0_deeds 65 = .ok (.iload_n 2, 1) := dk_28 (dk_at dksX0_deeds_2 18 rfl rfl)
theorem dX0_deeds_66 : decode cX0_deeds 66 = .ok (.goto 4, 3) := dk_167 0 4 (dk_at dksX0_deeds_2 19 rfl rfl)
theorem dX0_deeds_69 : decode cX0_deeds 69 = .ok (.iload_n 3, 1) := dk_29 (dk_at dksX0_deeds_2 22 rfl rfl)
theorem dX0_deeds_70 : decode cX0_deeds 70 = .ok (.ireturn, 1) := dk_172 (dk_at dksX0_deeds_2 23 rfl rfl)
abbrev cX0_isAsMeasured : ByteArray := prog_1_method_45_code
def yX0_isAsMeasured : MethodName := ⟨RX0, "isAsMeasured", "(II)Z"⟩
def dkwX0_isAsMeasured_2 : List UInt8 := [167, 255, 214, 29, 172]
abbrev dktX0_isAsMeasured_2 : List UInt8 := dkwX0_isAsMeasured_2 ++ []
def dkwX0_isAsMeasured_1 : List UInt8 := [184, 1, 15, 42, 180, 0, 97, 21, 4, 46, 160, 0, 7, 4, 167, 0, 4, 3, 126, 62, 132, 4, 1]
abbrev dktX0_isAsMeasured_1 : List UInt8 := dkwX0_isAsMeasured_1 ++ dktX0_isAsMeasured_2
def dkwX0_isAsMeasured_0 : List UInt8 := [4, 62, 3, 54, 4, 21, 4, 42, 180, 0, 43, 162, 0, 39, 29, 27, 28, 42, 180, 0, 100, 21, 4, 51]
abbrev dktX0_isAsMeasured_0 : List UInt8 := dkwX0_isAsMeasured_0 ++ dktX0_isAsMeasured_1
theorem dksX0_isAsMeasured_0 : cX0_isAsMeasured.data.toList.drop 0 = dktX0_isAsMeasured_0 := by decide +kernel
theorem dksX0_isAsMeasured_1 : cX0_isAsMeasured.data.toList.drop 24 = dktX0_isAsMeasured_1 := dk_seg dksX0_isAsMeasured_0 24 rfl rfl
theorem dksX0_isAsMeasured_2 : cX0_isAsMeasured.data.toList.drop 47 = dktX0_isAsMeasured_2 := dk_seg dksX0_isAsMeasured_1 23 rfl rfl
theorem dX0_isAsMeasured_0 : decode cX0_isAsMeasured 0 = .ok (.iconst 1, 1) := dk_4 (dk_at dksX0_isAsMeasured_0 0 rfl rfl)
theorem dX0_isAsMeasured_1 : decode cX0_isAsMeasured 1 = .ok (.istore_n 3, 1) := dk_62 (dk_at dksX0_isAsMeasured_0 1 rfl rfl)
theorem dX0_isAsMeasured_2 : decode cX0_isAsMeasured 2 = .ok (.iconst 0, 1) := dk_3 (dk_at dksX0_isAsMeasured_0 2 rfl rfl)
theorem dX0_isAsMeasured_3 : decode cX0_isAsMeasured 3 = .ok (.istore 4, 2) := dk_54 4 (dk_at dksX0_isAsMeasured_0 3 rfl rfl)
theorem dX0_isAsMeasured_5 : decode cX0_isAsMeasured 5 = .ok (.iload 4, 2) := dk_21 4 (dk_at dksX0_isAsMeasured_0 5 rfl rfl)
theorem dX0_isAsMeasured_7 : decode cX0_isAsMeasured 7 = .ok (.aload_n 0, 1) := dk_42 (dk_at dksX0_isAsMeasured_0 7 rfl rfl)
theorem dX0_isAsMeasured_8 : decode cX0_isAsMeasured 8 = .ok (.getfield 43, 3) := dk_180 0 43 (dk_at dksX0_isAsMeasured_0 8 rfl rfl)
theorem dX0_isAsMeasured_11 : decode cX0_isAsMeasured 11 = .ok (.if_icmp .ge 39, 3) := dk_162 0 39 (dk_at dksX0_isAsMeasured_0 11 rfl rfl)
theorem dX0_isAsMeasured_14 : decode cX0_isAsMeasured 14 = .ok (.iload_n 3, 1) := dk_29 (dk_at dksX0_isAsMeasured_0 14 rfl rfl)
theorem dX0_isAsMeasured_15 : decode cX0_isAsMeasured 15 = .ok (.iload_n 1, 1) := dk_27 (dk_at dksX0_isAsMeasured_0 15 rfl rfl)
theorem dX0_isAsMeasured_16 : decode cX0_isAsMeasured 16 = .ok (.iload_n 2, 1) := dk_28 (dk_at dksX0_isAsMeasured_0 16 rfl rfl)
theorem dX0_isAsMeasured_17 : decode cX0_isAsMeasured 17 = .ok (.aload_n 0, 1) := dk_42 (dk_at dksX0_isAsMeasured_0 17 rfl rfl)
theorem dX0_isAsMeasured_18 : decode cX0_isAsMeasured 18 = .ok (.getfield 100, 3) := dk_180 0 100 (dk_at dksX0_isAsMeasured_0 18 rfl rfl)
theorem dX0_isAsMeasured_21 : decode cX0_isAsMeasured 21 = .ok (.iload 4, 2) := dk_21 4 (dk_at dksX0_isAsMeasured_0 21 rfl rfl)
theorem dX0_isAsMeasured_23 : decode cX0_isAsMeasured 23 = .ok (.baload, 1) := dk_51 (dk_at dksX0_isAsMeasured_0 23 rfl rfl)
theorem dX0_isAsMeasured_24 : decode cX0_isAsMeasured 24 = .ok (.invokestatic 271, 3) := dk_184 1 15 (dk_at dksX0_isAsMeasured_1 0 rfl rfl)
theorem dX0_isAsMeasured_27 : decode cX0_isAsMeasured 27 = .ok (.aload_n 0, 1) := dk_42 (dk_at dksX0_isAsMeasured_1 3 rfl rfl)
theorem dX0_isAsMeasured_28 : decode cX0_isAsMeasured 28 = .ok (.getfield 97, 3) := dk_180 0 97 (dk_at dksX0_isAsMeasured_1 4 rfl rfl)
theorem dX0_isAsMeasured_31 : decode cX0_isAsMeasured 31 = .ok (.iload 4, 2) := dk_21 4 (dk_at dksX0_isAsMeasured_1 7 rfl rfl)
theorem dX0_isAsMeasured_33 : decode cX0_isAsMeasured 33 = .ok (.iaload, 1) := dk_46 (dk_at dksX0_isAsMeasured_1 9 rfl rfl)
theorem dX0_isAsMeasured_34 : decode cX0_isAsMeasured 34 = .ok (.if_icmp .ne 7, 3) := dk_160 0 7 (dk_at dksX0_isAsMeasured_1 10 rfl rfl)
theorem dX0_isAsMeasured_37 : decode cX0_isAsMeasured 37 = .ok (.iconst 1, 1) := dk_4 (dk_at dksX0_isAsMeasured_1 13 rfl rfl)
theorem dX0_isAsMeasured_38 : decode cX0_isAsMeasured 38 = .ok (.goto 4, 3) := dk_167 0 4 (dk_at dksX0_isAsMeasured_1 14 rfl rfl)
theorem dX0_isAsMeasured_41 : decode cX0_isAsMeasured 41 = .ok (.iconst 0, 1) := dk_3 (dk_at dksX0_isAsMeasured_1 17 rfl rfl)
theorem dX0_isAsMeasured_42 : decode cX0_isAsMeasured 42 = .ok (.iand, 1) := dk_126 (dk_at dksX0_isAsMeasured_1 18 rfl rfl)
theorem dX0_isAsMeasured_43 : decode cX0_isAsMeasured 43 = .ok (.istore_n 3, 1) := dk_62 (dk_at dksX0_isAsMeasured_1 19 rfl rfl)
theorem dX0_isAsMeasured_44 : decode cX0_isAsMeasured 44 = .ok (.iinc 4 1, 3) := dk_132 4 1 (dk_at dksX0_isAsMeasured_1 20 rfl rfl)
theorem dX0_isAsMeasured_47 : decode cX0_isAsMeasured 47 = .ok (.goto (-42), 3) := dk_167 255 214 (dk_at dksX0_isAsMeasured_2 0 rfl rfl)
theorem dX0_isAsMeasured_50 : decode cX0_isAsMeasured 50 = .ok (.iload_n 3, 1) := dk_29 (dk_at dksX0_isAsMeasured_2 3 rfl rfl)
theorem dX0_isAsMeasured_51 : decode cX0_isAsMeasured 51 = .ok (.ireturn, 1) := dk_172 (dk_at dksX0_isAsMeasured_2 4 rfl rfl)
abbrev cX0_widthBy : ByteArray := prog_1_method_44_code
def yX0_widthBy : MethodName := ⟨RX0, "widthBy", "(IIZ)I"⟩
def dkwX0_widthBy_0 : List UInt8 := [4, 28, 153, 0, 7, 26, 167, 0, 8, 26, 27, 184, 0, 183, 96, 172]
abbrev dktX0_widthBy_0 : List UInt8 := dkwX0_widthBy_0 ++ []
theorem dksX0_widthBy_0 : cX0_widthBy.data.toList.drop 0 = dktX0_widthBy_0 := by decide +kernel
theorem dX0_widthBy_0 : decode cX0_widthBy 0 = .ok (.iconst 1, 1) := dk_4 (dk_at dksX0_widthBy_0 0 rfl rfl)
theorem dX0_widthBy_1 : decode cX0_widthBy 1 = .ok (.iload_n 2, 1) := dk_28 (dk_at dksX0_widthBy_0 1 rfl rfl)
theorem dX0_widthBy_2 : decode cX0_widthBy 2 = .ok (.ifCond .eq 7, 3) := dk_153 0 7 (dk_at dksX0_widthBy_0 2 rfl rfl)
theorem dX0_widthBy_5 : decode cX0_widthBy 5 = .ok (.iload_n 0, 1) := dk_26 (dk_at dksX0_widthBy_0 5 rfl rfl)
theorem dX0_widthBy_6 : decode cX0_widthBy 6 = .ok (.goto 8, 3) := dk_167 0 8 (dk_at dksX0_widthBy_0 6 rfl rfl)
theorem dX0_widthBy_9 : decode cX0_widthBy 9 = .ok (.iload_n 0, 1) := dk_26 (dk_at dksX0_widthBy_0 9 rfl rfl)
theorem dX0_widthBy_10 : decode cX0_widthBy 10 = .ok (.iload_n 1, 1) := dk_27 (dk_at dksX0_widthBy_0 10 rfl rfl)
theorem dX0_widthBy_11 : decode cX0_widthBy 11 = .ok (.invokestatic 183, 3) := dk_184 0 183 (dk_at dksX0_widthBy_0 11 rfl rfl)
theorem dX0_widthBy_14 : decode cX0_widthBy 14 = .ok (.iadd, 1) := dk_96 (dk_at dksX0_widthBy_0 14 rfl rfl)
theorem dX0_widthBy_15 : decode cX0_widthBy 15 = .ok (.ireturn, 1) := dk_172 (dk_at dksX0_widthBy_0 15 rfl rfl)
abbrev cX0_when : ByteArray := prog_1_method_48_code
def yX0_when : MethodName := ⟨RX0, "when", "()I"⟩
def dkwX0_when_1 : List UInt8 := [4, 167, 0, 4, 3, 172]
abbrev dktX0_when_1 : List UInt8 := dkwX0_when_1 ++ []
def dkwX0_when_0 : List UInt8 := [42, 3, 182, 1, 22, 60, 27, 154, 0, 8, 16, 247, 167, 0, 17, 42, 4, 182, 1, 22, 27, 162, 0, 7]
abbrev dktX0_when_0 : List UInt8 := dkwX0_when_0 ++ dktX0_when_1
theorem dksX0_when_0 : cX0_when.data.toList.drop 0 = dktX0_when_0 := by decide +kernel
theorem dksX0_when_1 : cX0_when.data.toList.drop 24 = dktX0_when_1 := dk_seg dksX0_when_0 24 rfl rfl
theorem dX0_when_0 : decode cX0_when 0 = .ok (.aload_n 0, 1) := dk_42 (dk_at dksX0_when_0 0 rfl rfl)
theorem dX0_when_1 : decode cX0_when 1 = .ok (.iconst 0, 1) := dk_3 (dk_at dksX0_when_0 1 rfl rfl)
theorem dX0_when_2 : decode cX0_when 2 = .ok (.invokevirtual 278, 3) := dk_182 1 22 (dk_at dksX0_when_0 2 rfl rfl)
theorem dX0_when_5 : decode cX0_when 5 = .ok (.istore_n 1, 1) := dk_60 (dk_at dksX0_when_0 5 rfl rfl)
theorem dX0_when_6 : decode cX0_when 6 = .ok (.iload_n 1, 1) := dk_27 (dk_at dksX0_when_0 6 rfl rfl)
theorem dX0_when_7 : decode cX0_when 7 = .ok (.ifCond .ne 8, 3) := dk_154 0 8 (dk_at dksX0_when_0 7 rfl rfl)
theorem dX0_when_10 : decode cX0_when 10 = .ok (.bipush (-9), 2) := dk_16 247 (dk_at dksX0_when_0 10 rfl rfl)
theorem dX0_when_12 : decode cX0_when 12 = .ok (.goto 17, 3) := dk_167 0 17 (dk_at dksX0_when_0 12 rfl rfl)
theorem dX0_when_15 : decode cX0_when 15 = .ok (.aload_n 0, 1) := dk_42 (dk_at dksX0_when_0 15 rfl rfl)
theorem dX0_when_16 : decode cX0_when 16 = .ok (.iconst 1, 1) := dk_4 (dk_at dksX0_when_0 16 rfl rfl)
theorem dX0_when_17 : decode cX0_when 17 = .ok (.invokevirtual 278, 3) := dk_182 1 22 (dk_at dksX0_when_0 17 rfl rfl)
theorem dX0_when_20 : decode cX0_when 20 = .ok (.iload_n 1, 1) := dk_27 (dk_at dksX0_when_0 20 rfl rfl)
theorem dX0_when_21 : decode cX0_when 21 = .ok (.if_icmp .ge 7, 3) := dk_162 0 7 (dk_at dksX0_when_0 21 rfl rfl)
theorem dX0_when_24 : decode cX0_when 24 = .ok (.iconst 1, 1) := dk_4 (dk_at dksX0_when_1 0 rfl rfl)
theorem dX0_when_25 : decode cX0_when 25 = .ok (.goto 4, 3) := dk_167 0 4 (dk_at dksX0_when_1 1 rfl rfl)
theorem dX0_when_28 : decode cX0_when 28 = .ok (.iconst 0, 1) := dk_3 (dk_at dksX0_when_1 4 rfl rfl)
theorem dX0_when_29 : decode cX0_when 29 = .ok (.ireturn, 1) := dk_172 (dk_at dksX0_when_1 5 rfl rfl)
abbrev cX0_alike : ByteArray := prog_1_method_47_code
def yX0_alike : MethodName := ⟨RX0, "alike", "(Z)I"⟩
def dkwX0_alike_3 : List UInt8 := [132, 5, 1, 167, 255, 197, 28, 21, 4, 184, 0, 183, 61, 132, 3, 1, 167, 255, 172, 28, 172]
abbrev dktX0_alike_3 : List UInt8 := dkwX0_alike_3 ++ []
def dkwX0_alike_2 : List UInt8 := [16, 10, 108, 21, 5, 16, 10, 112, 27, 184, 1, 15, 29, 160, 0, 7, 4, 167, 0, 4, 3, 96, 54, 4]
abbrev dktX0_alike_2 : List UInt8 := dkwX0_alike_2 ++ dktX0_alike_3
def dkwX0_alike_1 : List UInt8 := [21, 5, 16, 10, 108, 21, 5, 16, 10, 112, 182, 1, 19, 54, 6, 21, 4, 21, 6, 153, 0, 25, 21, 5]
abbrev dktX0_alike_1 : List UInt8 := dkwX0_alike_1 ++ dktX0_alike_2
def dkwX0_alike_0 : List UInt8 := [3, 61, 4, 62, 29, 16, 10, 163, 0, 84, 3, 54, 4, 3, 54, 5, 21, 5, 16, 100, 162, 0, 58, 42]
abbrev dktX0_alike_0 : List UInt8 := dkwX0_alike_0 ++ dktX0_alike_1
theorem dksX0_alike_0 : cX0_alike.data.toList.drop 0 = dktX0_alike_0 := by decide +kernel
theorem dksX0_alike_1 : cX0_alike.data.toList.drop 24 = dktX0_alike_1 := dk_seg dksX0_alike_0 24 rfl rfl
theorem dksX0_alike_2 : cX0_alike.data.toList.drop 48 = dktX0_alike_2 := dk_seg dksX0_alike_1 24 rfl rfl
theorem dksX0_alike_3 : cX0_alike.data.toList.drop 72 = dktX0_alike_3 := dk_seg dksX0_alike_2 24 rfl rfl
theorem dX0_alike_0 : decode cX0_alike 0 = .ok (.iconst 0, 1) := dk_3 (dk_at dksX0_alike_0 0 rfl rfl)
theorem dX0_alike_1 : decode cX0_alike 1 = .ok (.istore_n 2, 1) := dk_61 (dk_at dksX0_alike_0 1 rfl rfl)
theorem dX0_alike_2 : decode cX0_alike 2 = .ok (.iconst 1, 1) := dk_4 (dk_at dksX0_alike_0 2 rfl rfl)
theorem dX0_alike_3 : decode cX0_alike 3 = .ok (.istore_n 3, 1) := dk_62 (dk_at dksX0_alike_0 3 rfl rfl)
theorem dX0_alike_4 : decode cX0_alike 4 = .ok (.iload_n 3, 1) := dk_29 (dk_at dksX0_alike_0 4 rfl rfl)
theorem dX0_alike_5 : decode cX0_alike 5 = .ok (.bipush 10, 2) := dk_16 10 (dk_at dksX0_alike_0 5 rfl rfl)
theorem dX0_alike_7 : decode cX0_alike 7 = .ok (.if_icmp .gt 84, 3) := dk_163 0 84 (dk_at dksX0_alike_0 7 rfl rfl)
theorem dX0_alike_10 : decode cX0_alike 10 = .ok (.iconst 0, 1) := dk_3 (dk_at dksX0_alike_0 10 rfl rfl)
theorem dX0_alike_11 : decode cX0_alike 11 = .ok (.istore 4, 2) := dk_54 4 (dk_at dksX0_alike_0 11 rfl rfl)
theorem dX0_alike_13 : decode cX0_alike 13 = .ok (.iconst 0, 1) := dk_3 (dk_at dksX0_alike_0 13 rfl rfl)
theorem dX0_alike_14 : decode cX0_alike 14 = .ok (.istore 5, 2) := dk_54 5 (dk_at dksX0_alike_0 14 rfl rfl)
theorem dX0_alike_16 : decode cX0_alike 16 = .ok (.iload 5, 2) := dk_21 5 (dk_at dksX0_alike_0 16 rfl rfl)
theorem dX0_alike_18 : decode cX0_alike 18 = .ok (.bipush 100, 2) := dk_16 100 (dk_at dksX0_alike_0 18 rfl rfl)
theorem dX0_alike_20 : decode cX0_alike 20 = .ok (.if_icmp .ge 58, 3) := dk_162 0 58 (dk_at dksX0_alike_0 20 rfl rfl)
theorem dX0_alike_23 : decode cX0_alike 23 = .ok (.aload_n 0, 1) := dk_42 (dk_at dksX0_alike_0 23 rfl rfl)
theorem dX0_alike_24 : decode cX0_alike 24 = .ok (.iload 5, 2) := dk_21 5 (dk_at dksX0_alike_1 0 rfl rfl)
theorem dX0_alike_26 : decode cX0_alike 26 = .ok (.bipush 10, 2) := dk_16 10 (dk_at dksX0_alike_1 2 rfl rfl)
theorem dX0_alike_28 : decode cX0_alike 28 = .ok (.idiv, 1) := dk_108 (dk_at dksX0_alike_1 4 rfl rfl)
theorem dX0_alike_29 : decode cX0_alike 29 = .ok (.iload 5, 2) := dk_21 5 (dk_at dksX0_alike_1 5 rfl rfl)
theorem dX0_alike_31 : decode cX0_alike 31 = .ok (.bipush 10, 2) := dk_16 10 (dk_at dksX0_alike_1 7 rfl rfl)
theorem dX0_alike_33 : decode cX0_alike 33 = .ok (.irem, 1) := dk_112 (dk_at dksX0_alike_1 9 rfl rfl)
theorem dX0_alike_34 : decode cX0_alike 34 = .ok (.invokevirtual 275, 3) := dk_182 1 19 (dk_at dksX0_alike_1 10 rfl rfl)
theorem dX0_alike_37 : decode cX0_alike 37 = .ok (.istore 6, 2) := dk_54 6 (dk_at dksX0_alike_1 13 rfl rfl)
theorem dX0_alike_39 : decode cX0_alike 39 = .ok (.iload 4, 2) := dk_21 4 (dk_at dksX0_alike_1 15 rfl rfl)
theorem dX0_alike_41 : decode cX0_alike 41 = .ok (.iload 6, 2) := dk_21 6 (dk_at dksX0_alike_1 17 rfl rfl)
theorem dX0_alike_43 : decode cX0_alike 43 = .ok (.ifCond .eq 25, 3) := dk_153 0 25 (dk_at dksX0_alike_1 19 rfl rfl)
theorem dX0_alike_46 : decode cX0_alike 46 = .ok (.iload 5, 2) := dk_21 5 (dk_at dksX0_alike_1 22 rfl rfl)
theorem dX0_alike_48 : decode cX0_alike 48 = .ok (.bipush 10, 2) := dk_16 10 (dk_at dksX0_alike_2 0 rfl rfl)
theorem dX0_alike_50 : decode cX0_alike 50 = .ok (.idiv, 1) := dk_108 (dk_at dksX0_alike_2 2 rfl rfl)
theorem dX0_alike_51 : decode cX0_alike 51 = .ok (.iload 5, 2) := dk_21 5 (dk_at dksX0_alike_2 3 rfl rfl)
theorem dX0_alike_53 : decode cX0_alike 53 = .ok (.bipush 10, 2) := dk_16 10 (dk_at dksX0_alike_2 5 rfl rfl)
theorem dX0_alike_55 : decode cX0_alike 55 = .ok (.irem, 1) := dk_112 (dk_at dksX0_alike_2 7 rfl rfl)
theorem dX0_alike_56 : decode cX0_alike 56 = .ok (.iload_n 1, 1) := dk_27 (dk_at dksX0_alike_2 8 rfl rfl)
theorem dX0_alike_57 : decode cX0_alike 57 = .ok (.invokestatic 271, 3) := dk_184 1 15 (dk_at dksX0_alike_2 9 rfl rfl)
theorem dX0_alike_60 : decode cX0_alike 60 = .ok (.iload_n 3, 1) := dk_29 (dk_at dksX0_alike_2 12 rfl rfl)
theorem dX0_alike_61 : decode cX0_alike 61 = .ok (.if_icmp .ne 7, 3) := dk_160 0 7 (dk_at dksX0_alike_2 13 rfl rfl)
theorem dX0_alike_64 : decode cX0_alike 64 = .ok (.iconst 1, 1) := dk_4 (dk_at dksX0_alike_2 16 rfl rfl)
theorem dX0_alike_65 : decode cX0_alike 65 = .ok (.goto 4, 3) := dk_167 0 4 (dk_at dksX0_alike_2 17 rfl rfl)
theorem dX0_alike_68 : decode cX0_alike 68 = .ok (.iconst 0, 1) := dk_3 (dk_at dksX0_alike_2 20 rfl rfl)
theorem dX0_alike_69 : decode cX0_alike 69 = .ok (.iadd, 1) := dk_96 (dk_at dksX0_alike_2 21 rfl rfl)
theorem dX0_alike_70 : decode cX0_alike 70 = .ok (.istore 4, 2) := dk_54 4 (dk_at dksX0_alike_2 22 rfl rfl)
theorem dX0_alike_72 : decode cX0_alike 72 = .ok (.iinc 5 1, 3) := dk_132 5 1 (dk_at dksX0_alike_3 0 rfl rfl)
theorem dX0_alike_75 : decode cX0_alike 75 = .ok (.goto (-59), 3) := dk_167 255 197 (dk_at dksX0_alike_3 3 rfl rfl)
theorem dX0_alike_78 : decode cX0_alike 78 = .ok (.iload_n 2, 1) := dk_28 (dk_at dksX0_alike_3 6 rfl rfl)
theorem dX0_alike_79 : decode cX0_alike 79 = .ok (.iload 4, 2) := dk_21 4 (dk_at dksX0_alike_3 7 rfl rfl)
theorem dX0_alike_81 : decode cX0_alike 81 = .ok (.invokestatic 183, 3) := dk_184 0 183 (dk_at dksX0_alike_3 9 rfl rfl)
theorem dX0_alike_84 : decode cX0_alike 84 = .ok (.istore_n 2, 1) := dk_61 (dk_at dksX0_alike_3 12 rfl rfl)
theorem dX0_alike_85 : decode cX0_alike 85 = .ok (.iinc 3 1, 3) := dk_132 3 1 (dk_at dksX0_alike_3 13 rfl rfl)
theorem dX0_alike_88 : decode cX0_alike 88 = .ok (.goto (-84), 3) := dk_167 255 172 (dk_at dksX0_alike_3 16 rfl rfl)
theorem dX0_alike_91 : decode cX0_alike 91 = .ok (.iload_n 2, 1) := dk_28 (dk_at dksX0_alike_3 19 rfl rfl)
theorem dX0_alike_92 : decode cX0_alike 92 = .ok (.ireturn, 1) := dk_172 (dk_at dksX0_alike_3 20 rfl rfl)
abbrev cX0_mark : ByteArray := prog_1_method_50_code
def yX0_mark : MethodName := ⟨RX0, "mark", "(II)I"⟩
def dkwX0_mark_1 : List UInt8 := [28, 182, 1, 29, 167, 0, 6, 19, 1, 33, 172]
abbrev dktX0_mark_1 : List UInt8 := dkwX0_mark_1 ++ []
def dkwX0_mark_0 : List UInt8 := [27, 3, 8, 184, 0, 1, 153, 0, 25, 42, 28, 182, 0, 135, 153, 0, 17, 42, 180, 0, 122, 27, 50, 42]
abbrev dktX0_mark_0 : List UInt8 := dkwX0_mark_0 ++ dktX0_mark_1
theorem dksX0_mark_0 : cX0_mark.data.toList.drop 0 = dktX0_mark_0 := by decide +kernel
theorem dksX0_mark_1 : cX0_mark.data.toList.drop 24 = dktX0_mark_1 := dk_seg dksX0_mark_0 24 rfl rfl
theorem dX0_mark_0 : decode cX0_mark 0 = .ok (.iload_n 1, 1) := dk_27 (dk_at dksX0_mark_0 0 rfl rfl)
theorem dX0_mark_1 : decode cX0_mark 1 = .ok (.iconst 0, 1) := dk_3 (dk_at dksX0_mark_0 1 rfl rfl)
theorem dX0_mark_2 : decode cX0_mark 2 = .ok (.iconst 5, 1) := dk_8 (dk_at dksX0_mark_0 2 rfl rfl)
theorem dX0_mark_3 : decode cX0_mark 3 = .ok (.invokestatic 1, 3) := dk_184 0 1 (dk_at dksX0_mark_0 3 rfl rfl)
theorem dX0_mark_6 : decode cX0_mark 6 = .ok (.ifCond .eq 25, 3) := dk_153 0 25 (dk_at dksX0_mark_0 6 rfl rfl)
theorem dX0_mark_9 : decode cX0_mark 9 = .ok (.aload_n 0, 1) := dk_42 (dk_at dksX0_mark_0 9 rfl rfl)
theorem dX0_mark_10 : decode cX0_mark 10 = .ok (.iload_n 2, 1) := dk_28 (dk_at dksX0_mark_0 10 rfl rfl)
theorem dX0_mark_11 : decode cX0_mark 11 = .ok (.invokevirtual 135, 3) := dk_182 0 135 (dk_at dksX0_mark_0 11 rfl rfl)
theorem dX0_mark_14 : decode cX0_mark 14 = .ok (.ifCond .eq 17, 3) := dk_153 0 17 (dk_at dksX0_mark_0 14 rfl rfl)
theorem dX0_mark_17 : decode cX0_mark 17 = .ok (.aload_n 0, 1) := dk_42 (dk_at dksX0_mark_0 17 rfl rfl)
theorem dX0_mark_18 : decode cX0_mark 18 = .ok (.getfield 122, 3) := dk_180 0 122 (dk_at dksX0_mark_0 18 rfl rfl)
theorem dX0_mark_21 : decode cX0_mark 21 = .ok (.iload_n 1, 1) := dk_27 (dk_at dksX0_mark_0 21 rfl rfl)
theorem dX0_mark_22 : decode cX0_mark 22 = .ok (.aaload, 1) := dk_50 (dk_at dksX0_mark_0 22 rfl rfl)
theorem dX0_mark_23 : decode cX0_mark 23 = .ok (.aload_n 0, 1) := dk_42 (dk_at dksX0_mark_0 23 rfl rfl)
theorem dX0_mark_24 : decode cX0_mark 24 = .ok (.iload_n 2, 1) := dk_28 (dk_at dksX0_mark_1 0 rfl rfl)
theorem dX0_mark_25 : decode cX0_mark 25 = .ok (.invokevirtual 285, 3) := dk_182 1 29 (dk_at dksX0_mark_1 1 rfl rfl)
theorem dX0_mark_28 : decode cX0_mark 28 = .ok (.goto 6, 3) := dk_167 0 6 (dk_at dksX0_mark_1 4 rfl rfl)
theorem dX0_mark_31 : decode cX0_mark 31 = .ok (.ldc_w 289, 3) := dk_19 1 33 (dk_at dksX0_mark_1 7 rfl rfl)
theorem dX0_mark_34 : decode cX0_mark 34 = .ok (.ireturn, 1) := dk_172 (dk_at dksX0_mark_1 10 rfl rfl)
abbrev cX0_meeting : ByteArray := prog_1_method_49_code
def yX0_meeting : MethodName := ⟨RX0, "meeting", "(I)I"⟩
def dkwX0_meeting_1 : List UInt8 := [182, 1, 26, 153, 0, 7, 4, 167, 0, 4, 3, 96, 61, 132, 3, 1, 167, 255, 222, 28, 172]
abbrev dktX0_meeting_1 : List UInt8 := dkwX0_meeting_1 ++ []
def dkwX0_meeting_0 : List UInt8 := [3, 61, 3, 62, 29, 42, 180, 0, 30, 180, 0, 126, 162, 0, 29, 28, 42, 180, 0, 30, 27, 29]
abbrev dktX0_meeting_0 : List UInt8 := dkwX0_meeting_0 ++ dktX0_meeting_1
theorem dksX0_meeting_0 : cX0_meeting.data.toList.drop 0 = dktX0_meeting_0 := by decide +kernel
theorem dksX0_meeting_1 : cX0_meeting.data.toList.drop 22 = dktX0_meeting_1 := dk_seg dksX0_meeting_0 22 rfl rfl
theorem dX0_meeting_0 : decode cX0_meeting 0 = .ok (.iconst 0, 1) := dk_3 (dk_at dksX0_meeting_0 0 rfl rfl)
theorem dX0_meeting_1 : decode cX0_meeting 1 = .ok (.istore_n 2, 1) := dk_61 (dk_at dksX0_meeting_0 1 rfl rfl)
theorem dX0_meeting_2 : decode cX0_meeting 2 = .ok (.iconst 0, 1) := dk_3 (dk_at dksX0_meeting_0 2 rfl rfl)
theorem dX0_meeting_3 : decode cX0_meeting 3 = .ok (.istore_n 3, 1) := dk_62 (dk_at dksX0_meeting_0 3 rfl rfl)
theorem dX0_meeting_4 : decode cX0_meeting 4 = .ok (.iload_n 3, 1) := dk_29 (dk_at dksX0_meeting_0 4 rfl rfl)
theorem dX0_meeting_5 : decode cX0_meeting 5 = .ok (.aload_n 0, 1) := dk_42 (dk_at dksX0_meeting_0 5 rfl rfl)
theorem dX0_meeting_6 : decode cX0_meeting 6 = .ok (.getfield 30, 3) := dk_180 0 30 (dk_at dksX0_meeting_0 6 rfl rfl)
theorem dX0_meeting_9 : decode cX0_meeting 9 = .ok (.getfield 126, 3) := dk_180 0 126 (dk_at dksX0_meeting_0 9 rfl rfl)
theorem dX0_meeting_12 : decode cX0_meeting 12 = .ok (.if_icmp .ge 29, 3) := dk_162 0 29 (dk_at dksX0_meeting_0 12 rfl rfl)
theorem dX0_meeting_15 : decode cX0_meeting 15 = .ok (.iload_n 2, 1) := dk_28 (dk_at dksX0_meeting_0 15 rfl rfl)
theorem dX0_meeting_16 : decode cX0_meeting 16 = .ok (.aload_n 0, 1) := dk_42 (dk_at dksX0_meeting_0 16 rfl rfl)
theorem dX0_meeting_17 : decode cX0_meeting 17 = .ok (.getfield 30, 3) := dk_180 0 30 (dk_at dksX0_meeting_0 17 rfl rfl)
theorem dX0_meeting_20 : decode cX0_meeting 20 = .ok (.iload_n 1, 1) := dk_27 (dk_at dksX0_meeting_0 20 rfl rfl)
theorem dX0_meeting_21 : decode cX0_meeting 21 = .ok (.iload_n 3, 1) := dk_29 (dk_at dksX0_meeting_0 21 rfl rfl)
theorem dX0_meeting_22 : decode cX0_meeting 22 = .ok (.invokevirtual 282, 3) := dk_182 1 26 (dk_at dksX0_meeting_1 0 rfl rfl)
theorem dX0_meeting_25 : decode cX0_meeting 25 = .ok (.ifCond .eq 7, 3) := dk_153 0 7 (dk_at dksX0_meeting_1 3 rfl rfl)
theorem dX0_meeting_28 : decode cX0_meeting 28 = .ok (.iconst 1, 1) := dk_4 (dk_at dksX0_meeting_1 6 rfl rfl)
theorem dX0_meeting_29 : decode cX0_meeting 29 = .ok (.goto 4, 3) := dk_167 0 4 (dk_at dksX0_meeting_1 7 rfl rfl)
theorem dX0_meeting_32 : decode cX0_meeting 32 = .ok (.iconst 0, 1) := dk_3 (dk_at dksX0_meeting_1 10 rfl rfl)
theorem dX0_meeting_33 : decode cX0_meeting 33 = .ok (.iadd, 1) := dk_96 (dk_at dksX0_meeting_1 11 rfl rfl)
theorem dX0_meeting_34 : decode cX0_meeting 34 = .ok (.istore_n 2, 1) := dk_61 (dk_at dksX0_meeting_1 12 rfl rfl)
theorem dX0_meeting_35 : decode cX0_meeting 35 = .ok (.iinc 3 1, 3) := dk_132 3 1 (dk_at dksX0_meeting_1 13 rfl rfl)
theorem dX0_meeting_38 : decode cX0_meeting 38 = .ok (.goto (-34), 3) := dk_167 255 222 (dk_at dksX0_meeting_1 16 rfl rfl)
theorem dX0_meeting_41 : decode cX0_meeting 41 = .ok (.iload_n 2, 1) := dk_28 (dk_at dksX0_meeting_1 19 rfl rfl)
theorem dX0_meeting_42 : decode cX0_meeting 42 = .ok (.ireturn, 1) := dk_172 (dk_at dksX0_meeting_1 20 rfl rfl)
abbrev cX0_keep : ByteArray := prog_1_method_51_code
def yX0_keep : MethodName := ⟨RX0, "keep", "(I)I"⟩
def dkwX0_keep_3 : List UInt8 := [181, 0, 62, 42, 180, 0, 49, 180, 0, 208, 153, 0, 7, 4, 167, 0, 4, 3, 172]
abbrev dktX0_keep_3 : List UInt8 := dkwX0_keep_3 ++ []
def dkwX0_keep_2 : List UInt8 := [180, 1, 38, 29, 50, 42, 180, 0, 79, 29, 50, 182, 0, 180, 132, 3, 1, 167, 255, 230, 44, 4]
abbrev dktX0_keep_2 : List UInt8 := dkwX0_keep_2 ++ dktX0_keep_3
def dkwX0_keep_1 : List UInt8 := [182, 0, 180, 44, 42, 180, 0, 46, 181, 1, 37, 3, 62, 29, 42, 180, 0, 46, 162, 0, 24, 44]
abbrev dktX0_keep_1 : List UInt8 := dkwX0_keep_1 ++ dktX0_keep_2
def dkwX0_keep_0 : List UInt8 := [27, 184, 0, 189, 154, 0, 5, 2, 172, 42, 180, 0, 58, 27, 50, 77, 44, 180, 1, 34, 42, 180, 0, 49]
abbrev dktX0_keep_0 : List UInt8 := dkwX0_keep_0 ++ dktX0_keep_1
theorem dksX0_keep_0 : cX0_keep.data.toList.drop 0 = dktX0_keep_0 := by decide +kernel
theorem dksX0_keep_1 : cX0_keep.data.toList.drop 24 = dktX0_keep_1 := dk_seg dksX0_keep_0 24 rfl rfl
theorem dksX0_keep_2 : cX0_keep.data.toList.drop 46 = dktX0_keep_2 := dk_seg dksX0_keep_1 22 rfl rfl
theorem dksX0_keep_3 : cX0_keep.data.toList.drop 68 = dktX0_keep_3 := dk_seg dksX0_keep_2 22 rfl rfl
theorem dX0_keep_0 : decode cX0_keep 0 = .ok (.iload_n 1, 1) := dk_27 (dk_at dksX0_keep_0 0 rfl rfl)
theorem dX0_keep_1 : decode cX0_keep 1 = .ok (.invokestatic 189, 3) := dk_184 0 189 (dk_at dksX0_keep_0 1 rfl rfl)
theorem dX0_keep_4 : decode cX0_keep 4 = .ok (.ifCond .ne 5, 3) := dk_154 0 5 (dk_at dksX0_keep_0 4 rfl rfl)
theorem dX0_keep_7 : decode cX0_keep 7 = .ok (.iconst (-1), 1) := dk_2 (dk_at dksX0_keep_0 7 rfl rfl)
theorem dX0_keep_8 : decode cX0_keep 8 = .ok (.ireturn, 1) := dk_172 (dk_at dksX0_keep_0 8 rfl rfl)
theorem dX0_keep_9 : decode cX0_keep 9 = .ok (.aload_n 0, 1) := dk_42 (dk_at dksX0_keep_0 9 rfl rfl)
theorem dX0_keep_10 : decode cX0_keep 10 = .ok (.getfield 58, 3) := dk_180 0 58 (dk_at dksX0_keep_0 10 rfl rfl)
theorem dX0_keep_13 : decode cX0_keep 13 = .ok (.iload_n 1, 1) := dk_27 (dk_at dksX0_keep_0 13 rfl rfl)
theorem dX0_keep_14 : decode cX0_keep 14 = .ok (.aaload, 1) := dk_50 (dk_at dksX0_keep_0 14 rfl rfl)
theorem dX0_keep_15 : decode cX0_keep 15 = .ok (.astore_n 2, 1) := dk_77 (dk_at dksX0_keep_0 15 rfl rfl)
theorem dX0_keep_16 : decode cX0_keep 16 = .ok (.aload_n 2, 1) := dk_44 (dk_at dksX0_keep_0 16 rfl rfl)
theorem dX0_keep_17 : decode cX0_keep 17 = .ok (.getfield 290, 3) := dk_180 1 34 (dk_at dksX0_keep_0 17 rfl rfl)
theorem dX0_keep_20 : decode cX0_keep 20 = .ok (.aload_n 0, 1) := dk_42 (dk_at dksX0_keep_0 20 rfl rfl)
theorem dX0_keep_21 : decode cX0_keep 21 = .ok (.getfield 49, 3) := dk_180 0 49 (dk_at dksX0_keep_0 21 rfl rfl)
theorem dX0_keep_24 : decode cX0_keep 24 = .ok (.invokevirtual 180, 3) := dk_182 0 180 (dk_at dksX0_keep_1 0 rfl rfl)
theorem dX0_keep_27 : decode cX0_keep 27 = .ok (.aload_n 2, 1) := dk_44 (dk_at dksX0_keep_1 3 rfl rfl)
theorem dX0_keep_28 : decode cX0_keep 28 = .ok (.aload_n 0, 1) := dk_42 (dk_at dksX0_keep_1 4 rfl rfl)
theorem dX0_keep_29 : decode cX0_keep 29 = .ok (.getfield 46, 3) := dk_180 0 46 (dk_at dksX0_keep_1 5 rfl rfl)
theorem dX0_keep_32 : decode cX0_keep 32 = .ok (.putfield 293, 3) := dk_181 1 37 (dk_at dksX0_keep_1 8 rfl rfl)
theorem dX0_keep_35 : decode cX0_keep 35 = .ok (.iconst 0, 1) := dk_3 (dk_at dksX0_keep_1 11 rfl rfl)
theorem dX0_keep_36 : decode cX0_keep 36 = .ok (.istore_n 3, 1) := dk_62 (dk_at dksX0_keep_1 12 rfl rfl)
theorem dX0_keep_37 : decode cX0_keep 37 = .ok (.iload_n 3, 1) := dk_29 (dk_at dksX0_keep_1 13 rfl rfl)
theorem dX0_keep_38 : decode cX0_keep 38 = .ok (.aload_n 0, 1) := dk_42 (dk_at dksX0_keep_1 14 rfl rfl)
theorem dX0_keep_39 : decode cX0_keep 39 = .ok (.getfield 46, 3) := dk_180 0 46 (dk_at dksX0_keep_1 15 rfl rfl)
theorem dX0_keep_42 : decode cX0_keep 42 = .ok (.if_icmp .ge 24, 3) := dk_162 0 24 (dk_at dksX0_keep_1 18 rfl rfl)
theorem dX0_keep_45 : decode cX0_keep 45 = .ok (.aload_n 2, 1) := dk_44 (dk_at dksX0_keep_1 21 rfl rfl)
theorem dX0_keep_46 : decode cX0_keep 46 = .ok (.getfield 294, 3) := dk_180 1 38 (dk_at dksX0_keep_2 0 rfl rfl)
theorem dX0_keep_49 : decode cX0_keep 49 = .ok (.iload_n 3, 1) := dk_29 (dk_at dksX0_keep_2 3 rfl rfl)
theorem dX0_keep_50 : decode cX0_keep 50 = .ok (.aaload, 1) := dk_50 (dk_at dksX0_keep_2 4 rfl rfl)
theorem dX0_keep_51 : decode cX0_keep 51 = .ok (.aload_n 0, 1) := dk_42 (dk_at dksX0_keep_2 5 rfl rfl)
theorem dX0_keep_52 : decode cX0_keep 52 = .ok (.getfield 79, 3) := dk_180 0 79 (dk_at dksX0_keep_2 6 rfl rfl)
theorem dX0_keep_55 : decode cX0_keep 55 = .ok (.iload_n 3, 1) := dk_29 (dk_at dksX0_keep_2 9 rfl rfl)
theorem dX0_keep_56 : decode cX0_keep 56 = .ok (.aaload, 1) := dk_50 (dk_at dksX0_keep_2 10 rfl rfl)
theorem dX0_keep_57 : decode cX0_keep 57 = .ok (.invokevirtual 180, 3) := dk_182 0 180 (dk_at dksX0_keep_2 11 rfl rfl)
theorem dX0_keep_60 : decode cX0_keep 60 = .ok (.iinc 3 1, 3) := dk_132 3 1 (dk_at dksX0_keep_2 14 rfl rfl)
theorem dX0_keep_63 : decode cX0_keep 63 = .ok (.goto (-26), 3) := dk_167 255 230 (dk_at dksX0_keep_2 17 rfl rfl)
theorem dX0_keep_66 : decode cX0_keep 66 = .ok (.aload_n 2, 1) := dk_44 (dk_at dksX0_keep_2 20 rfl rfl)
theorem dX0_keep_67 : decode cX0_keep 67 = .ok (.iconst 1, 1) := dk_4 (dk_at dksX0_keep_2 21 rfl rfl)
theorem dX0_keep_68 : decode cX0_keep 68 = .ok (.putfield 62, 3) := dk_181 0 62 (dk_at dksX0_keep_3 0 rfl rfl)
theorem dX0_keep_71 : decode cX0_keep 71 = .ok (.aload_n 0, 1) := dk_42 (dk_at dksX0_keep_3 3 rfl rfl)
theorem dX0_keep_72 : decode cX0_keep 72 = .ok (.getfield 49, 3) := dk_180 0 49 (dk_at dksX0_keep_3 4 rfl rfl)
theorem dX0_keep_75 : decode cX0_keep 75 = .ok (.getfield 208, 3) := dk_180 0 208 (dk_at dksX0_keep_3 7 rfl rfl)
theorem dX0_keep_78 : decode cX0_keep 78 = .ok (.ifCond .eq 7, 3) := dk_153 0 7 (dk_at dksX0_keep_3 10 rfl rfl)
theorem dX0_keep_81 : decode cX0_keep 81 = .ok (.iconst 1, 1) := dk_4 (dk_at dksX0_keep_3 13 rfl rfl)
theorem dX0_keep_82 : decode cX0_keep 82 = .ok (.goto 4, 3) := dk_167 0 4 (dk_at dksX0_keep_3 14 rfl rfl)
theorem dX0_keep_85 : decode cX0_keep 85 = .ok (.iconst 0, 1) := dk_3 (dk_at dksX0_keep_3 17 rfl rfl)
theorem dX0_keep_86 : decode cX0_keep 86 = .ok (.ireturn, 1) := dk_172 (dk_at dksX0_keep_3 18 rfl rfl)
abbrev cX0_back : ByteArray := prog_1_method_52_code
def yX0_back : MethodName := ⟨RX0, "back", "(I)I"⟩
def dkwX0_back_3 : List UInt8 := [132, 3, 1, 167, 255, 230, 42, 180, 0, 49, 180, 0, 208, 153, 0, 7, 4, 167, 0, 4, 3, 172]
abbrev dktX0_back_3 : List UInt8 := dkwX0_back_3 ++ []
def dkwX0_back_2 : List UInt8 := [29, 42, 180, 0, 46, 162, 0, 24, 42, 180, 0, 79, 29, 50, 44, 180, 1, 38, 29, 50, 182, 0, 180]
abbrev dktX0_back_2 : List UInt8 := dkwX0_back_2 ++ dktX0_back_3
def dkwX0_back_1 : List UInt8 := [16, 254, 172, 42, 180, 0, 49, 44, 180, 1, 34, 182, 0, 180, 42, 44, 180, 1, 37, 181, 0, 46, 3, 62]
abbrev dktX0_back_1 : List UInt8 := dkwX0_back_1 ++ dktX0_back_2
def dkwX0_back_0 : List UInt8 := [27, 184, 0, 189, 154, 0, 5, 2, 172, 42, 180, 0, 58, 27, 50, 77, 44, 180, 0, 62, 154, 0, 6]
abbrev dktX0_back_0 : List UInt8 := dkwX0_back_0 ++ dktX0_back_1
theorem dksX0_back_0 : cX0_back.data.toList.drop 0 = dktX0_back_0 := by decide +kernel
theorem dksX0_back_1 : cX0_back.data.toList.drop 23 = dktX0_back_1 := dk_seg dksX0_back_0 23 rfl rfl
theorem dksX0_back_2 : cX0_back.data.toList.drop 47 = dktX0_back_2 := dk_seg dksX0_back_1 24 rfl rfl
theorem dksX0_back_3 : cX0_back.data.toList.drop 70 = dktX0_back_3 := dk_seg dksX0_back_2 23 rfl rfl
theorem dX0_back_0 : decode cX0_back 0 = .ok (.iload_n 1, 1) := dk_27 (dk_at dksX0_back_0 0 rfl rfl)
theorem dX0_back_1 : decode cX0_back 1 = .ok (.invokestatic 189, 3) := dk_184 0 189 (dk_at dksX0_back_0 1 rfl rfl)
theorem dX0_back_4 : decode cX0_back 4 = .ok (.ifCond .ne 5, 3) := dk_154 0 5 (dk_at dksX0_back_0 4 rfl rfl)
theorem dX0_back_7 : decode cX0_back 7 = .ok (.iconst (-1), 1) := dk_2 (dk_at dksX0_back_0 7 rfl rfl)
theorem dX0_back_8 : decode cX0_back 8 = .ok (.ireturn, 1) := dk_172 (dk_at dksX0_back_0 8 rfl rfl)
theorem dX0_back_9 : decode cX0_back 9 = .ok (.aload_n 0, 1) := dk_42 (dk_at dksX0_back_0 9 rfl rfl)
theorem dX0_back_10 : decode cX0_back 10 = .ok (.getfield 58, 3) := dk_180 0 58 (dk_at dksX0_back_0 10 rfl rfl)
theorem dX0_back_13 : decode cX0_back 13 = .ok (.iload_n 1, 1) := dk_27 (dk_at dksX0_back_0 13 rfl rfl)
theorem dX0_back_14 : decode cX0_back 14 = .ok (.aaload, 1) := dk_50 (dk_at dksX0_back_0 14 rfl rfl)
theorem dX0_back_15 : decode cX0_back 15 = .ok (.astore_n 2, 1) := dk_77 (dk_at dksX0_back_0 15 rfl rfl)
theorem dX0_back_16 : decode cX0_back 16 = .ok (.aload_n 2, 1) := dk_44 (dk_at dksX0_back_0 16 rfl rfl)
theorem dX0_back_17 : decode cX0_back 17 = .ok (.getfield 62, 3) := dk_180 0 62 (dk_at dksX0_back_0 17 rfl rfl)
theorem dX0_back_20 : decode cX0_back 20 = .ok (.ifCond .ne 6, 3) := dk_154 0 6 (dk_at dksX0_back_0 20 rfl rfl)
theorem dX0_back_23 : decode cX0_back 23 = .ok (.bipush (-2), 2) := dk_16 254 (dk_at dksX0_back_1 0 rfl rfl)
theorem dX0_back_25 : decode cX0_back 25 = .ok (.ireturn, 1) := dk_172 (dk_at dksX0_back_1 2 rfl rfl)
theorem dX0_back_26 : decode cX0_back 26 = .ok (.aload_n 0, 1) := dk_42 (dk_at dksX0_back_1 3 rfl rfl)
theorem dX0_back_27 : decode cX0_back 27 = .ok (.getfield 49, 3) := dk_180 0 49 (dk_at dksX0_back_1 4 rfl rfl)
theorem dX0_back_30 : decode cX0_back 30 = .ok (.aload_n 2, 1) := dk_44 (dk_at dksX0_back_1 7 rfl rfl)
theorem dX0_back_31 : decode cX0_back 31 = .ok (.getfield 290, 3) := dk_180 1 34 (dk_at dksX0_back_1 8 rfl rfl)
theorem dX0_back_34 : decode cX0_back 34 = .ok (.invokevirtual 180, 3) := dk_182 0 180 (dk_at dksX0_back_1 11 rfl rfl)
theorem dX0_back_37 : decode cX0_back 37 = .ok (.aload_n 0, 1) := dk_42 (dk_at dksX0_back_1 14 rfl rfl)
theorem dX0_back_38 : decode cX0_back 38 = .ok (.aload_n 2, 1) := dk_44 (dk_at dksX0_back_1 15 rfl rfl)
theorem dX0_back_39 : decode cX0_back 39 = .ok (.getfield 293, 3) := dk_180 1 37 (dk_at dksX0_back_1 16 rfl rfl)
theorem dX0_back_42 : decode cX0_back 42 = .ok (.putfield 46, 3) := dk_181 0 46 (dk_at dksX0_back_1 19 rfl rfl)
theorem dX0_back_45 : decode cX0_back 45 = .ok (.iconst 0, 1) := dk_3 (dk_at dksX0_back_1 22 rfl rfl)
theorem dX0_back_46 : decode cX0_back 46 = .ok (.istore_n 3, 1) := dk_62 (dk_at dksX0_back_1 23 rfl rfl)
theorem dX0_back_47 : decode cX0_back 47 = .ok (.iload_n 3, 1) := dk_29 (dk_at dksX0_back_2 0 rfl rfl)
theorem dX0_back_48 : decode cX0_back 48 = .ok (.aload_n 0, 1) := dk_42 (dk_at dksX0_back_2 1 rfl rfl)
theorem dX0_back_49 : decode cX0_back 49 = .ok (.getfield 46, 3) := dk_180 0 46 (dk_at dksX0_back_2 2 rfl rfl)
theorem dX0_back_52 : decode cX0_back 52 = .ok (.if_icmp .ge 24, 3) := dk_162 0 24 (dk_at dksX0_back_2 5 rfl rfl)
theorem dX0_back_55 : decode cX0_back 55 = .ok (.aload_n 0, 1) := dk_42 (dk_at dksX0_back_2 8 rfl rfl)
theorem dX0_back_56 : decode cX0_back 56 = .ok (.getfield 79, 3) := dk_180 0 79 (dk_at dksX0_back_2 9 rfl rfl)
theorem dX0_back_59 : decode cX0_back 59 = .ok (.iload_n 3, 1) := dk_29 (dk_at dksX0_back_2 12 rfl rfl)
theorem dX0_back_60 : decode cX0_back 60 = .ok (.aaload, 1) := dk_50 (dk_at dksX0_back_2 13 rfl rfl)
theorem dX0_back_61 : decode cX0_back 61 = .ok (.aload_n 2, 1) := dk_44 (dk_at dksX0_back_2 14 rfl rfl)
theorem dX0_back_62 : decode cX0_back 62 = .ok (.getfield 294, 3) := dk_180 1 38 (dk_at dksX0_back_2 15 rfl rfl)
theorem dX0_back_65 : decode cX0_back 65 = .ok (.iload_n 3, 1) := dk_29 (dk_at dksX0_back_2 18 rfl rfl)
theorem dX0_back_66 : decode cX0_back 66 = .ok (.aaload, 1) := dk_50 (dk_at dksX0_back_2 19 rfl rfl)
theorem dX0_back_67 : decode cX0_back 67 = .ok (.invokevirtual 180, 3) := dk_182 0 180 (dk_at dksX0_back_2 20 rfl rfl)
theorem dX0_back_70 : decode cX0_back 70 = .ok (.iinc 3 1, 3) := dk_132 3 1 (dk_at dksX0_back_3 0 rfl rfl)
theorem dX0_back_73 : decode cX0_back 73 = .ok (.goto (-26), 3) := dk_167 255 230 (dk_at dksX0_back_3 3 rfl rfl)
theorem dX0_back_76 : decode cX0_back 76 = .ok (.aload_n 0, 1) := dk_42 (dk_at dksX0_back_3 6 rfl rfl)
theorem dX0_back_77 : decode cX0_back 77 = .ok (.getfield 49, 3) := dk_180 0 49 (dk_at dksX0_back_3 7 rfl rfl)
theorem dX0_back_80 : decode cX0_back 80 = .ok (.getfield 208, 3) := dk_180 0 208 (dk_at dksX0_back_3 10 rfl rfl)
theorem dX0_back_83 : decode cX0_back 83 = .ok (.ifCond .eq 7, 3) := dk_153 0 7 (dk_at dksX0_back_3 13 rfl rfl)
theorem dX0_back_86 : decode cX0_back 86 = .ok (.iconst 1, 1) := dk_4 (dk_at dksX0_back_3 16 rfl rfl)
theorem dX0_back_87 : decode cX0_back 87 = .ok (.goto 4, 3) := dk_167 0 4 (dk_at dksX0_back_3 17 rfl rfl)
theorem dX0_back_90 : decode cX0_back 90 = .ok (.iconst 0, 1) := dk_3 (dk_at dksX0_back_3 20 rfl rfl)
theorem dX0_back_91 : decode cX0_back 91 = .ok (.ireturn, 1) := dk_172 (dk_at dksX0_back_3 21 rfl rfl)
abbrev cX0_count : ByteArray := prog_1_method_53_code
def yX0_count : MethodName := ⟨RX0, "count", "(I)I"⟩
def dkwX0_count_3 : List UInt8 := [42, 180, 0, 43, 172, 42, 180, 0, 46, 172, 42, 180, 0, 7, 172, 2, 172]
abbrev dktX0_count_3 : List UInt8 := dkwX0_count_3 ++ []
def dkwX0_count_2 : List UInt8 := [42, 180, 0, 30, 180, 0, 132, 172, 42, 180, 0, 30, 180, 0, 126, 172, 42, 180, 0, 30, 180, 0, 129, 172]
abbrev dktX0_count_2 : List UInt8 := dkwX0_count_2 ++ dktX0_count_3
def dkwX0_count_1 : List UInt8 := [170, 0, 0, 0, 0, 0, 78, 0, 0, 0, 0, 0, 0, 0, 5, 0, 0, 0, 39, 0, 0, 0, 47, 0, 0, 0, 55, 0, 0, 0, 63, 0, 0, 0, 68, 0, 0, 0, 73]
abbrev dktX0_count_1 : List UInt8 := dkwX0_count_1 ++ dktX0_count_2
def dkwX0_count_0 : List UInt8 := [27]
abbrev dktX0_count_0 : List UInt8 := dkwX0_count_0 ++ dktX0_count_1
theorem dksX0_count_0 : cX0_count.data.toList.drop 0 = dktX0_count_0 := by decide +kernel
theorem dksX0_count_1 : cX0_count.data.toList.drop 1 = dktX0_count_1 := dk_seg dksX0_count_0 1 rfl rfl
theorem dksX0_count_2 : cX0_count.data.toList.drop 40 = dktX0_count_2 := dk_seg dksX0_count_1 39 rfl rfl
theorem dksX0_count_3 : cX0_count.data.toList.drop 64 = dktX0_count_3 := dk_seg dksX0_count_2 24 rfl rfl
theorem dX0_count_0 : decode cX0_count 0 = .ok (.iload_n 1, 1) := dk_27 (dk_at dksX0_count_0 0 rfl rfl)
theorem dX0_count_1 : decode cX0_count 1 = .ok (.tableswitch 78 0 5 #[39, 47, 55, 63, 68, 73], 39) := by decide +kernel
theorem dX0_count_40 : decode cX0_count 40 = .ok (.aload_n 0, 1) := dk_42 (dk_at dksX0_count_2 0 rfl rfl)
theorem dX0_count_41 : decode cX0_count 41 = .ok (.getfield 30, 3) := dk_180 0 30 (dk_at dksX0_count_2 1 rfl rfl)
theorem dX0_count_44 : decode cX0_count 44 = .ok (.getfield 132, 3) := dk_180 0 132 (dk_at dksX0_count_2 4 rfl rfl)
theorem dX0_count_47 : decode cX0_count 47 = .ok (.ireturn, 1) := dk_172 (dk_at dksX0_count_2 7 rfl rfl)
theorem dX0_count_48 : decode cX0_count 48 = .ok (.aload_n 0, 1) := dk_42 (dk_at dksX0_count_2 8 rfl rfl)
theorem dX0_count_49 : decode cX0_count 49 = .ok (.getfield 30, 3) := dk_180 0 30 (dk_at dksX0_count_2 9 rfl rfl)
theorem dX0_count_52 : decode cX0_count 52 = .ok (.getfield 126, 3) := dk_180 0 126 (dk_at dksX0_count_2 12 rfl rfl)
theorem dX0_count_55 : decode cX0_count 55 = .ok (.ireturn, 1) := dk_172 (dk_at dksX0_count_2 15 rfl rfl)
theorem dX0_count_56 : decode cX0_count 56 = .ok (.aload_n 0, 1) := dk_42 (dk_at dksX0_count_2 16 rfl rfl)
theorem dX0_count_57 : decode cX0_count 57 = .ok (.getfield 30, 3) := dk_180 0 30 (dk_at dksX0_count_2 17 rfl rfl)
theorem dX0_count_60 : decode cX0_count 60 = .ok (.getfield 129, 3) := dk_180 0 129 (dk_at dksX0_count_2 20 rfl rfl)
theorem dX0_count_63 : decode cX0_count 63 = .ok (.ireturn, 1) := dk_172 (dk_at dksX0_count_2 23 rfl rfl)
theorem dX0_count_64 : decode cX0_count 64 = .ok (.aload_n 0, 1) := dk_42 (dk_at dksX0_count_3 0 rfl rfl)
theorem dX0_count_65 : decode cX0_count 65 = .ok (.getfield 43, 3) := dk_180 0 43 (dk_at dksX0_count_3 1 rfl rfl)
theorem dX0_count_68 : decode cX0_count 68 = .ok (.ireturn, 1) := dk_172 (dk_at dksX0_count_3 4 rfl rfl)
theorem dX0_count_69 : decode cX0_count 69 = .ok (.aload_n 0, 1) := dk_42 (dk_at dksX0_count_3 5 rfl rfl)
theorem dX0_count_70 : decode cX0_count 70 = .ok (.getfield 46, 3) := dk_180 0 46 (dk_at dksX0_count_3 6 rfl rfl)
theorem dX0_count_73 : decode cX0_count 73 = .ok (.ireturn, 1) := dk_172 (dk_at dksX0_count_3 9 rfl rfl)
theorem dX0_count_74 : decode cX0_count 74 = .ok (.aload_n 0, 1) := dk_42 (dk_at dksX0_count_3 10 rfl rfl)
theorem dX0_count_75 : decode cX0_count 75 = .ok (.getfield 7, 3) := dk_180 0 7 (dk_at dksX0_count_3 11 rfl rfl)
theorem dX0_count_78 : decode cX0_count 78 = .ok (.ireturn, 1) := dk_172 (dk_at dksX0_count_3 14 rfl rfl)
theorem dX0_count_79 : decode cX0_count 79 = .ok (.iconst (-1), 1) := dk_2 (dk_at dksX0_count_3 15 rfl rfl)
theorem dX0_count_80 : decode cX0_count 80 = .ok (.ireturn, 1) := dk_172 (dk_at dksX0_count_3 16 rfl rfl)
abbrev cX0_trace : ByteArray := prog_1_method_54_code
def yX0_trace : MethodName := ⟨RX0, "trace", "()J"⟩
theorem dX0_trace_0 : decode cX0_trace 0 = .ok (.aload_n 0, 1) := by decide +kernel
theorem dX0_trace_1 : decode cX0_trace 1 = .ok (.getfield 295, 3) := by decide +kernel
theorem dX0_trace_4 : decode cX0_trace 4 = .ok (.lreturn, 1) := by decide +kernel
theorem q54 : (Jvm.Cond.initialized "KindStreets") ∈ lw_all := lw_g (lw_at lw_m1 1 rfl) rfl
theorem q78 : (Jvm.Cond.instanceMethod ({ cls := "KindStreets", name := "type", desc := "(I)I" } : Jvm.MethodName)) ∈ lw_all := lw_g (lw_at lw_m1 25 rfl) rfl
theorem q79 : (Jvm.Cond.selects "KindStreets" ({ cls := "KindStreets", name := "type", desc := "(I)I" } : Jvm.MethodName) ({ cls := "KindStreets", name := "type", desc := "(I)I" } : Jvm.MethodName)) ∈ lw_all := lw_g (lw_at lw_m1 26 rfl) rfl
theorem q80 : (Jvm.Cond.code ({ cls := "KindStreets", name := "type", desc := "(I)I" } : Jvm.MethodName) prog_1_method_5_code (2 : Nat) (Option.some Jvm.ClassFile.FieldType.int)) ∈ lw_all := lw_g (lw_at lw_m1 27 rfl) rfl
theorem q81 : (Jvm.Cond.methodLink "KindStreets" (1 : Nat) ({ cls := "KindStreets", name := "isIn", desc := "(III)Z" } : Jvm.MethodName)) ∈ lw_all := lw_g (lw_at lw_m1 28 rfl) rfl
theorem q82 : (Jvm.Cond.static ({ cls := "KindStreets", name := "isIn", desc := "(III)Z" } : Jvm.MethodName)) ∈ lw_all := lw_g (lw_at lw_m1 29 rfl) rfl
theorem q83 : (Jvm.Cond.code ({ cls := "KindStreets", name := "isIn", desc := "(III)Z" } : Jvm.MethodName) prog_1_method_1_code (3 : Nat) (Option.some Jvm.ClassFile.FieldType.boolean)) ∈ lw_all := lw_g (lw_at lw_m1 30 rfl) rfl
theorem q85 : (Jvm.Cond.instanceMethod ({ cls := "KindStreets", name := "clear", desc := "()I" } : Jvm.MethodName)) ∈ lw_all := lw_g (lw_at lw_m1 32 rfl) rfl
theorem q86 : (Jvm.Cond.selects "KindStreets" ({ cls := "KindStreets", name := "clear", desc := "()I" } : Jvm.MethodName) ({ cls := "KindStreets", name := "clear", desc := "()I" } : Jvm.MethodName)) ∈ lw_all := lw_g (lw_at lw_m1 33 rfl) rfl
theorem q87 : (Jvm.Cond.code ({ cls := "KindStreets", name := "clear", desc := "()I" } : Jvm.MethodName) prog_1_method_6_code (2 : Nat) (Option.some Jvm.ClassFile.FieldType.int)) ∈ lw_all := lw_g (lw_at lw_m1 34 rfl) rfl
theorem q89 : (Jvm.Cond.instanceMethod ({ cls := "KindStreets", name := "town", desc := "()I" } : Jvm.MethodName)) ∈ lw_all := lw_g (lw_at lw_m1 36 rfl) rfl
theorem q90 : (Jvm.Cond.selects "KindStreets" ({ cls := "KindStreets", name := "town", desc := "()I" } : Jvm.MethodName) ({ cls := "KindStreets", name := "town", desc := "()I" } : Jvm.MethodName)) ∈ lw_all := lw_g (lw_at lw_m1 37 rfl) rfl
theorem q91 : (Jvm.Cond.codeWith ({ cls := "KindStreets", name := "town", desc := "()I" } : Jvm.MethodName) prog_1_method_7_code (3 : Nat) (Option.some Jvm.ClassFile.FieldType.int) [((0 : Nat), (8 : Nat), (11 : Nat), (25 : Nat))]) ∈ lw_all := lw_g (lw_at lw_m1 38 rfl) rfl
theorem q92 : (Jvm.Cond.classLink "KindStreets" (25 : Nat) "KindStreets$Fault") ∈ lw_all := lw_g (lw_at lw_m1 39 rfl) rfl
theorem q93 : (Jvm.Cond.methodLink "KindStreets" (19 : Nat) ({ cls := "KindStreets$Reader", name := "all", desc := "()I" } : Jvm.MethodName)) ∈ lw_all := lw_g (lw_at lw_m1 40 rfl) rfl
theorem q251 : (Jvm.Cond.fieldLinkNest "KindStreets" (27 : Nat) "KindStreets$Fault" "at" "I" "KindStreets") ∈ lw_tbl := lw_at lw_m1 198 rfl
theorem q293 : (Jvm.Cond.methodLink "KindStreets" (37 : Nat) ({ cls := "KindStreets$Town", name := "copy", desc := "(LKindStreets$Town;)V" } : Jvm.MethodName)) ∈ lw_all := lw_g (lw_at lw_m2 0 rfl) rfl
theorem q300 : (Jvm.Cond.methodLink "KindStreets" (53 : Nat) ({ cls := "KindStreets$Age", name := "begins", desc := "(LKindStreets$Town;)V" } : Jvm.MethodName)) ∈ lw_all := lw_g (lw_at lw_m2 7 rfl) rfl
theorem q306 : (Jvm.Cond.instantiable "KindStreets" (19 : Nat)) ∈ lw_all := lw_g (lw_at lw_m2 13 rfl) rfl
theorem q308 : (Jvm.Cond.instanceMethod ({ cls := "KindStreets", name := "<init>", desc := "()V" } : Jvm.MethodName)) ∈ lw_all := lw_g (lw_at lw_m2 15 rfl) rfl
theorem q309 : (Jvm.Cond.code ({ cls := "KindStreets", name := "<init>", desc := "()V" } : Jvm.MethodName) prog_1_method_8_code (2 : Nat) (Option.none : Option Jvm.ClassFile.FieldType)) ∈ lw_all := lw_g (lw_at lw_m2 16 rfl) rfl
theorem q310 : (Jvm.Cond.methodLink "KindStreets" (68 : Nat) ({ cls := "java/lang/Object", name := "<init>", desc := "()V" } : Jvm.MethodName)) ∈ lw_all := lw_g (lw_at lw_m2 17 rfl) rfl
theorem q311 : (Jvm.Cond.classLink "KindStreets" (38 : Nat) "KindStreets$Town") ∈ lw_all := lw_g (lw_at lw_m2 18 rfl) rfl
theorem q313 : (Jvm.Cond.methodLinkNest "KindStreets" (74 : Nat) ({ cls := "KindStreets$Town", name := "<init>", desc := "()V" } : Jvm.MethodName) "KindStreets") ∈ lw_tbl := lw_at lw_m2 20 rfl
theorem q319 : (Jvm.Cond.fieldLinkNest "KindStreets" (132 : Nat) "KindStreets$Town" "yards" "I" "KindStreets") ∈ lw_tbl := lw_at lw_m2 26 rfl
theorem q322 : (Jvm.Cond.fieldLinkNest "KindStreets" (126 : Nat) "KindStreets$Town" "streets" "I" "KindStreets") ∈ lw_tbl := lw_at lw_m2 29 rfl
theorem q325 : (Jvm.Cond.fieldLinkNest "KindStreets" (139 : Nat) "KindStreets$Town" "one" "[I" "KindStreets") ∈ lw_tbl := lw_at lw_m2 32 rfl
theorem q328 : (Jvm.Cond.fieldLinkNest "KindStreets" (142 : Nat) "KindStreets$Town" "other" "[I" "KindStreets") ∈ lw_tbl := lw_at lw_m2 35 rfl
theorem q335 : (Jvm.Cond.fieldLinkNest "KindStreets" (129 : Nat) "KindStreets$Town" "citizens" "I" "KindStreets") ∈ lw_tbl := lw_at lw_m2 42 rfl
theorem q341 : (Jvm.Cond.fieldLinkNest "KindStreets" (168 : Nat) "KindStreets$Town" "wants" "[I" "KindStreets") ∈ lw_tbl := lw_at lw_m2 48 rfl
theorem q360 : (Jvm.Cond.classLink "KindStreets" (20 : Nat) "KindStreets$Reader") ∈ lw_all := lw_g (lw_at lw_m2 67 rfl) rfl
theorem q361 : (Jvm.Cond.methodLinkNest "KindStreets" (75 : Nat) ({ cls := "KindStreets$Reader", name := "<init>", desc := "(LKindStreets;)V" } : Jvm.MethodName) "KindStreets") ∈ lw_tbl := lw_at lw_m2 68 rfl
theorem q387 : (Jvm.Cond.classLink "KindStreets" (54 : Nat) "KindStreets$Age") ∈ lw_all := lw_g (lw_at lw_m2 94 rfl) rfl
theorem q389 : (Jvm.Cond.methodLinkNest "KindStreets" (78 : Nat) ({ cls := "KindStreets$Age", name := "<init>", desc := "()V" } : Jvm.MethodName) "KindStreets") ∈ lw_tbl := lw_at lw_m2 96 rfl
theorem q394 : (Jvm.Cond.fieldLinkNest "KindStreets" (145 : Nat) "KindStreets$Age" "seen" "[B" "KindStreets") ∈ lw_tbl := lw_at lw_m2 101 rfl
theorem q397 : (Jvm.Cond.fieldLinkNest "KindStreets" (148 : Nat) "KindStreets$Age" "hidden" "[B" "KindStreets") ∈ lw_tbl := lw_at lw_m2 104 rfl
theorem q399 : (Jvm.Cond.fieldLinkNest "KindStreets" (151 : Nat) "KindStreets$Age" "faked" "[B" "KindStreets") ∈ lw_tbl := lw_at lw_m2 106 rfl
theorem q401 : (Jvm.Cond.fieldLinkNest "KindStreets" (165 : Nat) "KindStreets$Age" "home" "[I" "KindStreets") ∈ lw_tbl := lw_at lw_m2 108 rfl
theorem q403 : (Jvm.Cond.fieldLinkNest "KindStreets" (208 : Nat) "KindStreets$Age" "isNight" "Z" "KindStreets") ∈ lw_tbl := lw_at lw_m2 110 rfl
theorem q416 : (Jvm.Cond.classLink "KindStreets" (63 : Nat) "KindStreets$Image") ∈ lw_all := lw_g (lw_at lw_m2 123 rfl) rfl
theorem q419 : (Jvm.Cond.methodLink "KindStreets" (83 : Nat) ({ cls := "KindStreets$Image", name := "<init>", desc := "()V" } : Jvm.MethodName)) ∈ lw_all := lw_g (lw_at lw_m2 126 rfl) rfl
theorem q426 : (Jvm.Cond.fieldLinkNest "KindStreets" (290 : Nat) "KindStreets$Image" "age" "LKindStreets$Age;" "KindStreets") ∈ lw_tbl := lw_at lw_m2 133 rfl
theorem q428 : (Jvm.Cond.fieldLinkNest "KindStreets" (294 : Nat) "KindStreets$Image" "before" "[LKindStreets$Age;" "KindStreets") ∈ lw_tbl := lw_at lw_m2 135 rfl
theorem q429 : (Jvm.Cond.fieldLinkNest "KindStreets" (293 : Nat) "KindStreets$Image" "undos" "I" "KindStreets") ∈ lw_tbl := lw_at lw_m2 136 rfl
theorem q430 : (Jvm.Cond.fieldLinkNest "KindStreets" (62 : Nat) "KindStreets$Image" "isKept" "Z" "KindStreets") ∈ lw_tbl := lw_at lw_m2 137 rfl
theorem q440 : (Jvm.Cond.classLink "KindStreets" (104 : Nat) "KindStreets$Plain") ∈ lw_all := lw_g (lw_at lw_m2 147 rfl) rfl
theorem q443 : (Jvm.Cond.methodLinkNest "KindStreets" (106 : Nat) ({ cls := "KindStreets$Plain", name := "<init>", desc := "()V" } : Jvm.MethodName) "KindStreets") ∈ lw_tbl := lw_at lw_m2 150 rfl
theorem q449 : (Jvm.Cond.classLink "KindStreets" (107 : Nat) "KindStreets$Cross") ∈ lw_all := lw_g (lw_at lw_m2 156 rfl) rfl
theorem q451 : (Jvm.Cond.methodLinkNest "KindStreets" (109 : Nat) ({ cls := "KindStreets$Cross", name := "<init>", desc := "()V" } : Jvm.MethodName) "KindStreets") ∈ lw_tbl := lw_at lw_m2 158 rfl
theorem q456 : (Jvm.Cond.classLink "KindStreets" (110 : Nat) "KindStreets$Lane") ∈ lw_all := lw_g (lw_at lw_m2 163 rfl) rfl
theorem q458 : (Jvm.Cond.methodLinkNest "KindStreets" (112 : Nat) ({ cls := "KindStreets$Lane", name := "<init>", desc := "()V" } : Jvm.MethodName) "KindStreets") ∈ lw_tbl := lw_at lw_m2 165 rfl
theorem q463 : (Jvm.Cond.classLink "KindStreets" (113 : Nat) "KindStreets$Boulevard") ∈ lw_all := lw_g (lw_at lw_m2 170 rfl) rfl
theorem q465 : (Jvm.Cond.methodLinkNest "KindStreets" (115 : Nat) ({ cls := "KindStreets$Boulevard", name := "<init>", desc := "()V" } : Jvm.MethodName) "KindStreets") ∈ lw_tbl := lw_at lw_m2 172 rfl
theorem q470 : (Jvm.Cond.classLink "KindStreets" (116 : Nat) "KindStreets$Court") ∈ lw_all := lw_g (lw_at lw_m2 177 rfl) rfl
theorem q472 : (Jvm.Cond.methodLinkNest "KindStreets" (118 : Nat) ({ cls := "KindStreets$Court", name := "<init>", desc := "()V" } : Jvm.MethodName) "KindStreets") ∈ lw_tbl := lw_at lw_m2 179 rfl
theorem q477 : (Jvm.Cond.classLink "KindStreets" (119 : Nat) "KindStreets$Alley") ∈ lw_all := lw_g (lw_at lw_m2 184 rfl) rfl
theorem q479 : (Jvm.Cond.methodLinkNest "KindStreets" (121 : Nat) ({ cls := "KindStreets$Alley", name := "<init>", desc := "()V" } : Jvm.MethodName) "KindStreets") ∈ lw_tbl := lw_at lw_m2 186 rfl
theorem q485 : (Jvm.Cond.fieldLink "KindStreets" (30 : Nat) "KindStreets" "town" "LKindStreets$Town;") ∈ lw_all := lw_g (lw_at lw_m2 192 rfl) rfl
theorem q486 : (Jvm.Cond.fieldLink "KindStreets" (34 : Nat) "KindStreets" "draft" "LKindStreets$Town;") ∈ lw_all := lw_g (lw_at lw_m2 193 rfl) rfl
theorem q489 : (Jvm.Cond.fieldLink "KindStreets" (11 : Nat) "KindStreets" "text" "[B") ∈ lw_all := lw_g (lw_at lw_m2 196 rfl) rfl
theorem q491 : (Jvm.Cond.fieldLink "KindStreets" (7 : Nat) "KindStreets" "typed" "I") ∈ lw_all := lw_g (lw_at lw_m2 198 rfl) rfl
theorem q492 : (Jvm.Cond.fieldLink "KindStreets" (15 : Nat) "KindStreets" "reader" "LKindStreets$Reader;") ∈ lw_all := lw_g (lw_at lw_m2 199 rfl) rfl
theorem q496 : (Jvm.Cond.fieldLink "KindStreets" (49 : Nat) "KindStreets" "now" "LKindStreets$Age;") ∈ lw_all := lw_g (lw_at lw_m2 203 rfl) rfl
theorem q497 : (Jvm.Cond.fieldLink "KindStreets" (79 : Nat) "KindStreets" "before" "[LKindStreets$Age;") ∈ lw_all := lw_g (lw_at lw_m2 204 rfl) rfl
theorem q498 : (Jvm.Cond.fieldLink "KindStreets" (46 : Nat) "KindStreets" "undos" "I") ∈ lw_all := lw_g (lw_at lw_m2 205 rfl) rfl
theorem q499 : (Jvm.Cond.fieldLink "KindStreets" (58 : Nat) "KindStreets" "images" "[LKindStreets$Image;") ∈ lw_all := lw_g (lw_at lw_m2 206 rfl) rfl
theorem q500 : (Jvm.Cond.fieldLink "KindStreets" (84 : Nat) "KindStreets" "going" "[I") ∈ lw_all := lw_g (lw_at lw_m2 207 rfl) rfl
theorem q501 : (Jvm.Cond.fieldLink "KindStreets" (88 : Nat) "KindStreets" "by" "[I") ∈ lw_all := lw_g (lw_at lw_m2 208 rfl) rfl
theorem q502 : (Jvm.Cond.fieldLink "KindStreets" (91 : Nat) "KindStreets" "given" "[I") ∈ lw_all := lw_g (lw_at lw_m2 209 rfl) rfl
theorem q503 : (Jvm.Cond.fieldLink "KindStreets" (94 : Nat) "KindStreets" "bestGiven" "[I") ∈ lw_all := lw_g (lw_at lw_m2 210 rfl) rfl
theorem q504 : (Jvm.Cond.fieldLink "KindStreets" (264 : Nat) "KindStreets" "mostGiven" "I") ∈ lw_all := lw_g (lw_at lw_m2 211 rfl) rfl
theorem q505 : (Jvm.Cond.fieldLink "KindStreets" (97 : Nat) "KindStreets" "measured" "[I") ∈ lw_all := lw_g (lw_at lw_m2 212 rfl) rfl
theorem q506 : (Jvm.Cond.fieldLink "KindStreets" (100 : Nat) "KindStreets" "measuredAtNight" "[Z") ∈ lw_all := lw_g (lw_at lw_m2 213 rfl) rfl
theorem q507 : (Jvm.Cond.fieldLink "KindStreets" (43 : Nat) "KindStreets" "measuredMany" "I") ∈ lw_all := lw_g (lw_at lw_m2 214 rfl) rfl
theorem q508 : (Jvm.Cond.fieldLink "KindStreets" (122 : Nat) "KindStreets" "kinds" "[LKindStreets$Plain;") ∈ lw_all := lw_g (lw_at lw_m2 215 rfl) rfl
theorem q515 : (Jvm.Cond.fieldLink "KindStreets" (295 : Nat) "KindStreets" "trace" "J") ∈ lw_all := lw_g (lw_at lw_m2 222 rfl) rfl
theorem q516 : (Jvm.Cond.laysFinal "KindStreets" "KindStreets" "town" "LKindStreets$Town;") ∈ lw_all := lw_g (lw_at lw_m2 223 rfl) rfl
theorem q517 : (Jvm.Cond.soleField "KindStreets" "town") ∈ lw_all := lw_g (lw_at lw_m2 224 rfl) rfl
theorem q518 : (Jvm.Cond.laysFinal "KindStreets" "KindStreets" "draft" "LKindStreets$Town;") ∈ lw_all := lw_g (lw_at lw_m2 225 rfl) rfl
theorem q519 : (Jvm.Cond.soleField "KindStreets" "draft") ∈ lw_all := lw_g (lw_at lw_m2 226 rfl) rfl
theorem q520 : (Jvm.Cond.laysFinal "KindStreets" "KindStreets" "text" "[B") ∈ lw_all := lw_g (lw_at lw_m2 227 rfl) rfl
theorem q521 : (Jvm.Cond.soleField "KindStreets" "text") ∈ lw_all := lw_g (lw_at lw_m2 228 rfl) rfl
theorem q522 : (Jvm.Cond.lays "KindStreets" "KindStreets" "typed" "I") ∈ lw_all := lw_g (lw_at lw_m2 229 rfl) rfl
theorem q523 : (Jvm.Cond.soleField "KindStreets" "typed") ∈ lw_all := lw_g (lw_at lw_m2 230 rfl) rfl
theorem q524 : (Jvm.Cond.laysFinal "KindStreets" "KindStreets" "reader" "LKindStreets$Reader;") ∈ lw_all := lw_g (lw_at lw_m2 231 rfl) rfl
theorem q525 : (Jvm.Cond.soleField "KindStreets" "reader") ∈ lw_all := lw_g (lw_at lw_m2 232 rfl) rfl
theorem q526 : (Jvm.Cond.laysFinal "KindStreets" "KindStreets" "now" "LKindStreets$Age;") ∈ lw_all := lw_g (lw_at lw_m2 233 rfl) rfl
theorem q527 : (Jvm.Cond.soleField "KindStreets" "now") ∈ lw_all := lw_g (lw_at lw_m2 234 rfl) rfl
theorem q528 : (Jvm.Cond.laysFinal "KindStreets" "KindStreets" "before" "[LKindStreets$Age;") ∈ lw_all := lw_g (lw_at lw_m2 235 rfl) rfl
theorem q529 : (Jvm.Cond.soleField "KindStreets" "before") ∈ lw_all := lw_g (lw_at lw_m2 236 rfl) rfl
theorem q530 : (Jvm.Cond.lays "KindStreets" "KindStreets" "undos" "I") ∈ lw_all := lw_g (lw_at lw_m2 237 rfl) rfl
theorem q531 : (Jvm.Cond.soleField "KindStreets" "undos") ∈ lw_all := lw_g (lw_at lw_m2 238 rfl) rfl
theorem q532 : (Jvm.Cond.laysFinal "KindStreets" "KindStreets" "images" "[LKindStreets$Image;") ∈ lw_all := lw_g (lw_at lw_m2 239 rfl) rfl
theorem q533 : (Jvm.Cond.soleField "KindStreets" "images") ∈ lw_all := lw_g (lw_at lw_m3 0 rfl) rfl
theorem q534 : (Jvm.Cond.laysFinal "KindStreets" "KindStreets" "going" "[I") ∈ lw_all := lw_g (lw_at lw_m3 1 rfl) rfl
theorem q535 : (Jvm.Cond.soleField "KindStreets" "going") ∈ lw_all := lw_g (lw_at lw_m3 2 rfl) rfl
theorem q536 : (Jvm.Cond.laysFinal "KindStreets" "KindStreets" "by" "[I") ∈ lw_all := lw_g (lw_at lw_m3 3 rfl) rfl
theorem q537 : (Jvm.Cond.soleField "KindStreets" "by") ∈ lw_all := lw_g (lw_at lw_m3 4 rfl) rfl
theorem q538 : (Jvm.Cond.laysFinal "KindStreets" "KindStreets" "given" "[I") ∈ lw_all := lw_g (lw_at lw_m3 5 rfl) rfl
theorem q539 : (Jvm.Cond.soleField "KindStreets" "given") ∈ lw_all := lw_g (lw_at lw_m3 6 rfl) rfl
theorem q540 : (Jvm.Cond.laysFinal "KindStreets" "KindStreets" "bestGiven" "[I") ∈ lw_all := lw_g (lw_at lw_m3 7 rfl) rfl
theorem q541 : (Jvm.Cond.soleField "KindStreets" "bestGiven") ∈ lw_all := lw_g (lw_at lw_m3 8 rfl) rfl
theorem q542 : (Jvm.Cond.lays "KindStreets" "KindStreets" "mostGiven" "I") ∈ lw_all := lw_g (lw_at lw_m3 9 rfl) rfl
theorem q543 : (Jvm.Cond.soleField "KindStreets" "mostGiven") ∈ lw_all := lw_g (lw_at lw_m3 10 rfl) rfl
theorem q544 : (Jvm.Cond.laysFinal "KindStreets" "KindStreets" "measured" "[I") ∈ lw_all := lw_g (lw_at lw_m3 11 rfl) rfl
theorem q545 : (Jvm.Cond.soleField "KindStreets" "measured") ∈ lw_all := lw_g (lw_at lw_m3 12 rfl) rfl
theorem q546 : (Jvm.Cond.laysFinal "KindStreets" "KindStreets" "measuredAtNight" "[Z") ∈ lw_all := lw_g (lw_at lw_m3 13 rfl) rfl
theorem q547 : (Jvm.Cond.soleField "KindStreets" "measuredAtNight") ∈ lw_all := lw_g (lw_at lw_m3 14 rfl) rfl
theorem q548 : (Jvm.Cond.lays "KindStreets" "KindStreets" "measuredMany" "I") ∈ lw_all := lw_g (lw_at lw_m3 15 rfl) rfl
theorem q549 : (Jvm.Cond.soleField "KindStreets" "measuredMany") ∈ lw_all := lw_g (lw_at lw_m3 16 rfl) rfl
theorem q550 : (Jvm.Cond.laysFinal "KindStreets" "KindStreets" "kinds" "[LKindStreets$Plain;") ∈ lw_all := lw_g (lw_at lw_m3 17 rfl) rfl
theorem q551 : (Jvm.Cond.soleField "KindStreets" "kinds") ∈ lw_all := lw_g (lw_at lw_m3 18 rfl) rfl
theorem q552 : (Jvm.Cond.lays "KindStreets" "KindStreets" "trace" "J") ∈ lw_all := lw_g (lw_at lw_m3 19 rfl) rfl
theorem q553 : (Jvm.Cond.soleField "KindStreets" "trace") ∈ lw_all := lw_g (lw_at lw_m3 20 rfl) rfl
theorem q554 : (Jvm.Cond.superclass "KindStreets" "java/lang/Object") ∈ lw_all := lw_g (lw_at lw_m3 21 rfl) rfl
theorem q556 : (Jvm.Cond.instanceMethod ({ cls := "KindStreets", name := "street", desc := "(II)I" } : Jvm.MethodName)) ∈ lw_all := lw_g (lw_at lw_m3 23 rfl) rfl
theorem q557 : (Jvm.Cond.selects "KindStreets" ({ cls := "KindStreets", name := "street", desc := "(II)I" } : Jvm.MethodName) ({ cls := "KindStreets", name := "street", desc := "(II)I" } : Jvm.MethodName)) ∈ lw_all := lw_g (lw_at lw_m3 24 rfl) rfl
theorem q558 : (Jvm.Cond.code ({ cls := "KindStreets", name := "street", desc := "(II)I" } : Jvm.MethodName) prog_1_method_12_code (3 : Nat) (Option.some Jvm.ClassFile.FieldType.int)) ∈ lw_all := lw_g (lw_at lw_m3 25 rfl) rfl
theorem q559 : (Jvm.Cond.methodLink "KindStreets" (135 : Nat) ({ cls := "KindStreets", name := "isStreet", desc := "(I)Z" } : Jvm.MethodName)) ∈ lw_all := lw_g (lw_at lw_m3 26 rfl) rfl
theorem q560 : (Jvm.Cond.privateMethod ({ cls := "KindStreets", name := "isStreet", desc := "(I)Z" } : Jvm.MethodName)) ∈ lw_tbl := lw_at lw_m3 27 rfl
theorem q561 : (Jvm.Cond.instanceMethod ({ cls := "KindStreets", name := "isStreet", desc := "(I)Z" } : Jvm.MethodName)) ∈ lw_all := lw_g (lw_at lw_m3 28 rfl) rfl
theorem q562 : (Jvm.Cond.code ({ cls := "KindStreets", name := "isStreet", desc := "(I)Z" } : Jvm.MethodName) prog_1_method_9_code (2 : Nat) (Option.some Jvm.ClassFile.FieldType.boolean)) ∈ lw_all := lw_g (lw_at lw_m3 29 rfl) rfl
theorem q563 : (Jvm.Cond.methodLink "KindStreets" (154 : Nat) ({ cls := "KindStreets$Age", name := "width", desc := "(I)I" } : Jvm.MethodName)) ∈ lw_all := lw_g (lw_at lw_m3 30 rfl) rfl
theorem q568 : (Jvm.Cond.methodLink "KindStreets" (158 : Nat) ({ cls := "KindStreets$Age", name := "living", desc := "(LKindStreets$Town;I)I" } : Jvm.MethodName)) ∈ lw_all := lw_g (lw_at lw_m3 35 rfl) rfl
theorem q573 : (Jvm.Cond.instanceMethod ({ cls := "KindStreets", name := "citizen", desc := "(II)I" } : Jvm.MethodName)) ∈ lw_all := lw_g (lw_at lw_m3 40 rfl) rfl
theorem q574 : (Jvm.Cond.selects "KindStreets" ({ cls := "KindStreets", name := "citizen", desc := "(II)I" } : Jvm.MethodName) ({ cls := "KindStreets", name := "citizen", desc := "(II)I" } : Jvm.MethodName)) ∈ lw_all := lw_g (lw_at lw_m3 41 rfl) rfl
theorem q575 : (Jvm.Cond.code ({ cls := "KindStreets", name := "citizen", desc := "(II)I" } : Jvm.MethodName) prog_1_method_13_code (3 : Nat) (Option.some Jvm.ClassFile.FieldType.int)) ∈ lw_all := lw_g (lw_at lw_m3 42 rfl) rfl
theorem q576 : (Jvm.Cond.methodLink "KindStreets" (162 : Nat) ({ cls := "KindStreets", name := "isCitizen", desc := "(I)Z" } : Jvm.MethodName)) ∈ lw_all := lw_g (lw_at lw_m3 43 rfl) rfl
theorem q577 : (Jvm.Cond.privateMethod ({ cls := "KindStreets", name := "isCitizen", desc := "(I)Z" } : Jvm.MethodName)) ∈ lw_tbl := lw_at lw_m3 44 rfl
theorem q578 : (Jvm.Cond.instanceMethod ({ cls := "KindStreets", name := "isCitizen", desc := "(I)Z" } : Jvm.MethodName)) ∈ lw_all := lw_g (lw_at lw_m3 45 rfl) rfl
theorem q579 : (Jvm.Cond.code ({ cls := "KindStreets", name := "isCitizen", desc := "(I)Z" } : Jvm.MethodName) prog_1_method_10_code (2 : Nat) (Option.some Jvm.ClassFile.FieldType.boolean)) ∈ lw_all := lw_g (lw_at lw_m3 46 rfl) rfl
theorem q580 : (Jvm.Cond.methodLink "KindStreets" (171 : Nat) ({ cls := "KindStreets$Age", name := "witnesses", desc := "(LKindStreets$Town;I)I" } : Jvm.MethodName)) ∈ lw_all := lw_g (lw_at lw_m3 47 rfl) rfl
theorem q589 : (Jvm.Cond.instanceMethod ({ cls := "KindStreets", name := "does", desc := "(III)I" } : Jvm.MethodName)) ∈ lw_all := lw_g (lw_at lw_m3 56 rfl) rfl
theorem q590 : (Jvm.Cond.selects "KindStreets" ({ cls := "KindStreets", name := "does", desc := "(III)I" } : Jvm.MethodName) ({ cls := "KindStreets", name := "does", desc := "(III)I" } : Jvm.MethodName)) ∈ lw_all := lw_g (lw_at lw_m3 57 rfl) rfl
theorem q591 : (Jvm.Cond.code ({ cls := "KindStreets", name := "does", desc := "(III)I" } : Jvm.MethodName) prog_1_method_16_code (6 : Nat) (Option.some Jvm.ClassFile.FieldType.int)) ∈ lw_all := lw_g (lw_at lw_m3 58 rfl) rfl
theorem q592 : (Jvm.Cond.methodLink "KindStreets" (189 : Nat) ({ cls := "KindStreets", name := "isBit", desc := "(I)Z" } : Jvm.MethodName)) ∈ lw_all := lw_g (lw_at lw_m3 59 rfl) rfl
theorem q593 : (Jvm.Cond.static ({ cls := "KindStreets", name := "isBit", desc := "(I)Z" } : Jvm.MethodName)) ∈ lw_all := lw_g (lw_at lw_m3 60 rfl) rfl
theorem q594 : (Jvm.Cond.code ({ cls := "KindStreets", name := "isBit", desc := "(I)Z" } : Jvm.MethodName) prog_1_method_3_code (1 : Nat) (Option.some Jvm.ClassFile.FieldType.boolean)) ∈ lw_all := lw_g (lw_at lw_m3 61 rfl) rfl
theorem q595 : (Jvm.Cond.methodLink "KindStreets" (192 : Nat) ({ cls := "KindStreets", name := "notes", desc := "()V" } : Jvm.MethodName)) ∈ lw_all := lw_g (lw_at lw_m3 62 rfl) rfl
theorem q596 : (Jvm.Cond.privateMethod ({ cls := "KindStreets", name := "notes", desc := "()V" } : Jvm.MethodName)) ∈ lw_tbl := lw_at lw_m3 63 rfl
theorem q597 : (Jvm.Cond.instanceMethod ({ cls := "KindStreets", name := "notes", desc := "()V" } : Jvm.MethodName)) ∈ lw_all := lw_g (lw_at lw_m3 64 rfl) rfl
theorem q598 : (Jvm.Cond.code ({ cls := "KindStreets", name := "notes", desc := "()V" } : Jvm.MethodName) prog_1_method_14_code (2 : Nat) (Option.none : Option Jvm.ClassFile.FieldType)) ∈ lw_all := lw_g (lw_at lw_m3 65 rfl) rfl
theorem q599 : (Jvm.Cond.methodLink "KindStreets" (174 : Nat) ({ cls := "java/lang/System", name := "arraycopy", desc := "(Ljava/lang/Object;ILjava/lang/Object;II)V" } : Jvm.MethodName)) ∈ lw_all := lw_g (lw_at lw_m3 66 rfl) rfl
theorem q600 : (Jvm.Cond.methodLink "KindStreets" (180 : Nat) ({ cls := "KindStreets$Age", name := "copy", desc := "(LKindStreets$Age;)V" } : Jvm.MethodName)) ∈ lw_all := lw_g (lw_at lw_m3 67 rfl) rfl
theorem q604 : (Jvm.Cond.methodLink "KindStreets" (195 : Nat) ({ cls := "java/lang/Integer", name := "bitCount", desc := "(I)I" } : Jvm.MethodName)) ∈ lw_all := lw_g (lw_at lw_m3 71 rfl) rfl
theorem q610 : (Jvm.Cond.methodLink "KindStreets" (200 : Nat) ({ cls := "KindStreets", name := "raises", desc := "([BII)V" } : Jvm.MethodName)) ∈ lw_all := lw_g (lw_at lw_m3 77 rfl) rfl
theorem q611 : (Jvm.Cond.static ({ cls := "KindStreets", name := "raises", desc := "([BII)V" } : Jvm.MethodName)) ∈ lw_all := lw_g (lw_at lw_m3 78 rfl) rfl
theorem q612 : (Jvm.Cond.code ({ cls := "KindStreets", name := "raises", desc := "([BII)V" } : Jvm.MethodName) prog_1_method_15_code (3 : Nat) (Option.none : Option Jvm.ClassFile.FieldType)) ∈ lw_all := lw_g (lw_at lw_m3 79 rfl) rfl
theorem q613 : (Jvm.Cond.methodLink "KindStreets" (183 : Nat) ({ cls := "java/lang/Math", name := "max", desc := "(II)I" } : Jvm.MethodName)) ∈ lw_all := lw_g (lw_at lw_m3 80 rfl) rfl
theorem q615 : (Jvm.Cond.instanceMethod ({ cls := "KindStreets", name := "wills", desc := "(I)I" } : Jvm.MethodName)) ∈ lw_all := lw_g (lw_at lw_m3 82 rfl) rfl
theorem q616 : (Jvm.Cond.selects "KindStreets" ({ cls := "KindStreets", name := "wills", desc := "(I)I" } : Jvm.MethodName) ({ cls := "KindStreets", name := "wills", desc := "(I)I" } : Jvm.MethodName)) ∈ lw_all := lw_g (lw_at lw_m3 83 rfl) rfl
theorem q617 : (Jvm.Cond.code ({ cls := "KindStreets", name := "wills", desc := "(I)I" } : Jvm.MethodName) prog_1_method_17_code (3 : Nat) (Option.some Jvm.ClassFile.FieldType.int)) ∈ lw_all := lw_g (lw_at lw_m3 84 rfl) rfl
theorem q619 : (Jvm.Cond.instanceMethod ({ cls := "KindStreets", name := "moves", desc := "(II)I" } : Jvm.MethodName)) ∈ lw_all := lw_g (lw_at lw_m3 86 rfl) rfl
theorem q620 : (Jvm.Cond.selects "KindStreets" ({ cls := "KindStreets", name := "moves", desc := "(II)I" } : Jvm.MethodName) ({ cls := "KindStreets", name := "moves", desc := "(II)I" } : Jvm.MethodName)) ∈ lw_all := lw_g (lw_at lw_m3 87 rfl) rfl
theorem q621 : (Jvm.Cond.code ({ cls := "KindStreets", name := "moves", desc := "(II)I" } : Jvm.MethodName) prog_1_method_18_code (4 : Nat) (Option.some Jvm.ClassFile.FieldType.int)) ∈ lw_all := lw_g (lw_at lw_m3 88 rfl) rfl
theorem q623 : (Jvm.Cond.instanceMethod ({ cls := "KindStreets", name := "night", desc := "(I)I" } : Jvm.MethodName)) ∈ lw_all := lw_g (lw_at lw_m3 90 rfl) rfl
theorem q624 : (Jvm.Cond.selects "KindStreets" ({ cls := "KindStreets", name := "night", desc := "(I)I" } : Jvm.MethodName) ({ cls := "KindStreets", name := "night", desc := "(I)I" } : Jvm.MethodName)) ∈ lw_all := lw_g (lw_at lw_m3 91 rfl) rfl
theorem q625 : (Jvm.Cond.code ({ cls := "KindStreets", name := "night", desc := "(I)I" } : Jvm.MethodName) prog_1_method_21_code (2 : Nat) (Option.some Jvm.ClassFile.FieldType.int)) ∈ lw_all := lw_g (lw_at lw_m3 92 rfl) rfl
theorem q626 : (Jvm.Cond.methodLink "KindStreets" (211 : Nat) ({ cls := "KindStreets", name := "allStreets", desc := "()I" } : Jvm.MethodName)) ∈ lw_all := lw_g (lw_at lw_m3 93 rfl) rfl
theorem q627 : (Jvm.Cond.privateMethod ({ cls := "KindStreets", name := "allStreets", desc := "()I" } : Jvm.MethodName)) ∈ lw_tbl := lw_at lw_m3 94 rfl
theorem q628 : (Jvm.Cond.instanceMethod ({ cls := "KindStreets", name := "allStreets", desc := "()I" } : Jvm.MethodName)) ∈ lw_all := lw_g (lw_at lw_m3 95 rfl) rfl
theorem q629 : (Jvm.Cond.code ({ cls := "KindStreets", name := "allStreets", desc := "()I" } : Jvm.MethodName) prog_1_method_20_code (1 : Nat) (Option.some Jvm.ClassFile.FieldType.int)) ∈ lw_all := lw_g (lw_at lw_m3 96 rfl) rfl
theorem q630 : (Jvm.Cond.methodLink "KindStreets" (214 : Nat) ({ cls := "KindStreets", name := "widthsOf", desc := "(I)I" } : Jvm.MethodName)) ∈ lw_all := lw_g (lw_at lw_m3 97 rfl) rfl
theorem q631 : (Jvm.Cond.privateMethod ({ cls := "KindStreets", name := "widthsOf", desc := "(I)I" } : Jvm.MethodName)) ∈ lw_tbl := lw_at lw_m3 98 rfl
theorem q632 : (Jvm.Cond.instanceMethod ({ cls := "KindStreets", name := "widthsOf", desc := "(I)I" } : Jvm.MethodName)) ∈ lw_all := lw_g (lw_at lw_m3 99 rfl) rfl
theorem q633 : (Jvm.Cond.code ({ cls := "KindStreets", name := "widthsOf", desc := "(I)I" } : Jvm.MethodName) prog_1_method_19_code (4 : Nat) (Option.some Jvm.ClassFile.FieldType.int)) ∈ lw_all := lw_g (lw_at lw_m3 100 rfl) rfl
theorem q634 : (Jvm.Cond.methodLink "KindStreets" (204 : Nat) ({ cls := "KindStreets", name := "has", desc := "(II)Z" } : Jvm.MethodName)) ∈ lw_all := lw_g (lw_at lw_m3 101 rfl) rfl
theorem q635 : (Jvm.Cond.static ({ cls := "KindStreets", name := "has", desc := "(II)Z" } : Jvm.MethodName)) ∈ lw_all := lw_g (lw_at lw_m3 102 rfl) rfl
theorem q636 : (Jvm.Cond.code ({ cls := "KindStreets", name := "has", desc := "(II)Z" } : Jvm.MethodName) prog_1_method_2_code (2 : Nat) (Option.some Jvm.ClassFile.FieldType.boolean)) ∈ lw_all := lw_g (lw_at lw_m3 103 rfl) rfl
theorem q638 : (Jvm.Cond.instanceMethod ({ cls := "KindStreets", name := "undo", desc := "()I" } : Jvm.MethodName)) ∈ lw_all := lw_g (lw_at lw_m3 105 rfl) rfl
theorem q639 : (Jvm.Cond.selects "KindStreets" ({ cls := "KindStreets", name := "undo", desc := "()I" } : Jvm.MethodName) ({ cls := "KindStreets", name := "undo", desc := "()I" } : Jvm.MethodName)) ∈ lw_all := lw_g (lw_at lw_m3 106 rfl) rfl
theorem q640 : (Jvm.Cond.code ({ cls := "KindStreets", name := "undo", desc := "()I" } : Jvm.MethodName) prog_1_method_22_code (1 : Nat) (Option.some Jvm.ClassFile.FieldType.int)) ∈ lw_all := lw_g (lw_at lw_m3 107 rfl) rfl
theorem q642 : (Jvm.Cond.instanceMethod ({ cls := "KindStreets", name := "now", desc := "(I)I" } : Jvm.MethodName)) ∈ lw_all := lw_g (lw_at lw_m3 109 rfl) rfl
theorem q643 : (Jvm.Cond.selects "KindStreets" ({ cls := "KindStreets", name := "now", desc := "(I)I" } : Jvm.MethodName) ({ cls := "KindStreets", name := "now", desc := "(I)I" } : Jvm.MethodName)) ∈ lw_all := lw_g (lw_at lw_m3 110 rfl) rfl
theorem q644 : (Jvm.Cond.code ({ cls := "KindStreets", name := "now", desc := "(I)I" } : Jvm.MethodName) prog_1_method_24_code (2 : Nat) (Option.some Jvm.ClassFile.FieldType.int)) ∈ lw_all := lw_g (lw_at lw_m3 111 rfl) rfl
theorem q645 : (Jvm.Cond.methodLink "KindStreets" (217 : Nat) ({ cls := "KindStreets", name := "hiding", desc := "()I" } : Jvm.MethodName)) ∈ lw_all := lw_g (lw_at lw_m3 112 rfl) rfl
theorem q646 : (Jvm.Cond.privateMethod ({ cls := "KindStreets", name := "hiding", desc := "()I" } : Jvm.MethodName)) ∈ lw_tbl := lw_at lw_m3 113 rfl
theorem q647 : (Jvm.Cond.instanceMethod ({ cls := "KindStreets", name := "hiding", desc := "()I" } : Jvm.MethodName)) ∈ lw_all := lw_g (lw_at lw_m3 114 rfl) rfl
theorem q648 : (Jvm.Cond.code ({ cls := "KindStreets", name := "hiding", desc := "()I" } : Jvm.MethodName) prog_1_method_23_code (3 : Nat) (Option.some Jvm.ClassFile.FieldType.int)) ∈ lw_all := lw_g (lw_at lw_m3 115 rfl) rfl
theorem q650 : (Jvm.Cond.instanceMethod ({ cls := "KindStreets", name := "widest", desc := "(II)I" } : Jvm.MethodName)) ∈ lw_all := lw_g (lw_at lw_m3 117 rfl) rfl
theorem q651 : (Jvm.Cond.selects "KindStreets" ({ cls := "KindStreets", name := "widest", desc := "(II)I" } : Jvm.MethodName) ({ cls := "KindStreets", name := "widest", desc := "(II)I" } : Jvm.MethodName)) ∈ lw_all := lw_g (lw_at lw_m3 118 rfl) rfl
theorem q652 : (Jvm.Cond.code ({ cls := "KindStreets", name := "widest", desc := "(II)I" } : Jvm.MethodName) prog_1_method_27_code (4 : Nat) (Option.some Jvm.ClassFile.FieldType.int)) ∈ lw_all := lw_g (lw_at lw_m3 119 rfl) rfl
theorem q653 : (Jvm.Cond.methodLink "KindStreets" (224 : Nat) ({ cls := "KindStreets", name := "areYards", desc := "(II)Z" } : Jvm.MethodName)) ∈ lw_all := lw_g (lw_at lw_m3 120 rfl) rfl
theorem q654 : (Jvm.Cond.privateMethod ({ cls := "KindStreets", name := "areYards", desc := "(II)Z" } : Jvm.MethodName)) ∈ lw_tbl := lw_at lw_m3 121 rfl
theorem q655 : (Jvm.Cond.instanceMethod ({ cls := "KindStreets", name := "areYards", desc := "(II)Z" } : Jvm.MethodName)) ∈ lw_all := lw_g (lw_at lw_m3 122 rfl) rfl
theorem q656 : (Jvm.Cond.code ({ cls := "KindStreets", name := "areYards", desc := "(II)Z" } : Jvm.MethodName) prog_1_method_11_code (3 : Nat) (Option.some Jvm.ClassFile.FieldType.boolean)) ∈ lw_all := lw_g (lw_at lw_m3 123 rfl) rfl
theorem q657 : (Jvm.Cond.methodLink "KindStreets" (227 : Nat) ({ cls := "KindStreets", name := "wide", desc := "(I)I" } : Jvm.MethodName)) ∈ lw_all := lw_g (lw_at lw_m3 124 rfl) rfl
theorem q658 : (Jvm.Cond.privateMethod ({ cls := "KindStreets", name := "wide", desc := "(I)I" } : Jvm.MethodName)) ∈ lw_tbl := lw_at lw_m3 125 rfl
theorem q659 : (Jvm.Cond.instanceMethod ({ cls := "KindStreets", name := "wide", desc := "(I)I" } : Jvm.MethodName)) ∈ lw_all := lw_g (lw_at lw_m3 126 rfl) rfl
theorem q660 : (Jvm.Cond.code ({ cls := "KindStreets", name := "wide", desc := "(I)I" } : Jvm.MethodName) prog_1_method_25_code (4 : Nat) (Option.some Jvm.ClassFile.FieldType.int)) ∈ lw_all := lw_g (lw_at lw_m3 127 rfl) rfl
theorem q661 : (Jvm.Cond.methodLink "KindStreets" (230 : Nat) ({ cls := "KindStreets", name := "comes", desc := "(III)Z" } : Jvm.MethodName)) ∈ lw_all := lw_g (lw_at lw_m3 128 rfl) rfl
theorem q662 : (Jvm.Cond.privateMethod ({ cls := "KindStreets", name := "comes", desc := "(III)Z" } : Jvm.MethodName)) ∈ lw_tbl := lw_at lw_m3 129 rfl
theorem q663 : (Jvm.Cond.instanceMethod ({ cls := "KindStreets", name := "comes", desc := "(III)Z" } : Jvm.MethodName)) ∈ lw_all := lw_g (lw_at lw_m3 130 rfl) rfl
theorem q664 : (Jvm.Cond.code ({ cls := "KindStreets", name := "comes", desc := "(III)Z" } : Jvm.MethodName) prog_1_method_26_code (4 : Nat) (Option.some Jvm.ClassFile.FieldType.boolean)) ∈ lw_all := lw_g (lw_at lw_m3 131 rfl) rfl
theorem q665 : (Jvm.Cond.methodLink "KindStreets" (220 : Nat) ({ cls := "KindStreets$Town", name := "far", desc := "(III)I" } : Jvm.MethodName)) ∈ lw_all := lw_g (lw_at lw_m3 132 rfl) rfl
theorem q675 : (Jvm.Cond.instanceMethod ({ cls := "KindStreets", name := "way", desc := "(III)I" } : Jvm.MethodName)) ∈ lw_all := lw_g (lw_at lw_m3 142 rfl) rfl
theorem q676 : (Jvm.Cond.selects "KindStreets" ({ cls := "KindStreets", name := "way", desc := "(III)I" } : Jvm.MethodName) ({ cls := "KindStreets", name := "way", desc := "(III)I" } : Jvm.MethodName)) ∈ lw_all := lw_g (lw_at lw_m3 143 rfl) rfl
theorem q677 : (Jvm.Cond.code ({ cls := "KindStreets", name := "way", desc := "(III)I" } : Jvm.MethodName) prog_1_method_28_code (4 : Nat) (Option.some Jvm.ClassFile.FieldType.int)) ∈ lw_all := lw_g (lw_at lw_m3 144 rfl) rfl
theorem q678 : (Jvm.Cond.methodLink "KindStreets" (233 : Nat) ({ cls := "KindStreets", name := "isWidth", desc := "(I)Z" } : Jvm.MethodName)) ∈ lw_all := lw_g (lw_at lw_m3 145 rfl) rfl
theorem q679 : (Jvm.Cond.static ({ cls := "KindStreets", name := "isWidth", desc := "(I)Z" } : Jvm.MethodName)) ∈ lw_all := lw_g (lw_at lw_m3 146 rfl) rfl
theorem q680 : (Jvm.Cond.code ({ cls := "KindStreets", name := "isWidth", desc := "(I)Z" } : Jvm.MethodName) prog_1_method_4_code (1 : Nat) (Option.some Jvm.ClassFile.FieldType.boolean)) ∈ lw_all := lw_g (lw_at lw_m3 147 rfl) rfl
theorem q682 : (Jvm.Cond.instanceMethod ({ cls := "KindStreets", name := "flow", desc := "(III)I" } : Jvm.MethodName)) ∈ lw_all := lw_g (lw_at lw_m3 149 rfl) rfl
theorem q683 : (Jvm.Cond.selects "KindStreets" ({ cls := "KindStreets", name := "flow", desc := "(III)I" } : Jvm.MethodName) ({ cls := "KindStreets", name := "flow", desc := "(III)I" } : Jvm.MethodName)) ∈ lw_all := lw_g (lw_at lw_m3 150 rfl) rfl
theorem q684 : (Jvm.Cond.code ({ cls := "KindStreets", name := "flow", desc := "(III)I" } : Jvm.MethodName) prog_1_method_35_code (5 : Nat) (Option.some Jvm.ClassFile.FieldType.int)) ∈ lw_all := lw_g (lw_at lw_m3 151 rfl) rfl
theorem q685 : (Jvm.Cond.methodLink "KindStreets" (252 : Nat) ({ cls := "KindStreets", name := "flowOf", desc := "(II)I" } : Jvm.MethodName)) ∈ lw_all := lw_g (lw_at lw_m3 152 rfl) rfl
theorem q686 : (Jvm.Cond.privateMethod ({ cls := "KindStreets", name := "flowOf", desc := "(II)I" } : Jvm.MethodName)) ∈ lw_tbl := lw_at lw_m3 153 rfl
theorem q687 : (Jvm.Cond.instanceMethod ({ cls := "KindStreets", name := "flowOf", desc := "(II)I" } : Jvm.MethodName)) ∈ lw_all := lw_g (lw_at lw_m3 154 rfl) rfl
theorem q688 : (Jvm.Cond.code ({ cls := "KindStreets", name := "flowOf", desc := "(II)I" } : Jvm.MethodName) prog_1_method_33_code (4 : Nat) (Option.some Jvm.ClassFile.FieldType.int)) ∈ lw_all := lw_g (lw_at lw_m3 155 rfl) rfl
theorem q689 : (Jvm.Cond.methodLink "KindStreets" (246 : Nat) ({ cls := "KindStreets", name := "finds", desc := "(II)Z" } : Jvm.MethodName)) ∈ lw_all := lw_g (lw_at lw_m3 156 rfl) rfl
theorem q690 : (Jvm.Cond.privateMethod ({ cls := "KindStreets", name := "finds", desc := "(II)Z" } : Jvm.MethodName)) ∈ lw_tbl := lw_at lw_m3 157 rfl
theorem q691 : (Jvm.Cond.instanceMethod ({ cls := "KindStreets", name := "finds", desc := "(II)Z" } : Jvm.MethodName)) ∈ lw_all := lw_g (lw_at lw_m3 158 rfl) rfl
theorem q692 : (Jvm.Cond.code ({ cls := "KindStreets", name := "finds", desc := "(II)Z" } : Jvm.MethodName) prog_1_method_31_code (8 : Nat) (Option.some Jvm.ClassFile.FieldType.boolean)) ∈ lw_all := lw_g (lw_at lw_m3 159 rfl) rfl
theorem q693 : (Jvm.Cond.methodLink "KindStreets" (236 : Nat) ({ cls := "KindStreets", name := "beyond", desc := "(II)I" } : Jvm.MethodName)) ∈ lw_all := lw_g (lw_at lw_m3 160 rfl) rfl
theorem q694 : (Jvm.Cond.privateMethod ({ cls := "KindStreets", name := "beyond", desc := "(II)I" } : Jvm.MethodName)) ∈ lw_tbl := lw_at lw_m3 161 rfl
theorem q695 : (Jvm.Cond.instanceMethod ({ cls := "KindStreets", name := "beyond", desc := "(II)I" } : Jvm.MethodName)) ∈ lw_all := lw_g (lw_at lw_m3 162 rfl) rfl
theorem q696 : (Jvm.Cond.code ({ cls := "KindStreets", name := "beyond", desc := "(II)I" } : Jvm.MethodName) prog_1_method_30_code (3 : Nat) (Option.some Jvm.ClassFile.FieldType.int)) ∈ lw_all := lw_g (lw_at lw_m3 163 rfl) rfl
theorem q697 : (Jvm.Cond.methodLink "KindStreets" (239 : Nat) ({ cls := "KindStreets", name := "room", desc := "(II)I" } : Jvm.MethodName)) ∈ lw_all := lw_g (lw_at lw_m3 164 rfl) rfl
theorem q698 : (Jvm.Cond.privateMethod ({ cls := "KindStreets", name := "room", desc := "(II)I" } : Jvm.MethodName)) ∈ lw_tbl := lw_at lw_m3 165 rfl
theorem q699 : (Jvm.Cond.instanceMethod ({ cls := "KindStreets", name := "room", desc := "(II)I" } : Jvm.MethodName)) ∈ lw_all := lw_g (lw_at lw_m3 166 rfl) rfl
theorem q700 : (Jvm.Cond.code ({ cls := "KindStreets", name := "room", desc := "(II)I" } : Jvm.MethodName) prog_1_method_29_code (3 : Nat) (Option.some Jvm.ClassFile.FieldType.int)) ∈ lw_all := lw_g (lw_at lw_m3 167 rfl) rfl
theorem q701 : (Jvm.Cond.methodLink "KindStreets" (249 : Nat) ({ cls := "KindStreets", name := "sends", desc := "(II)I" } : Jvm.MethodName)) ∈ lw_all := lw_g (lw_at lw_m3 168 rfl) rfl
theorem q702 : (Jvm.Cond.privateMethod ({ cls := "KindStreets", name := "sends", desc := "(II)I" } : Jvm.MethodName)) ∈ lw_tbl := lw_at lw_m3 169 rfl
theorem q703 : (Jvm.Cond.instanceMethod ({ cls := "KindStreets", name := "sends", desc := "(II)I" } : Jvm.MethodName)) ∈ lw_all := lw_g (lw_at lw_m3 170 rfl) rfl
theorem q704 : (Jvm.Cond.code ({ cls := "KindStreets", name := "sends", desc := "(II)I" } : Jvm.MethodName) prog_1_method_32_code (5 : Nat) (Option.some Jvm.ClassFile.FieldType.int)) ∈ lw_all := lw_g (lw_at lw_m3 171 rfl) rfl
theorem q705 : (Jvm.Cond.constant "KindStreets" (242 : Nat) (1000000 : Int32)) ∈ lw_all := lw_g (lw_at lw_m3 172 rfl) rfl
theorem q706 : (Jvm.Cond.methodLink "KindStreets" (243 : Nat) ({ cls := "java/lang/Math", name := "min", desc := "(II)I" } : Jvm.MethodName)) ∈ lw_all := lw_g (lw_at lw_m3 173 rfl) rfl
theorem q707 : (Jvm.Cond.methodLink "KindStreets" (255 : Nat) ({ cls := "KindStreets", name := "narrows", desc := "(III)I" } : Jvm.MethodName)) ∈ lw_all := lw_g (lw_at lw_m3 174 rfl) rfl
theorem q708 : (Jvm.Cond.privateMethod ({ cls := "KindStreets", name := "narrows", desc := "(III)I" } : Jvm.MethodName)) ∈ lw_tbl := lw_at lw_m3 175 rfl
theorem q709 : (Jvm.Cond.instanceMethod ({ cls := "KindStreets", name := "narrows", desc := "(III)I" } : Jvm.MethodName)) ∈ lw_all := lw_g (lw_at lw_m3 176 rfl) rfl
theorem q710 : (Jvm.Cond.code ({ cls := "KindStreets", name := "narrows", desc := "(III)I" } : Jvm.MethodName) prog_1_method_34_code (8 : Nat) (Option.some Jvm.ClassFile.FieldType.int)) ∈ lw_all := lw_g (lw_at lw_m3 177 rfl) rfl
theorem q712 : (Jvm.Cond.instanceMethod ({ cls := "KindStreets", name := "need", desc := "(III)I" } : Jvm.MethodName)) ∈ lw_all := lw_g (lw_at lw_m3 179 rfl) rfl
theorem q713 : (Jvm.Cond.selects "KindStreets" ({ cls := "KindStreets", name := "need", desc := "(III)I" } : Jvm.MethodName) ({ cls := "KindStreets", name := "need", desc := "(III)I" } : Jvm.MethodName)) ∈ lw_all := lw_g (lw_at lw_m3 180 rfl) rfl
theorem q714 : (Jvm.Cond.code ({ cls := "KindStreets", name := "need", desc := "(III)I" } : Jvm.MethodName) prog_1_method_36_code (9 : Nat) (Option.some Jvm.ClassFile.FieldType.int)) ∈ lw_all := lw_g (lw_at lw_m3 181 rfl) rfl
theorem q716 : (Jvm.Cond.instanceMethod ({ cls := "KindStreets", name := "odds", desc := "(IIII)I" } : Jvm.MethodName)) ∈ lw_all := lw_g (lw_at lw_m3 183 rfl) rfl
theorem q717 : (Jvm.Cond.selects "KindStreets" ({ cls := "KindStreets", name := "odds", desc := "(IIII)I" } : Jvm.MethodName) ({ cls := "KindStreets", name := "odds", desc := "(IIII)I" } : Jvm.MethodName)) ∈ lw_all := lw_g (lw_at lw_m3 184 rfl) rfl
theorem q718 : (Jvm.Cond.code ({ cls := "KindStreets", name := "odds", desc := "(IIII)I" } : Jvm.MethodName) prog_1_method_39_code (8 : Nat) (Option.some Jvm.ClassFile.FieldType.int)) ∈ lw_all := lw_g (lw_at lw_m3 185 rfl) rfl
theorem q719 : (Jvm.Cond.methodLink "KindStreets" (258 : Nat) ({ cls := "KindStreets", name := "power", desc := "(II)I" } : Jvm.MethodName)) ∈ lw_all := lw_g (lw_at lw_m3 186 rfl) rfl
theorem q720 : (Jvm.Cond.static ({ cls := "KindStreets", name := "power", desc := "(II)I" } : Jvm.MethodName)) ∈ lw_all := lw_g (lw_at lw_m3 187 rfl) rfl
theorem q721 : (Jvm.Cond.code ({ cls := "KindStreets", name := "power", desc := "(II)I" } : Jvm.MethodName) prog_1_method_38_code (4 : Nat) (Option.some Jvm.ClassFile.FieldType.int)) ∈ lw_all := lw_g (lw_at lw_m3 188 rfl) rfl
theorem q722 : (Jvm.Cond.methodLink "KindStreets" (261 : Nat) ({ cls := "KindStreets", name := "gcd", desc := "(II)I" } : Jvm.MethodName)) ∈ lw_all := lw_g (lw_at lw_m3 189 rfl) rfl
theorem q723 : (Jvm.Cond.static ({ cls := "KindStreets", name := "gcd", desc := "(II)I" } : Jvm.MethodName)) ∈ lw_all := lw_g (lw_at lw_m3 190 rfl) rfl
theorem q724 : (Jvm.Cond.code ({ cls := "KindStreets", name := "gcd", desc := "(II)I" } : Jvm.MethodName) prog_1_method_37_code (5 : Nat) (Option.some Jvm.ClassFile.FieldType.int)) ∈ lw_all := lw_g (lw_at lw_m3 191 rfl) rfl
theorem q726 : (Jvm.Cond.instanceMethod ({ cls := "KindStreets", name := "carriage", desc := "(I)I" } : Jvm.MethodName)) ∈ lw_all := lw_g (lw_at lw_m3 193 rfl) rfl
theorem q727 : (Jvm.Cond.selects "KindStreets" ({ cls := "KindStreets", name := "carriage", desc := "(I)I" } : Jvm.MethodName) ({ cls := "KindStreets", name := "carriage", desc := "(I)I" } : Jvm.MethodName)) ∈ lw_all := lw_g (lw_at lw_m3 194 rfl) rfl
theorem q728 : (Jvm.Cond.code ({ cls := "KindStreets", name := "carriage", desc := "(I)I" } : Jvm.MethodName) prog_1_method_41_code (2 : Nat) (Option.some Jvm.ClassFile.FieldType.int)) ∈ lw_all := lw_g (lw_at lw_m3 195 rfl) rfl
theorem q729 : (Jvm.Cond.methodLink "KindStreets" (267 : Nat) ({ cls := "KindStreets", name := "gives", desc := "(III)V" } : Jvm.MethodName)) ∈ lw_all := lw_g (lw_at lw_m3 196 rfl) rfl
theorem q730 : (Jvm.Cond.privateMethod ({ cls := "KindStreets", name := "gives", desc := "(III)V" } : Jvm.MethodName)) ∈ lw_tbl := lw_at lw_m3 197 rfl
theorem q731 : (Jvm.Cond.instanceMethod ({ cls := "KindStreets", name := "gives", desc := "(III)V" } : Jvm.MethodName)) ∈ lw_all := lw_g (lw_at lw_m3 198 rfl) rfl
theorem q732 : (Jvm.Cond.code ({ cls := "KindStreets", name := "gives", desc := "(III)V" } : Jvm.MethodName) prog_1_method_40_code (5 : Nat) (Option.none : Option Jvm.ClassFile.FieldType)) ∈ lw_all := lw_g (lw_at lw_m3 199 rfl) rfl
theorem q734 : (Jvm.Cond.instanceMethod ({ cls := "KindStreets", name := "measures", desc := "(II)I" } : Jvm.MethodName)) ∈ lw_all := lw_g (lw_at lw_m3 201 rfl) rfl
theorem q735 : (Jvm.Cond.selects "KindStreets" ({ cls := "KindStreets", name := "measures", desc := "(II)I" } : Jvm.MethodName) ({ cls := "KindStreets", name := "measures", desc := "(II)I" } : Jvm.MethodName)) ∈ lw_all := lw_g (lw_at lw_m3 202 rfl) rfl
theorem q736 : (Jvm.Cond.code ({ cls := "KindStreets", name := "measures", desc := "(II)I" } : Jvm.MethodName) prog_1_method_42_code (3 : Nat) (Option.some Jvm.ClassFile.FieldType.int)) ∈ lw_all := lw_g (lw_at lw_m3 203 rfl) rfl
theorem q738 : (Jvm.Cond.instanceMethod ({ cls := "KindStreets", name := "forget", desc := "()I" } : Jvm.MethodName)) ∈ lw_all := lw_g (lw_at lw_m3 205 rfl) rfl
theorem q739 : (Jvm.Cond.selects "KindStreets" ({ cls := "KindStreets", name := "forget", desc := "()I" } : Jvm.MethodName) ({ cls := "KindStreets", name := "forget", desc := "()I" } : Jvm.MethodName)) ∈ lw_all := lw_g (lw_at lw_m3 206 rfl) rfl
theorem q740 : (Jvm.Cond.code ({ cls := "KindStreets", name := "forget", desc := "()I" } : Jvm.MethodName) prog_1_method_43_code (2 : Nat) (Option.some Jvm.ClassFile.FieldType.int)) ∈ lw_all := lw_g (lw_at lw_m3 207 rfl) rfl
theorem q742 : (Jvm.Cond.instanceMethod ({ cls := "KindStreets", name := "deeds", desc := "(I)I" } : Jvm.MethodName)) ∈ lw_all := lw_g (lw_at lw_m3 209 rfl) rfl
theorem q743 : (Jvm.Cond.selects "KindStreets" ({ cls := "KindStreets", name := "deeds", desc := "(I)I" } : Jvm.MethodName) ({ cls := "KindStreets", name := "deeds", desc := "(I)I" } : Jvm.MethodName)) ∈ lw_all := lw_g (lw_at lw_m3 210 rfl) rfl
theorem q744 : (Jvm.Cond.code ({ cls := "KindStreets", name := "deeds", desc := "(I)I" } : Jvm.MethodName) prog_1_method_46_code (5 : Nat) (Option.some Jvm.ClassFile.FieldType.int)) ∈ lw_all := lw_g (lw_at lw_m3 211 rfl) rfl
theorem q745 : (Jvm.Cond.methodLink "KindStreets" (275 : Nat) ({ cls := "KindStreets", name := "isAsMeasured", desc := "(II)Z" } : Jvm.MethodName)) ∈ lw_all := lw_g (lw_at lw_m3 212 rfl) rfl
theorem q746 : (Jvm.Cond.privateMethod ({ cls := "KindStreets", name := "isAsMeasured", desc := "(II)Z" } : Jvm.MethodName)) ∈ lw_tbl := lw_at lw_m3 213 rfl
theorem q747 : (Jvm.Cond.instanceMethod ({ cls := "KindStreets", name := "isAsMeasured", desc := "(II)Z" } : Jvm.MethodName)) ∈ lw_all := lw_g (lw_at lw_m3 214 rfl) rfl
theorem q748 : (Jvm.Cond.code ({ cls := "KindStreets", name := "isAsMeasured", desc := "(II)Z" } : Jvm.MethodName) prog_1_method_45_code (5 : Nat) (Option.some Jvm.ClassFile.FieldType.boolean)) ∈ lw_all := lw_g (lw_at lw_m3 215 rfl) rfl
theorem q749 : (Jvm.Cond.methodLink "KindStreets" (271 : Nat) ({ cls := "KindStreets", name := "widthBy", desc := "(IIZ)I" } : Jvm.MethodName)) ∈ lw_all := lw_g (lw_at lw_m3 216 rfl) rfl
theorem q750 : (Jvm.Cond.static ({ cls := "KindStreets", name := "widthBy", desc := "(IIZ)I" } : Jvm.MethodName)) ∈ lw_all := lw_g (lw_at lw_m3 217 rfl) rfl
theorem q751 : (Jvm.Cond.code ({ cls := "KindStreets", name := "widthBy", desc := "(IIZ)I" } : Jvm.MethodName) prog_1_method_44_code (3 : Nat) (Option.some Jvm.ClassFile.FieldType.int)) ∈ lw_all := lw_g (lw_at lw_m3 218 rfl) rfl
theorem q753 : (Jvm.Cond.instanceMethod ({ cls := "KindStreets", name := "when", desc := "()I" } : Jvm.MethodName)) ∈ lw_all := lw_g (lw_at lw_m3 220 rfl) rfl
theorem q754 : (Jvm.Cond.selects "KindStreets" ({ cls := "KindStreets", name := "when", desc := "()I" } : Jvm.MethodName) ({ cls := "KindStreets", name := "when", desc := "()I" } : Jvm.MethodName)) ∈ lw_all := lw_g (lw_at lw_m3 221 rfl) rfl
theorem q755 : (Jvm.Cond.code ({ cls := "KindStreets", name := "when", desc := "()I" } : Jvm.MethodName) prog_1_method_48_code (2 : Nat) (Option.some Jvm.ClassFile.FieldType.int)) ∈ lw_all := lw_g (lw_at lw_m3 222 rfl) rfl
theorem q756 : (Jvm.Cond.methodLink "KindStreets" (278 : Nat) ({ cls := "KindStreets", name := "alike", desc := "(Z)I" } : Jvm.MethodName)) ∈ lw_all := lw_g (lw_at lw_m3 223 rfl) rfl
theorem q757 : (Jvm.Cond.privateMethod ({ cls := "KindStreets", name := "alike", desc := "(Z)I" } : Jvm.MethodName)) ∈ lw_tbl := lw_at lw_m3 224 rfl
theorem q758 : (Jvm.Cond.instanceMethod ({ cls := "KindStreets", name := "alike", desc := "(Z)I" } : Jvm.MethodName)) ∈ lw_all := lw_g (lw_at lw_m3 225 rfl) rfl
theorem q759 : (Jvm.Cond.code ({ cls := "KindStreets", name := "alike", desc := "(Z)I" } : Jvm.MethodName) prog_1_method_47_code (7 : Nat) (Option.some Jvm.ClassFile.FieldType.int)) ∈ lw_all := lw_g (lw_at lw_m3 226 rfl) rfl
theorem q761 : (Jvm.Cond.instanceMethod ({ cls := "KindStreets", name := "mark", desc := "(II)I" } : Jvm.MethodName)) ∈ lw_all := lw_g (lw_at lw_m3 228 rfl) rfl
theorem q762 : (Jvm.Cond.selects "KindStreets" ({ cls := "KindStreets", name := "mark", desc := "(II)I" } : Jvm.MethodName) ({ cls := "KindStreets", name := "mark", desc := "(II)I" } : Jvm.MethodName)) ∈ lw_all := lw_g (lw_at lw_m3 229 rfl) rfl
theorem q763 : (Jvm.Cond.code ({ cls := "KindStreets", name := "mark", desc := "(II)I" } : Jvm.MethodName) prog_1_method_50_code (3 : Nat) (Option.some Jvm.ClassFile.FieldType.int)) ∈ lw_all := lw_g (lw_at lw_m3 230 rfl) rfl
theorem q764 : (Jvm.Cond.methodLink "KindStreets" (285 : Nat) ({ cls := "KindStreets$Plain", name := "mark", desc := "(LKindStreets;I)I" } : Jvm.MethodName)) ∈ lw_all := lw_g (lw_at lw_m3 231 rfl) rfl
theorem q774 : (Jvm.Cond.privateMethod ({ cls := "KindStreets", name := "meeting", desc := "(I)I" } : Jvm.MethodName)) ∈ lw_tbl := lw_at lw_m4 1 rfl
theorem q775 : (Jvm.Cond.instanceMethod ({ cls := "KindStreets", name := "meeting", desc := "(I)I" } : Jvm.MethodName)) ∈ lw_all := lw_g (lw_at lw_m4 2 rfl) rfl
theorem q776 : (Jvm.Cond.code ({ cls := "KindStreets", name := "meeting", desc := "(I)I" } : Jvm.MethodName) prog_1_method_49_code (4 : Nat) (Option.some Jvm.ClassFile.FieldType.int)) ∈ lw_all := lw_g (lw_at lw_m4 3 rfl) rfl
theorem q777 : (Jvm.Cond.methodLink "KindStreets" (282 : Nat) ({ cls := "KindStreets$Town", name := "meet", desc := "(II)Z" } : Jvm.MethodName)) ∈ lw_all := lw_g (lw_at lw_m4 4 rfl) rfl
theorem q802 : (Jvm.Cond.constant "KindStreets" (289 : Nat) (-1000000 : Int32)) ∈ lw_all := lw_g (lw_at lw_m4 29 rfl) rfl
theorem q804 : (Jvm.Cond.instanceMethod ({ cls := "KindStreets", name := "keep", desc := "(I)I" } : Jvm.MethodName)) ∈ lw_all := lw_g (lw_at lw_m4 31 rfl) rfl
theorem q805 : (Jvm.Cond.selects "KindStreets" ({ cls := "KindStreets", name := "keep", desc := "(I)I" } : Jvm.MethodName) ({ cls := "KindStreets", name := "keep", desc := "(I)I" } : Jvm.MethodName)) ∈ lw_all := lw_g (lw_at lw_m4 32 rfl) rfl
theorem q806 : (Jvm.Cond.code ({ cls := "KindStreets", name := "keep", desc := "(I)I" } : Jvm.MethodName) prog_1_method_51_code (4 : Nat) (Option.some Jvm.ClassFile.FieldType.int)) ∈ lw_all := lw_g (lw_at lw_m4 33 rfl) rfl
theorem q808 : (Jvm.Cond.instanceMethod ({ cls := "KindStreets", name := "back", desc := "(I)I" } : Jvm.MethodName)) ∈ lw_all := lw_g (lw_at lw_m4 35 rfl) rfl
theorem q809 : (Jvm.Cond.selects "KindStreets" ({ cls := "KindStreets", name := "back", desc := "(I)I" } : Jvm.MethodName) ({ cls := "KindStreets", name := "back", desc := "(I)I" } : Jvm.MethodName)) ∈ lw_all := lw_g (lw_at lw_m4 36 rfl) rfl
theorem q810 : (Jvm.Cond.code ({ cls := "KindStreets", name := "back", desc := "(I)I" } : Jvm.MethodName) prog_1_method_52_code (4 : Nat) (Option.some Jvm.ClassFile.FieldType.int)) ∈ lw_all := lw_g (lw_at lw_m4 37 rfl) rfl
theorem q812 : (Jvm.Cond.instanceMethod ({ cls := "KindStreets", name := "count", desc := "(I)I" } : Jvm.MethodName)) ∈ lw_all := lw_g (lw_at lw_m4 39 rfl) rfl
theorem q813 : (Jvm.Cond.selects "KindStreets" ({ cls := "KindStreets", name := "count", desc := "(I)I" } : Jvm.MethodName) ({ cls := "KindStreets", name := "count", desc := "(I)I" } : Jvm.MethodName)) ∈ lw_all := lw_g (lw_at lw_m4 40 rfl) rfl
theorem q814 : (Jvm.Cond.code ({ cls := "KindStreets", name := "count", desc := "(I)I" } : Jvm.MethodName) prog_1_method_53_code (2 : Nat) (Option.some Jvm.ClassFile.FieldType.int)) ∈ lw_all := lw_g (lw_at lw_m4 41 rfl) rfl
theorem q816 : (Jvm.Cond.instanceMethod ({ cls := "KindStreets", name := "trace", desc := "()J" } : Jvm.MethodName)) ∈ lw_all := lw_g (lw_at lw_m4 43 rfl) rfl
theorem q817 : (Jvm.Cond.selects "KindStreets" ({ cls := "KindStreets", name := "trace", desc := "()J" } : Jvm.MethodName) ({ cls := "KindStreets", name := "trace", desc := "()J" } : Jvm.MethodName)) ∈ lw_all := lw_g (lw_at lw_m4 44 rfl) rfl
theorem q818 : (Jvm.Cond.code ({ cls := "KindStreets", name := "trace", desc := "()J" } : Jvm.MethodName) prog_1_method_54_code (1 : Nat) (Option.some Jvm.ClassFile.FieldType.long)) ∈ lw_all := lw_g (lw_at lw_m4 45 rfl) rfl
theorem in_X0 : ∀ w ∈ wsX00, w ∈ lw_all := lw_in wsX00 [516, 518, 520, 522, 524, 526, 528, 530, 532, 534, 536, 538, 540, 542, 544, 546, 548, 550, 552] (by decide +kernel) (by decide +kernel)
