/-! KindStreets$Town -/
set_option maxRecDepth 100000
def RX1 : String := "KindStreets$Town"
def TX1 : u_T := fun k => match k with
  | 0 => ("KindStreets$Town", "yards", "I", false)
  | 1 => ("KindStreets$Town", "streets", "I", false)
  | 2 => ("KindStreets$Town", "one", "[I", true)
  | 3 => ("KindStreets$Town", "other", "[I", true)
  | 4 => ("KindStreets$Town", "old", "[I", true)
  | 5 => ("KindStreets$Town", "citizens", "I", false)
  | 6 => ("KindStreets$Town", "home", "[I", true)
  | _ => ("KindStreets$Town", "wants", "[I", true)
def tyX1 : Nat → FieldType := fun k => match k with
  | 0 => .int
  | 1 => .int
  | 2 => .array .int
  | 3 => .array .int
  | 4 => .array .int
  | 5 => .int
  | 6 => .array .int
  | _ => .array .int
abbrev wsX10 : List Cond := u_ws RX1 TX1 8
theorem nmX1 : ∀ a, a < 8 → ∀ b, b < 8 → a ≠ b → (TX1 a).2.1 ≠ (TX1 b).2.1 := by decide +kernel
theorem tyX1_ok : ∀ k, k < 8 → parseFieldDescriptor (TX1 k).2.2.1 = some (tyX1 k) := by decide +kernel
abbrev cX1_begins : ByteArray := prog_12_method_2_code
def yX1_begins : MethodName := ⟨RX1, "begins", "()V"⟩
def dkwX1_begins_0 : List UInt8 := [42, 7, 181, 0, 9, 42, 3, 181, 0, 31, 42, 3, 181, 0, 34, 177]
abbrev dktX1_begins_0 : List UInt8 := dkwX1_begins_0 ++ []
theorem dksX1_begins_0 : cX1_begins.data.toList.drop 0 = dktX1_begins_0 := by decide +kernel
theorem dX1_begins_0 : decode cX1_begins 0 = .ok (.aload_n 0, 1) := dk_42 (dk_at dksX1_begins_0 0 rfl rfl)
theorem dX1_begins_1 : decode cX1_begins 1 = .ok (.iconst 4, 1) := dk_7 (dk_at dksX1_begins_0 1 rfl rfl)
theorem dX1_begins_2 : decode cX1_begins 2 = .ok (.putfield 9, 3) := dk_181 0 9 (dk_at dksX1_begins_0 2 rfl rfl)
theorem dX1_begins_5 : decode cX1_begins 5 = .ok (.aload_n 0, 1) := dk_42 (dk_at dksX1_begins_0 5 rfl rfl)
theorem dX1_begins_6 : decode cX1_begins 6 = .ok (.iconst 0, 1) := dk_3 (dk_at dksX1_begins_0 6 rfl rfl)
theorem dX1_begins_7 : decode cX1_begins 7 = .ok (.putfield 31, 3) := dk_181 0 31 (dk_at dksX1_begins_0 7 rfl rfl)
theorem dX1_begins_10 : decode cX1_begins 10 = .ok (.aload_n 0, 1) := dk_42 (dk_at dksX1_begins_0 10 rfl rfl)
theorem dX1_begins_11 : decode cX1_begins 11 = .ok (.iconst 0, 1) := dk_3 (dk_at dksX1_begins_0 11 rfl rfl)
theorem dX1_begins_12 : decode cX1_begins 12 = .ok (.putfield 34, 3) := dk_181 0 34 (dk_at dksX1_begins_0 12 rfl rfl)
theorem dX1_begins_15 : decode cX1_begins 15 = .ok (.return_, 1) := dk_177 (dk_at dksX1_begins_0 15 rfl rfl)
abbrev cX1_copy : ByteArray := prog_12_method_3_code
def yX1_copy : MethodName := ⟨RX1, "copy", "(LKindStreets$Town;)V"⟩
def dkwX1_copy_4 : List UInt8 := [16, 6, 184, 0, 37, 177]
abbrev dktX1_copy_4 : List UInt8 := dkwX1_copy_4 ++ []
def dkwX1_copy_3 : List UInt8 := [180, 0, 25, 3, 42, 180, 0, 25, 3, 16, 6, 184, 0, 37, 43, 180, 0, 28, 3, 42, 180, 0, 28, 3]
abbrev dktX1_copy_3 : List UInt8 := dkwX1_copy_3 ++ dktX1_copy_4
def dkwX1_copy_2 : List UInt8 := [43, 180, 0, 22, 3, 42, 180, 0, 22, 3, 16, 9, 184, 0, 37, 42, 43, 180, 0, 34, 181, 0, 34, 43]
abbrev dktX1_copy_2 : List UInt8 := dkwX1_copy_2 ++ dktX1_copy_3
def dkwX1_copy_1 : List UInt8 := [180, 0, 15, 3, 16, 9, 184, 0, 37, 43, 180, 0, 19, 3, 42, 180, 0, 19, 3, 16, 9, 184, 0, 37]
abbrev dktX1_copy_1 : List UInt8 := dkwX1_copy_1 ++ dktX1_copy_2
def dkwX1_copy_0 : List UInt8 := [42, 43, 180, 0, 9, 181, 0, 9, 42, 43, 180, 0, 31, 181, 0, 31, 43, 180, 0, 15, 3, 42]
abbrev dktX1_copy_0 : List UInt8 := dkwX1_copy_0 ++ dktX1_copy_1
theorem dksX1_copy_0 : cX1_copy.data.toList.drop 0 = dktX1_copy_0 := by decide +kernel
theorem dksX1_copy_1 : cX1_copy.data.toList.drop 22 = dktX1_copy_1 := dk_seg dksX1_copy_0 22 rfl rfl
theorem dksX1_copy_2 : cX1_copy.data.toList.drop 46 = dktX1_copy_2 := dk_seg dksX1_copy_1 24 rfl rfl
theorem dksX1_copy_3 : cX1_copy.data.toList.drop 70 = dktX1_copy_3 := dk_seg dksX1_copy_2 24 rfl rfl
theorem dksX1_copy_4 : cX1_copy.data.toList.drop 94 = dktX1_copy_4 := dk_seg dksX1_copy_3 24 rfl rfl
theorem dX1_copy_0 : decode cX1_copy 0 = .ok (.aload_n 0, 1) := dk_42 (dk_at dksX1_copy_0 0 rfl rfl)
theorem dX1_copy_1 : decode cX1_copy 1 = .ok (.aload_n 1, 1) := dk_43 (dk_at dksX1_copy_0 1 rfl rfl)
theorem dX1_copy_2 : decode cX1_copy 2 = .ok (.getfield 9, 3) := dk_180 0 9 (dk_at dksX1_copy_0 2 rfl rfl)
theorem dX1_copy_5 : decode cX1_copy 5 = .ok (.putfield 9, 3) := dk_181 0 9 (dk_at dksX1_copy_0 5 rfl rfl)
theorem dX1_copy_8 : decode cX1_copy 8 = .ok (.aload_n 0, 1) := dk_42 (dk_at dksX1_copy_0 8 rfl rfl)
theorem dX1_copy_9 : decode cX1_copy 9 = .ok (.aload_n 1, 1) := dk_43 (dk_at dksX1_copy_0 9 rfl rfl)
theorem dX1_copy_10 : decode cX1_copy 10 = .ok (.getfield 31, 3) := dk_180 0 31 (dk_at dksX1_copy_0 10 rfl rfl)
theorem dX1_copy_13 : decode cX1_copy 13 = .ok (.putfield 31, 3) := dk_181 0 31 (dk_at dksX1_copy_0 13 rfl rfl)
theorem dX1_copy_16 : decode cX1_copy 16 = .ok (.aload_n 1, 1) := dk_43 (dk_at dksX1_copy_0 16 rfl rfl)
theorem dX1_copy_17 : decode cX1_copy 17 = .ok (.getfield 15, 3) := dk_180 0 15 (dk_at dksX1_copy_0 17 rfl rfl)
theorem dX1_copy_20 : decode cX1_copy 20 = .ok (.iconst 0, 1) := dk_3 (dk_at dksX1_copy_0 20 rfl rfl)
theorem dX1_copy_21 : decode cX1_copy 21 = .ok (.aload_n 0, 1) := dk_42 (dk_at dksX1_copy_0 21 rfl rfl)
theorem dX1_copy_22 : decode cX1_copy 22 = .ok (.getfield 15, 3) := dk_180 0 15 (dk_at dksX1_copy_1 0 rfl rfl)
theorem dX1_copy_25 : decode cX1_copy 25 = .ok (.iconst 0, 1) := dk_3 (dk_at dksX1_copy_1 3 rfl rfl)
theorem dX1_copy_26 : decode cX1_copy 26 = .ok (.bipush 9, 2) := dk_16 9 (dk_at dksX1_copy_1 4 rfl rfl)
theorem dX1_copy_28 : decode cX1_copy 28 = .ok (.invokestatic 37, 3) := dk_184 0 37 (dk_at dksX1_copy_1 6 rfl rfl)
theorem dX1_copy_31 : decode cX1_copy 31 = .ok (.aload_n 1, 1) := dk_43 (dk_at dksX1_copy_1 9 rfl rfl)
theorem dX1_copy_32 : decode cX1_copy 32 = .ok (.getfield 19, 3) := dk_180 0 19 (dk_at dksX1_copy_1 10 rfl rfl)
theorem dX1_copy_35 : decode cX1_copy 35 = .ok (.iconst 0, 1) := dk_3 (dk_at dksX1_copy_1 13 rfl rfl)
theorem dX1_copy_36 : decode cX1_copy 36 = .ok (.aload_n 0, 1) := dk_42 (dk_at dksX1_copy_1 14 rfl rfl)
theorem dX1_copy_37 : decode cX1_copy 37 = .ok (.getfield 19, 3) := dk_180 0 19 (dk_at dksX1_copy_1 15 rfl rfl)
theorem dX1_copy_40 : decode cX1_copy 40 = .ok (.iconst 0, 1) := dk_3 (dk_at dksX1_copy_1 18 rfl rfl)
theorem dX1_copy_41 : decode cX1_copy 41 = .ok (.bipush 9, 2) := dk_16 9 (dk_at dksX1_copy_1 19 rfl rfl)
theorem dX1_copy_43 : decode cX1_copy 43 = .ok (.invokestatic 37, 3) := dk_184 0 37 (dk_at dksX1_copy_1 21 rfl rfl)
theorem dX1_copy_46 : decode cX1_copy 46 = .ok (.aload_n 1, 1) := dk_43 (dk_at dksX1_copy_2 0 rfl rfl)
theorem dX1_copy_47 : decode cX1_copy 47 = .ok (.getfield 22, 3) := dk_180 0 22 (dk_at dksX1_copy_2 1 rfl rfl)
theorem dX1_copy_50 : decode cX1_copy 50 = .ok (.iconst 0, 1) := dk_3 (dk_at dksX1_copy_2 4 rfl rfl)
theorem dX1_copy_51 : decode cX1_copy 51 = .ok (.aload_n 0, 1) := dk_42 (dk_at dksX1_copy_2 5 rfl rfl)
theorem dX1_copy_52 : decode cX1_copy 52 = .ok (.getfield 22, 3) := dk_180 0 22 (dk_at dksX1_copy_2 6 rfl rfl)
theorem dX1_copy_55 : decode cX1_copy 55 = .ok (.iconst 0, 1) := dk_3 (dk_at dksX1_copy_2 9 rfl rfl)
theorem dX1_copy_56 : decode cX1_copy 56 = .ok (.bipush 9, 2) := dk_16 9 (dk_at dksX1_copy_2 10 rfl rfl)
theorem dX1_copy_58 : decode cX1_copy 58 = .ok (.invokestatic 37, 3) := dk_184 0 37 (dk_at dksX1_copy_2 12 rfl rfl)
theorem dX1_copy_61 : decode cX1_copy 61 = .ok (.aload_n 0, 1) := dk_42 (dk_at dksX1_copy_2 15 rfl rfl)
theorem dX1_copy_62 : decode cX1_copy 62 = .ok (.aload_n 1, 1) := dk_43 (dk_at dksX1_copy_2 16 rfl rfl)
theorem dX1_copy_63 : decode cX1_copy 63 = .ok (.getfield 34, 3) := dk_180 0 34 (dk_at dksX1_copy_2 17 rfl rfl)
theorem dX1_copy_66 : decode cX1_copy 66 = .ok (.putfield 34, 3) := dk_181 0 34 (dk_at dksX1_copy_2 20 rfl rfl)
theorem dX1_copy_69 : decode cX1_copy 69 = .ok (.aload_n 1, 1) := dk_43 (dk_at dksX1_copy_2 23 rfl rfl)
theorem dX1_copy_70 : decode cX1_copy 70 = .ok (.getfield 25, 3) := dk_180 0 25 (dk_at dksX1_copy_3 0 rfl rfl)
theorem dX1_copy_73 : decode cX1_copy 73 = .ok (.iconst 0, 1) := dk_3 (dk_at dksX1_copy_3 3 rfl rfl)
theorem dX1_copy_74 : decode cX1_copy 74 = .ok (.aload_n 0, 1) := dk_42 (dk_at dksX1_copy_3 4 rfl rfl)
theorem dX1_copy_75 : decode cX1_copy 75 = .ok (.getfield 25, 3) := dk_180 0 25 (dk_at dksX1_copy_3 5 rfl rfl)
theorem dX1_copy_78 : decode cX1_copy 78 = .ok (.iconst 0, 1) := dk_3 (dk_at dksX1_copy_3 8 rfl rfl)
theorem dX1_copy_79 : decode cX1_copy 79 = .ok (.bipush 6, 2) := dk_16 6 (dk_at dksX1_copy_3 9 rfl rfl)
theorem dX1_copy_81 : decode cX1_copy 81 = .ok (.invokestatic 37, 3) := dk_184 0 37 (dk_at dksX1_copy_3 11 rfl rfl)
theorem dX1_copy_84 : decode cX1_copy 84 = .ok (.aload_n 1, 1) := dk_43 (dk_at dksX1_copy_3 14 rfl rfl)
theorem dX1_copy_85 : decode cX1_copy 85 = .ok (.getfield 28, 3) := dk_180 0 28 (dk_at dksX1_copy_3 15 rfl rfl)
theorem dX1_copy_88 : decode cX1_copy 88 = .ok (.iconst 0, 1) := dk_3 (dk_at dksX1_copy_3 18 rfl rfl)
theorem dX1_copy_89 : decode cX1_copy 89 = .ok (.aload_n 0, 1) := dk_42 (dk_at dksX1_copy_3 19 rfl rfl)
theorem dX1_copy_90 : decode cX1_copy 90 = .ok (.getfield 28, 3) := dk_180 0 28 (dk_at dksX1_copy_3 20 rfl rfl)
theorem dX1_copy_93 : decode cX1_copy 93 = .ok (.iconst 0, 1) := dk_3 (dk_at dksX1_copy_3 23 rfl rfl)
theorem dX1_copy_94 : decode cX1_copy 94 = .ok (.bipush 6, 2) := dk_16 6 (dk_at dksX1_copy_4 0 rfl rfl)
theorem dX1_copy_96 : decode cX1_copy 96 = .ok (.invokestatic 37, 3) := dk_184 0 37 (dk_at dksX1_copy_4 2 rfl rfl)
theorem dX1_copy_99 : decode cX1_copy 99 = .ok (.return_, 1) := dk_177 (dk_at dksX1_copy_4 5 rfl rfl)
abbrev cX1_init : ByteArray := prog_12_method_1_code
def yX1_init : MethodName := ⟨RX1, "<init>", "()V"⟩
def dkwX1_init_2 : List UInt8 := [181, 0, 28, 177]
abbrev dktX1_init_2 : List UInt8 := dkwX1_init_2 ++ []
def dkwX1_init_1 : List UInt8 := [181, 0, 19, 42, 16, 9, 188, 10, 181, 0, 22, 42, 16, 6, 188, 10, 181, 0, 25, 42, 16, 6, 188, 10]
abbrev dktX1_init_1 : List UInt8 := dkwX1_init_1 ++ dktX1_init_2
def dkwX1_init_0 : List UInt8 := [42, 183, 0, 3, 42, 7, 181, 0, 9, 42, 16, 9, 188, 10, 181, 0, 15, 42, 16, 9, 188, 10]
abbrev dktX1_init_0 : List UInt8 := dkwX1_init_0 ++ dktX1_init_1
theorem dksX1_init_0 : cX1_init.data.toList.drop 0 = dktX1_init_0 := by decide +kernel
theorem dksX1_init_1 : cX1_init.data.toList.drop 22 = dktX1_init_1 := dk_seg dksX1_init_0 22 rfl rfl
theorem dksX1_init_2 : cX1_init.data.toList.drop 46 = dktX1_init_2 := dk_seg dksX1_init_1 24 rfl rfl
theorem dX1_init_0 : decode cX1_init 0 = .ok (.aload_n 0, 1) := dk_42 (dk_at dksX1_init_0 0 rfl rfl)
theorem dX1_init_1 : decode cX1_init 1 = .ok (.invokespecial 3, 3) := dk_183 0 3 (dk_at dksX1_init_0 1 rfl rfl)
theorem dX1_init_4 : decode cX1_init 4 = .ok (.aload_n 0, 1) := dk_42 (dk_at dksX1_init_0 4 rfl rfl)
theorem dX1_init_5 : decode cX1_init 5 = .ok (.iconst 4, 1) := dk_7 (dk_at dksX1_init_0 5 rfl rfl)
theorem dX1_init_6 : decode cX1_init 6 = .ok (.putfield 9, 3) := dk_181 0 9 (dk_at dksX1_init_0 6 rfl rfl)
theorem dX1_init_9 : decode cX1_init 9 = .ok (.aload_n 0, 1) := dk_42 (dk_at dksX1_init_0 9 rfl rfl)
theorem dX1_init_10 : decode cX1_init 10 = .ok (.bipush 9, 2) := dk_16 9 (dk_at dksX1_init_0 10 rfl rfl)
theorem dX1_init_12 : decode cX1_init 12 = .ok (.newarray .int, 2) := dk_188_10 (dk_at dksX1_init_0 12 rfl rfl)
theorem dX1_init_14 : decode cX1_init 14 = .ok (.putfield 15, 3) := dk_181 0 15 (dk_at dksX1_init_0 14 rfl rfl)
theorem dX1_init_17 : decode cX1_init 17 = .ok (.aload_n 0, 1) := dk_42 (dk_at dksX1_init_0 17 rfl rfl)
theorem dX1_init_18 : decode cX1_init 18 = .ok (.bipush 9, 2) := dk_16 9 (dk_at dksX1_init_0 18 rfl rfl)
theorem dX1_init_20 : decode cX1_init 20 = .ok (.newarray .int, 2) := dk_188_10 (dk_at dksX1_init_0 20 rfl rfl)
theorem dX1_init_22 : decode cX1_init 22 = .ok (.putfield 19, 3) := dk_181 0 19 (dk_at dksX1_init_1 0 rfl rfl)
theorem dX1_init_25 : decode cX1_init 25 = .ok (.aload_n 0, 1) := dk_42 (dk_at dksX1_init_1 3 rfl rfl)
theorem dX1_init_26 : decode cX1_init 26 = .ok (.bipush 9, 2) := dk_16 9 (dk_at dksX1_init_1 4 rfl rfl)
theorem dX1_init_28 : decode cX1_init 28 = .ok (.newarray .int, 2) := dk_188_10 (dk_at dksX1_init_1 6 rfl rfl)
theorem dX1_init_30 : decode cX1_init 30 = .ok (.putfield 22, 3) := dk_181 0 22 (dk_at dksX1_init_1 8 rfl rfl)
theorem dX1_init_33 : decode cX1_init 33 = .ok (.aload_n 0, 1) := dk_42 (dk_at dksX1_init_1 11 rfl rfl)
theorem dX1_init_34 : decode cX1_init 34 = .ok (.bipush 6, 2) := dk_16 6 (dk_at dksX1_init_1 12 rfl rfl)
theorem dX1_init_36 : decode cX1_init 36 = .ok (.newarray .int, 2) := dk_188_10 (dk_at dksX1_init_1 14 rfl rfl)
theorem dX1_init_38 : decode cX1_init 38 = .ok (.putfield 25, 3) := dk_181 0 25 (dk_at dksX1_init_1 16 rfl rfl)
theorem dX1_init_41 : decode cX1_init 41 = .ok (.aload_n 0, 1) := dk_42 (dk_at dksX1_init_1 19 rfl rfl)
theorem dX1_init_42 : decode cX1_init 42 = .ok (.bipush 6, 2) := dk_16 6 (dk_at dksX1_init_1 20 rfl rfl)
theorem dX1_init_44 : decode cX1_init 44 = .ok (.newarray .int, 2) := dk_188_10 (dk_at dksX1_init_1 22 rfl rfl)
theorem dX1_init_46 : decode cX1_init 46 = .ok (.putfield 28, 3) := dk_181 0 28 (dk_at dksX1_init_2 0 rfl rfl)
theorem dX1_init_49 : decode cX1_init 49 = .ok (.return_, 1) := dk_177 (dk_at dksX1_init_2 3 rfl rfl)
abbrev cX1_meet : ByteArray := prog_12_method_4_code
def yX1_meet : MethodName := ⟨RX1, "meet", "(II)Z"⟩
def dkwX1_meet_2 : List UInt8 := [180, 0, 19, 27, 46, 42, 180, 0, 19, 28, 46, 160, 0, 7, 4, 167, 0, 4, 3, 172]
abbrev dktX1_meet_2 : List UInt8 := dkwX1_meet_2 ++ []
def dkwX1_meet_1 : List UInt8 := [180, 0, 19, 28, 46, 159, 0, 33, 42, 180, 0, 19, 27, 46, 42, 180, 0, 15, 28, 46, 159, 0, 18, 42]
abbrev dktX1_meet_1 : List UInt8 := dkwX1_meet_1 ++ dktX1_meet_2
def dkwX1_meet_0 : List UInt8 := [42, 180, 0, 15, 27, 46, 42, 180, 0, 15, 28, 46, 159, 0, 48, 42, 180, 0, 15, 27, 46, 42]
abbrev dktX1_meet_0 : List UInt8 := dkwX1_meet_0 ++ dktX1_meet_1
theorem dksX1_meet_0 : cX1_meet.data.toList.drop 0 = dktX1_meet_0 := by decide +kernel
theorem dksX1_meet_1 : cX1_meet.data.toList.drop 22 = dktX1_meet_1 := dk_seg dksX1_meet_0 22 rfl rfl
theorem dksX1_meet_2 : cX1_meet.data.toList.drop 46 = dktX1_meet_2 := dk_seg dksX1_meet_1 24 rfl rfl
theorem dX1_meet_0 : decode cX1_meet 0 = .ok (.aload_n 0, 1) := dk_42 (dk_at dksX1_meet_0 0 rfl rfl)
theorem dX1_meet_1 : decode cX1_meet 1 = .ok (.getfield 15, 3) := dk_180 0 15 (dk_at dksX1_meet_0 1 rfl rfl)
theorem dX1_meet_4 : decode cX1_meet 4 = .ok (.iload_n 1, 1) := dk_27 (dk_at dksX1_meet_0 4 rfl rfl)
theorem dX1_meet_5 : decode cX1_meet 5 = .ok (.iaload, 1) := dk_46 (dk_at dksX1_meet_0 5 rfl rfl)
theorem dX1_meet_6 : decode cX1_meet 6 = .ok (.aload_n 0, 1) := dk_42 (dk_at dksX1_meet_0 6 rfl rfl)
theorem dX1_meet_7 : decode cX1_meet 7 = .ok (.getfield 15, 3) := dk_180 0 15 (dk_at dksX1_meet_0 7 rfl rfl)
theorem dX1_meet_10 : decode cX1_meet 10 = .ok (.iload_n 2, 1) := dk_28 (dk_at dksX1_meet_0 10 rfl rfl)
theorem dX1_meet_11 : decode cX1_meet 11 = .ok (.iaload, 1) := dk_46 (dk_at dksX1_meet_0 11 rfl rfl)
theorem dX1_meet_12 : decode cX1_meet 12 = .ok (.if_icmp .eq 48, 3) := dk_159 0 48 (dk_at dksX1_meet_0 12 rfl rfl)
theorem dX1_meet_15 : decode cX1_meet 15 = .ok (.aload_n 0, 1) := dk_42 (dk_at dksX1_meet_0 15 rfl rfl)
theorem dX1_meet_16 : decode cX1_meet 16 = .ok (.getfield 15, 3) := dk_180 0 15 (dk_at dksX1_meet_0 16 rfl rfl)
theorem dX1_meet_19 : decode cX1_meet 19 = .ok (.iload_n 1, 1) := dk_27 (dk_at dksX1_meet_0 19 rfl rfl)
theorem dX1_meet_20 : decode cX1_meet 20 = .ok (.iaload, 1) := dk_46 (dk_at dksX1_meet_0 20 rfl rfl)
theorem dX1_meet_21 : decode cX1_meet 21 = .ok (.aload_n 0, 1) := dk_42 (dk_at dksX1_meet_0 21 rfl rfl)
theorem dX1_meet_22 : decode cX1_meet 22 = .ok (.getfield 19, 3) := dk_180 0 19 (dk_at dksX1_meet_1 0 rfl rfl)
theorem dX1_meet_25 : decode cX1_meet 25 = .ok (.iload_n 2, 1) := dk_28 (dk_at dksX1_meet_1 3 rfl rfl)
theorem dX1_meet_26 : decode cX1_meet 26 = .ok (.iaload, 1) := dk_46 (dk_at dksX1_meet_1 4 rfl rfl)
theorem dX1_meet_27 : decode cX1_meet 27 = .ok (.if_icmp .eq 33, 3) := dk_159 0 33 (dk_at dksX1_meet_1 5 rfl rfl)
theorem dX1_meet_30 : decode cX1_meet 30 = .ok (.aload_n 0, 1) := dk_42 (dk_at dksX1_meet_1 8 rfl rfl)
theorem dX1_meet_31 : decode cX1_meet 31 = .ok (.getfield 19, 3) := dk_180 0 19 (dk_at dksX1_meet_1 9 rfl rfl)
theorem dX1_meet_34 : decode cX1_meet 34 = .ok (.iload_n 1, 1) := dk_27 (dk_at dksX1_meet_1 12 rfl rfl)
theorem dX1_meet_35 : decode cX1_meet 35 = .ok (.iaload, 1) := dk_46 (dk_at dksX1_meet_1 13 rfl rfl)
theorem dX1_meet_36 : decode cX1_meet 36 = .ok (.aload_n 0, 1) := dk_42 (dk_at dksX1_meet_1 14 rfl rfl)
theorem dX1_meet_37 : decode cX1_meet 37 = .ok (.getfield 15, 3) := dk_180 0 15 (dk_at dksX1_meet_1 15 rfl rfl)
theorem dX1_meet_40 : decode cX1_meet 40 = .ok (.iload_n 2, 1) := dk_28 (dk_at dksX1_meet_1 18 rfl rfl)
theorem dX1_meet_41 : decode cX1_meet 41 = .ok (.iaload, 1) := dk_46 (dk_at dksX1_meet_1 19 rfl rfl)
theorem dX1_meet_42 : decode cX1_meet 42 = .ok (.if_icmp .eq 18, 3) := dk_159 0 18 (dk_at dksX1_meet_1 20 rfl rfl)
theorem dX1_meet_45 : decode cX1_meet 45 = .ok (.aload_n 0, 1) := dk_42 (dk_at dksX1_meet_1 23 rfl rfl)
theorem dX1_meet_46 : decode cX1_meet 46 = .ok (.getfield 19, 3) := dk_180 0 19 (dk_at dksX1_meet_2 0 rfl rfl)
theorem dX1_meet_49 : decode cX1_meet 49 = .ok (.iload_n 1, 1) := dk_27 (dk_at dksX1_meet_2 3 rfl rfl)
theorem dX1_meet_50 : decode cX1_meet 50 = .ok (.iaload, 1) := dk_46 (dk_at dksX1_meet_2 4 rfl rfl)
theorem dX1_meet_51 : decode cX1_meet 51 = .ok (.aload_n 0, 1) := dk_42 (dk_at dksX1_meet_2 5 rfl rfl)
theorem dX1_meet_52 : decode cX1_meet 52 = .ok (.getfield 19, 3) := dk_180 0 19 (dk_at dksX1_meet_2 6 rfl rfl)
theorem dX1_meet_55 : decode cX1_meet 55 = .ok (.iload_n 2, 1) := dk_28 (dk_at dksX1_meet_2 9 rfl rfl)
theorem dX1_meet_56 : decode cX1_meet 56 = .ok (.iaload, 1) := dk_46 (dk_at dksX1_meet_2 10 rfl rfl)
theorem dX1_meet_57 : decode cX1_meet 57 = .ok (.if_icmp .ne 7, 3) := dk_160 0 7 (dk_at dksX1_meet_2 11 rfl rfl)
theorem dX1_meet_60 : decode cX1_meet 60 = .ok (.iconst 1, 1) := dk_4 (dk_at dksX1_meet_2 14 rfl rfl)
theorem dX1_meet_61 : decode cX1_meet 61 = .ok (.goto 4, 3) := dk_167 0 4 (dk_at dksX1_meet_2 15 rfl rfl)
theorem dX1_meet_64 : decode cX1_meet 64 = .ok (.iconst 0, 1) := dk_3 (dk_at dksX1_meet_2 18 rfl rfl)
theorem dX1_meet_65 : decode cX1_meet 65 = .ok (.ireturn, 1) := dk_172 (dk_at dksX1_meet_2 19 rfl rfl)
abbrev cX1_far : ByteArray := prog_12_method_6_code
def yX1_far : MethodName := ⟨RX1, "far", "(III)I"⟩
def dkwX1_far_1 : List UInt8 := [21, 5, 172, 42, 21, 4, 29, 182, 0, 47, 54, 4, 132, 5, 1, 167, 255, 225, 16, 247, 172]
abbrev dktX1_far_1 : List UInt8 := dkwX1_far_1 ++ []
def dkwX1_far_0 : List UInt8 := [4, 27, 120, 54, 4, 3, 54, 5, 21, 5, 16, 8, 162, 0, 30, 21, 4, 28, 184, 0, 43, 153, 0, 6]
abbrev dktX1_far_0 : List UInt8 := dkwX1_far_0 ++ dktX1_far_1
theorem dksX1_far_0 : cX1_far.data.toList.drop 0 = dktX1_far_0 := by decide +kernel
theorem dksX1_far_1 : cX1_far.data.toList.drop 24 = dktX1_far_1 := dk_seg dksX1_far_0 24 rfl rfl
theorem dX1_far_0 : decode cX1_far 0 = .ok (.iconst 1, 1) := dk_4 (dk_at dksX1_far_0 0 rfl rfl)
theorem dX1_far_1 : decode cX1_far 1 = .ok (.iload_n 1, 1) := dk_27 (dk_at dksX1_far_0 1 rfl rfl)
theorem dX1_far_2 : decode cX1_far 2 = .ok (.ishl, 1) := dk_120 (dk_at dksX1_far_0 2 rfl rfl)
theorem dX1_far_3 : decode cX1_far 3 = .ok (.istore 4, 2) := dk_54 4 (dk_at dksX1_far_0 3 rfl rfl)
theorem dX1_far_5 : decode cX1_far 5 = .ok (.iconst 0, 1) := dk_3 (dk_at dksX1_far_0 5 rfl rfl)
theorem dX1_far_6 : decode cX1_far 6 = .ok (.istore 5, 2) := dk_54 5 (dk_at dksX1_far_0 6 rfl rfl)
theorem dX1_far_8 : decode cX1_far 8 = .ok (.iload 5, 2) := dk_21 5 (dk_at dksX1_far_0 8 rfl rfl)
theorem dX1_far_10 : decode cX1_far 10 = .ok (.bipush 8, 2) := dk_16 8 (dk_at dksX1_far_0 10 rfl rfl)
theorem dX1_far_12 : decode cX1_far 12 = .ok (.if_icmp .ge 30, 3) := dk_162 0 30 (dk_at dksX1_far_0 12 rfl rfl)
theorem dX1_far_15 : decode cX1_far 15 = .ok (.iload 4, 2) := dk_21 4 (dk_at dksX1_far_0 15 rfl rfl)
theorem dX1_far_17 : decode cX1_far 17 = .ok (.iload_n 2, 1) := dk_28 (dk_at dksX1_far_0 17 rfl rfl)
theorem dX1_far_18 : decode cX1_far 18 = .ok (.invokestatic 43, 3) := dk_184 0 43 (dk_at dksX1_far_0 18 rfl rfl)
theorem dX1_far_21 : decode cX1_far 21 = .ok (.ifCond .eq 6, 3) := dk_153 0 6 (dk_at dksX1_far_0 21 rfl rfl)
theorem dX1_far_24 : decode cX1_far 24 = .ok (.iload 5, 2) := dk_21 5 (dk_at dksX1_far_1 0 rfl rfl)
theorem dX1_far_26 : decode cX1_far 26 = .ok (.ireturn, 1) := dk_172 (dk_at dksX1_far_1 2 rfl rfl)
theorem dX1_far_27 : decode cX1_far 27 = .ok (.aload_n 0, 1) := dk_42 (dk_at dksX1_far_1 3 rfl rfl)
theorem dX1_far_28 : decode cX1_far 28 = .ok (.iload 4, 2) := dk_21 4 (dk_at dksX1_far_1 4 rfl rfl)
theorem dX1_far_30 : decode cX1_far 30 = .ok (.iload_n 3, 1) := dk_29 (dk_at dksX1_far_1 6 rfl rfl)
theorem dX1_far_31 : decode cX1_far 31 = .ok (.invokevirtual 47, 3) := dk_182 0 47 (dk_at dksX1_far_1 7 rfl rfl)
theorem dX1_far_34 : decode cX1_far 34 = .ok (.istore 4, 2) := dk_54 4 (dk_at dksX1_far_1 10 rfl rfl)
theorem dX1_far_36 : decode cX1_far 36 = .ok (.iinc 5 1, 3) := dk_132 5 1 (dk_at dksX1_far_1 12 rfl rfl)
theorem dX1_far_39 : decode cX1_far 39 = .ok (.goto (-31), 3) := dk_167 255 225 (dk_at dksX1_far_1 15 rfl rfl)
theorem dX1_far_42 : decode cX1_far 42 = .ok (.bipush (-9), 2) := dk_16 247 (dk_at dksX1_far_1 18 rfl rfl)
theorem dX1_far_44 : decode cX1_far 44 = .ok (.ireturn, 1) := dk_172 (dk_at dksX1_far_1 20 rfl rfl)
abbrev cX1_next : ByteArray := prog_12_method_5_code
def yX1_next : MethodName := ⟨RX1, "next", "(II)I"⟩
def dkwX1_next_3 : List UInt8 := [180, 0, 15, 21, 4, 46, 120, 167, 0, 4, 3, 128, 62, 132, 4, 1, 167, 255, 175, 29, 172]
abbrev dktX1_next_3 : List UInt8 := dkwX1_next_3 ++ []
def dkwX1_next_2 : List UInt8 := [167, 0, 4, 3, 128, 62, 29, 27, 42, 180, 0, 19, 21, 4, 46, 184, 0, 43, 153, 0, 15, 4, 42]
abbrev dktX1_next_2 : List UInt8 := dkwX1_next_2 ++ dktX1_next_3
def dkwX1_next_1 : List UInt8 := [27, 42, 180, 0, 15, 21, 4, 46, 184, 0, 43, 153, 0, 15, 4, 42, 180, 0, 19, 21, 4, 46, 120]
abbrev dktX1_next_1 : List UInt8 := dkwX1_next_1 ++ dktX1_next_2
def dkwX1_next_0 : List UInt8 := [27, 62, 3, 54, 4, 21, 4, 42, 180, 0, 31, 162, 0, 78, 28, 21, 4, 184, 0, 43, 153, 0, 63, 29]
abbrev dktX1_next_0 : List UInt8 := dkwX1_next_0 ++ dktX1_next_1
theorem dksX1_next_0 : cX1_next.data.toList.drop 0 = dktX1_next_0 := by decide +kernel
theorem dksX1_next_1 : cX1_next.data.toList.drop 24 = dktX1_next_1 := dk_seg dksX1_next_0 24 rfl rfl
theorem dksX1_next_2 : cX1_next.data.toList.drop 47 = dktX1_next_2 := dk_seg dksX1_next_1 23 rfl rfl
theorem dksX1_next_3 : cX1_next.data.toList.drop 70 = dktX1_next_3 := dk_seg dksX1_next_2 23 rfl rfl
theorem dX1_next_0 : decode cX1_next 0 = .ok (.iload_n 1, 1) := dk_27 (dk_at dksX1_next_0 0 rfl rfl)
theorem dX1_next_1 : decode cX1_next 1 = .ok (.istore_n 3, 1) := dk_62 (dk_at dksX1_next_0 1 rfl rfl)
theorem dX1_next_2 : decode cX1_next 2 = .ok (.iconst 0, 1) := dk_3 (dk_at dksX1_next_0 2 rfl rfl)
theorem dX1_next_3 : decode cX1_next 3 = .ok (.istore 4, 2) := dk_54 4 (dk_at dksX1_next_0 3 rfl rfl)
theorem dX1_next_5 : decode cX1_next 5 = .ok (.iload 4, 2) := dk_21 4 (dk_at dksX1_next_0 5 rfl rfl)
theorem dX1_next_7 : decode cX1_next 7 = .ok (.aload_n 0, 1) := dk_42 (dk_at dksX1_next_0 7 rfl rfl)
theorem dX1_next_8 : decode cX1_next 8 = .ok (.getfield 31, 3) := dk_180 0 31 (dk_at dksX1_next_0 8 rfl rfl)
theorem dX1_next_11 : decode cX1_next 11 = .ok (.if_icmp .ge 78, 3) := dk_162 0 78 (dk_at dksX1_next_0 11 rfl rfl)
theorem dX1_next_14 : decode cX1_next 14 = .ok (.iload_n 2, 1) := dk_28 (dk_at dksX1_next_0 14 rfl rfl)
theorem dX1_next_15 : decode cX1_next 15 = .ok (.iload 4, 2) := dk_21 4 (dk_at dksX1_next_0 15 rfl rfl)
theorem dX1_next_17 : decode cX1_next 17 = .ok (.invokestatic 43, 3) := dk_184 0 43 (dk_at dksX1_next_0 17 rfl rfl)
theorem dX1_next_20 : decode cX1_next 20 = .ok (.ifCond .eq 63, 3) := dk_153 0 63 (dk_at dksX1_next_0 20 rfl rfl)
theorem dX1_next_23 : decode cX1_next 23 = .ok (.iload_n 3, 1) := dk_29 (dk_at dksX1_next_0 23 rfl rfl)
theorem dX1_next_24 : decode cX1_next 24 = .ok (.iload_n 1, 1) := dk_27 (dk_at dksX1_next_1 0 rfl rfl)
theorem dX1_next_25 : decode cX1_next 25 = .ok (.aload_n 0, 1) := dk_42 (dk_at dksX1_next_1 1 rfl rfl)
theorem dX1_next_26 : decode cX1_next 26 = .ok (.getfield 15, 3) := dk_180 0 15 (dk_at dksX1_next_1 2 rfl rfl)
theorem dX1_next_29 : decode cX1_next 29 = .ok (.iload 4, 2) := dk_21 4 (dk_at dksX1_next_1 5 rfl rfl)
theorem dX1_next_31 : decode cX1_next 31 = .ok (.iaload, 1) := dk_46 (dk_at dksX1_next_1 7 rfl rfl)
theorem dX1_next_32 : decode cX1_next 32 = .ok (.invokestatic 43, 3) := dk_184 0 43 (dk_at dksX1_next_1 8 rfl rfl)
theorem dX1_next_35 : decode cX1_next 35 = .ok (.ifCond .eq 15, 3) := dk_153 0 15 (dk_at dksX1_next_1 11 rfl rfl)
theorem dX1_next_38 : decode cX1_next 38 = .ok (.iconst 1, 1) := dk_4 (dk_at dksX1_next_1 14 rfl rfl)
theorem dX1_next_39 : decode cX1_next 39 = .ok (.aload_n 0, 1) := dk_42 (dk_at dksX1_next_1 15 rfl rfl)
theorem dX1_next_40 : decode cX1_next 40 = .ok (.getfield 19, 3) := dk_180 0 19 (dk_at dksX1_next_1 16 rfl rfl)
theorem dX1_next_43 : decode cX1_next 43 = .ok (.iload 4, 2) := dk_21 4 (dk_at dksX1_next_1 19 rfl rfl)
theorem dX1_next_45 : decode cX1_next 45 = .ok (.iaload, 1) := dk_46 (dk_at dksX1_next_1 21 rfl rfl)
theorem dX1_next_46 : decode cX1_next 46 = .ok (.ishl, 1) := dk_120 (dk_at dksX1_next_1 22 rfl rfl)
theorem dX1_next_47 : decode cX1_next 47 = .ok (.goto 4, 3) := dk_167 0 4 (dk_at dksX1_next_2 0 rfl rfl)
theorem dX1_next_50 : decode cX1_next 50 = .ok (.iconst 0, 1) := dk_3 (dk_at dksX1_next_2 3 rfl rfl)
theorem dX1_next_51 : decode cX1_next 51 = .ok (.ior, 1) := dk_128 (dk_at dksX1_next_2 4 rfl rfl)
theorem dX1_next_52 : decode cX1_next 52 = .ok (.istore_n 3, 1) := dk_62 (dk_at dksX1_next_2 5 rfl rfl)
theorem dX1_next_53 : decode cX1_next 53 = .ok (.iload_n 3, 1) := dk_29 (dk_at dksX1_next_2 6 rfl rfl)
theorem dX1_next_54 : decode cX1_next 54 = .ok (.iload_n 1, 1) := dk_27 (dk_at dksX1_next_2 7 rfl rfl)
theorem dX1_next_55 : decode cX1_next 55 = .ok (.aload_n 0, 1) := dk_42 (dk_at dksX1_next_2 8 rfl rfl)
theorem dX1_next_56 : decode cX1_next 56 = .ok (.getfield 19, 3) := dk_180 0 19 (dk_at dksX1_next_2 9 rfl rfl)
theorem dX1_next_59 : decode cX1_next 59 = .ok (.iload 4, 2) := dk_21 4 (dk_at dksX1_next_2 12 rfl rfl)
theorem dX1_next_61 : decode cX1_next 61 = .ok (.iaload, 1) := dk_46 (dk_at dksX1_next_2 14 rfl rfl)
theorem dX1_next_62 : decode cX1_next 62 = .ok (.invokestatic 43, 3) := dk_184 0 43 (dk_at dksX1_next_2 15 rfl rfl)
theorem dX1_next_65 : decode cX1_next 65 = .ok (.ifCond .eq 15, 3) := dk_153 0 15 (dk_at dksX1_next_2 18 rfl rfl)
theorem dX1_next_68 : decode cX1_next 68 = .ok (.iconst 1, 1) := dk_4 (dk_at dksX1_next_2 21 rfl rfl)
theorem dX1_next_69 : decode cX1_next 69 = .ok (.aload_n 0, 1) := dk_42 (dk_at dksX1_next_2 22 rfl rfl)
theorem dX1_next_70 : decode cX1_next 70 = .ok (.getfield 15, 3) := dk_180 0 15 (dk_at dksX1_next_3 0 rfl rfl)
theorem dX1_next_73 : decode cX1_next 73 = .ok (.iload 4, 2) := dk_21 4 (dk_at dksX1_next_3 3 rfl rfl)
theorem dX1_next_75 : decode cX1_next 75 = .ok (.iaload, 1) := dk_46 (dk_at dksX1_next_3 5 rfl rfl)
theorem dX1_next_76 : decode cX1_next 76 = .ok (.ishl, 1) := dk_120 (dk_at dksX1_next_3 6 rfl rfl)
theorem dX1_next_77 : decode cX1_next 77 = .ok (.goto 4, 3) := dk_167 0 4 (dk_at dksX1_next_3 7 rfl rfl)
theorem dX1_next_80 : decode cX1_next 80 = .ok (.iconst 0, 1) := dk_3 (dk_at dksX1_next_3 10 rfl rfl)
theorem dX1_next_81 : decode cX1_next 81 = .ok (.ior, 1) := dk_128 (dk_at dksX1_next_3 11 rfl rfl)
theorem dX1_next_82 : decode cX1_next 82 = .ok (.istore_n 3, 1) := dk_62 (dk_at dksX1_next_3 12 rfl rfl)
theorem dX1_next_83 : decode cX1_next 83 = .ok (.iinc 4 1, 3) := dk_132 4 1 (dk_at dksX1_next_3 13 rfl rfl)
theorem dX1_next_86 : decode cX1_next 86 = .ok (.goto (-81), 3) := dk_167 255 175 (dk_at dksX1_next_3 16 rfl rfl)
theorem dX1_next_89 : decode cX1_next 89 = .ok (.iload_n 3, 1) := dk_29 (dk_at dksX1_next_3 19 rfl rfl)
theorem dX1_next_90 : decode cX1_next 90 = .ok (.ireturn, 1) := dk_172 (dk_at dksX1_next_3 20 rfl rfl)
theorem q55 : (Jvm.Cond.initialized "KindStreets$Town") ∈ lw_all := lw_g (lw_at lw_m1 2 rfl) rfl
theorem q98 : (Jvm.Cond.instanceMethod ({ cls := "KindStreets$Town", name := "begins", desc := "()V" } : Jvm.MethodName)) ∈ lw_all := lw_g (lw_at lw_m1 45 rfl) rfl
theorem q99 : (Jvm.Cond.selects "KindStreets$Town" ({ cls := "KindStreets$Town", name := "begins", desc := "()V" } : Jvm.MethodName) ({ cls := "KindStreets$Town", name := "begins", desc := "()V" } : Jvm.MethodName)) ∈ lw_all := lw_g (lw_at lw_m1 46 rfl) rfl
theorem q100 : (Jvm.Cond.code ({ cls := "KindStreets$Town", name := "begins", desc := "()V" } : Jvm.MethodName) prog_12_method_2_code (1 : Nat) (Option.none : Option Jvm.ClassFile.FieldType)) ∈ lw_all := lw_g (lw_at lw_m1 47 rfl) rfl
theorem q294 : (Jvm.Cond.instanceMethod ({ cls := "KindStreets$Town", name := "copy", desc := "(LKindStreets$Town;)V" } : Jvm.MethodName)) ∈ lw_all := lw_g (lw_at lw_m2 1 rfl) rfl
theorem q295 : (Jvm.Cond.selects "KindStreets$Town" ({ cls := "KindStreets$Town", name := "copy", desc := "(LKindStreets$Town;)V" } : Jvm.MethodName) ({ cls := "KindStreets$Town", name := "copy", desc := "(LKindStreets$Town;)V" } : Jvm.MethodName)) ∈ lw_all := lw_g (lw_at lw_m2 2 rfl) rfl
theorem q296 : (Jvm.Cond.code ({ cls := "KindStreets$Town", name := "copy", desc := "(LKindStreets$Town;)V" } : Jvm.MethodName) prog_12_method_3_code (2 : Nat) (Option.none : Option Jvm.ClassFile.FieldType)) ∈ lw_all := lw_g (lw_at lw_m2 3 rfl) rfl
theorem q297 : (Jvm.Cond.methodLink "KindStreets$Town" (37 : Nat) ({ cls := "java/lang/System", name := "arraycopy", desc := "(Ljava/lang/Object;ILjava/lang/Object;II)V" } : Jvm.MethodName)) ∈ lw_all := lw_g (lw_at lw_m2 4 rfl) rfl
theorem q312 : (Jvm.Cond.instantiable "KindStreets$Town" (8 : Nat)) ∈ lw_all := lw_g (lw_at lw_m2 19 rfl) rfl
theorem q314 : (Jvm.Cond.instanceMethod ({ cls := "KindStreets$Town", name := "<init>", desc := "()V" } : Jvm.MethodName)) ∈ lw_all := lw_g (lw_at lw_m2 21 rfl) rfl
theorem q315 : (Jvm.Cond.code ({ cls := "KindStreets$Town", name := "<init>", desc := "()V" } : Jvm.MethodName) prog_12_method_1_code (1 : Nat) (Option.none : Option Jvm.ClassFile.FieldType)) ∈ lw_all := lw_g (lw_at lw_m2 22 rfl) rfl
theorem q316 : (Jvm.Cond.methodLink "KindStreets$Town" (3 : Nat) ({ cls := "java/lang/Object", name := "<init>", desc := "()V" } : Jvm.MethodName)) ∈ lw_all := lw_g (lw_at lw_m2 23 rfl) rfl
theorem q317 : (Jvm.Cond.fieldLink "KindStreets$Town" (9 : Nat) "KindStreets$Town" "yards" "I") ∈ lw_all := lw_g (lw_at lw_m2 24 rfl) rfl
theorem q320 : (Jvm.Cond.fieldLink "KindStreets$Town" (31 : Nat) "KindStreets$Town" "streets" "I") ∈ lw_all := lw_g (lw_at lw_m2 27 rfl) rfl
theorem q323 : (Jvm.Cond.fieldLink "KindStreets$Town" (15 : Nat) "KindStreets$Town" "one" "[I") ∈ lw_all := lw_g (lw_at lw_m2 30 rfl) rfl
theorem q326 : (Jvm.Cond.fieldLink "KindStreets$Town" (19 : Nat) "KindStreets$Town" "other" "[I") ∈ lw_all := lw_g (lw_at lw_m2 33 rfl) rfl
theorem q329 : (Jvm.Cond.fieldLink "KindStreets$Town" (22 : Nat) "KindStreets$Town" "old" "[I") ∈ lw_all := lw_g (lw_at lw_m2 36 rfl) rfl
theorem q332 : (Jvm.Cond.fieldLink "KindStreets$Town" (34 : Nat) "KindStreets$Town" "citizens" "I") ∈ lw_all := lw_g (lw_at lw_m2 39 rfl) rfl
theorem q336 : (Jvm.Cond.fieldLink "KindStreets$Town" (25 : Nat) "KindStreets$Town" "home" "[I") ∈ lw_all := lw_g (lw_at lw_m2 43 rfl) rfl
theorem q339 : (Jvm.Cond.fieldLink "KindStreets$Town" (28 : Nat) "KindStreets$Town" "wants" "[I") ∈ lw_all := lw_g (lw_at lw_m2 46 rfl) rfl
theorem q342 : (Jvm.Cond.lays "KindStreets$Town" "KindStreets$Town" "yards" "I") ∈ lw_all := lw_g (lw_at lw_m2 49 rfl) rfl
theorem q343 : (Jvm.Cond.soleField "KindStreets$Town" "yards") ∈ lw_all := lw_g (lw_at lw_m2 50 rfl) rfl
theorem q344 : (Jvm.Cond.lays "KindStreets$Town" "KindStreets$Town" "streets" "I") ∈ lw_all := lw_g (lw_at lw_m2 51 rfl) rfl
theorem q345 : (Jvm.Cond.soleField "KindStreets$Town" "streets") ∈ lw_all := lw_g (lw_at lw_m2 52 rfl) rfl
theorem q346 : (Jvm.Cond.laysFinal "KindStreets$Town" "KindStreets$Town" "one" "[I") ∈ lw_all := lw_g (lw_at lw_m2 53 rfl) rfl
theorem q347 : (Jvm.Cond.soleField "KindStreets$Town" "one") ∈ lw_all := lw_g (lw_at lw_m2 54 rfl) rfl
theorem q348 : (Jvm.Cond.laysFinal "KindStreets$Town" "KindStreets$Town" "other" "[I") ∈ lw_all := lw_g (lw_at lw_m2 55 rfl) rfl
theorem q349 : (Jvm.Cond.soleField "KindStreets$Town" "other") ∈ lw_all := lw_g (lw_at lw_m2 56 rfl) rfl
theorem q350 : (Jvm.Cond.laysFinal "KindStreets$Town" "KindStreets$Town" "old" "[I") ∈ lw_all := lw_g (lw_at lw_m2 57 rfl) rfl
theorem q351 : (Jvm.Cond.soleField "KindStreets$Town" "old") ∈ lw_all := lw_g (lw_at lw_m2 58 rfl) rfl
theorem q352 : (Jvm.Cond.lays "KindStreets$Town" "KindStreets$Town" "citizens" "I") ∈ lw_all := lw_g (lw_at lw_m2 59 rfl) rfl
theorem q353 : (Jvm.Cond.soleField "KindStreets$Town" "citizens") ∈ lw_all := lw_g (lw_at lw_m2 60 rfl) rfl
theorem q354 : (Jvm.Cond.laysFinal "KindStreets$Town" "KindStreets$Town" "home" "[I") ∈ lw_all := lw_g (lw_at lw_m2 61 rfl) rfl
theorem q355 : (Jvm.Cond.soleField "KindStreets$Town" "home") ∈ lw_all := lw_g (lw_at lw_m2 62 rfl) rfl
theorem q356 : (Jvm.Cond.laysFinal "KindStreets$Town" "KindStreets$Town" "wants" "[I") ∈ lw_all := lw_g (lw_at lw_m2 63 rfl) rfl
theorem q357 : (Jvm.Cond.soleField "KindStreets$Town" "wants") ∈ lw_all := lw_g (lw_at lw_m2 64 rfl) rfl
theorem q358 : (Jvm.Cond.superclass "KindStreets$Town" "java/lang/Object") ∈ lw_all := lw_g (lw_at lw_m2 65 rfl) rfl
theorem q585 : (Jvm.Cond.instanceMethod ({ cls := "KindStreets$Town", name := "meet", desc := "(II)Z" } : Jvm.MethodName)) ∈ lw_all := lw_g (lw_at lw_m3 52 rfl) rfl
theorem q586 : (Jvm.Cond.selects "KindStreets$Town" ({ cls := "KindStreets$Town", name := "meet", desc := "(II)Z" } : Jvm.MethodName) ({ cls := "KindStreets$Town", name := "meet", desc := "(II)Z" } : Jvm.MethodName)) ∈ lw_all := lw_g (lw_at lw_m3 53 rfl) rfl
theorem q587 : (Jvm.Cond.code ({ cls := "KindStreets$Town", name := "meet", desc := "(II)Z" } : Jvm.MethodName) prog_12_method_4_code (3 : Nat) (Option.some Jvm.ClassFile.FieldType.boolean)) ∈ lw_all := lw_g (lw_at lw_m3 54 rfl) rfl
theorem q666 : (Jvm.Cond.instanceMethod ({ cls := "KindStreets$Town", name := "far", desc := "(III)I" } : Jvm.MethodName)) ∈ lw_all := lw_g (lw_at lw_m3 133 rfl) rfl
theorem q667 : (Jvm.Cond.selects "KindStreets$Town" ({ cls := "KindStreets$Town", name := "far", desc := "(III)I" } : Jvm.MethodName) ({ cls := "KindStreets$Town", name := "far", desc := "(III)I" } : Jvm.MethodName)) ∈ lw_all := lw_g (lw_at lw_m3 134 rfl) rfl
theorem q668 : (Jvm.Cond.code ({ cls := "KindStreets$Town", name := "far", desc := "(III)I" } : Jvm.MethodName) prog_12_method_6_code (6 : Nat) (Option.some Jvm.ClassFile.FieldType.int)) ∈ lw_all := lw_g (lw_at lw_m3 135 rfl) rfl
theorem q669 : (Jvm.Cond.methodLinkNest "KindStreets$Town" (43 : Nat) ({ cls := "KindStreets", name := "has", desc := "(II)Z" } : Jvm.MethodName) "KindStreets") ∈ lw_tbl := lw_at lw_m3 136 rfl
theorem q670 : (Jvm.Cond.methodLink "KindStreets$Town" (47 : Nat) ({ cls := "KindStreets$Town", name := "next", desc := "(II)I" } : Jvm.MethodName)) ∈ lw_all := lw_g (lw_at lw_m3 137 rfl) rfl
theorem q671 : (Jvm.Cond.instanceMethod ({ cls := "KindStreets$Town", name := "next", desc := "(II)I" } : Jvm.MethodName)) ∈ lw_all := lw_g (lw_at lw_m3 138 rfl) rfl
theorem q672 : (Jvm.Cond.selects "KindStreets$Town" ({ cls := "KindStreets$Town", name := "next", desc := "(II)I" } : Jvm.MethodName) ({ cls := "KindStreets$Town", name := "next", desc := "(II)I" } : Jvm.MethodName)) ∈ lw_all := lw_g (lw_at lw_m3 139 rfl) rfl
theorem q673 : (Jvm.Cond.code ({ cls := "KindStreets$Town", name := "next", desc := "(II)I" } : Jvm.MethodName) prog_12_method_5_code (5 : Nat) (Option.some Jvm.ClassFile.FieldType.int)) ∈ lw_all := lw_g (lw_at lw_m3 140 rfl) rfl
theorem in_X1 : ∀ w ∈ wsX10, w ∈ lw_all := lw_in wsX10 [342, 344, 346, 348, 350, 352, 354, 356] (by decide +kernel) (by decide +kernel)

/-! KindStreets$Reader -/
set_option maxRecDepth 100000
def RX2 : String := "KindStreets$Reader"
def TX2 : u_T := fun k => match k with
  | 0 => ("KindStreets$Reader", "next", "I", false)
  | 1 => ("KindStreets$Reader", "begun", "I", false)
  | 2 => ("KindStreets$Reader", "word", "I", false)
  | 3 => ("KindStreets$Reader", "number", "I", false)
  | 4 => ("KindStreets$Reader", "isStop", "Z", false)
  | 5 => ("KindStreets$Reader", "items", "I", false)
  | _ => ("KindStreets$Reader", "this$0", "LKindStreets;", true)
def tyX2 : Nat → FieldType := fun k => match k with
  | 0 => .int
  | 1 => .int
  | 2 => .int
  | 3 => .int
  | 4 => .boolean
  | 5 => .int
  | _ => .object "KindStreets"
abbrev wsX20 : List Cond := u_ws RX2 TX2 7
theorem nmX2 : ∀ a, a < 7 → ∀ b, b < 7 → a ≠ b → (TX2 a).2.1 ≠ (TX2 b).2.1 := by decide +kernel
theorem tyX2_ok : ∀ k, k < 7 → parseFieldDescriptor (TX2 k).2.2.1 = some (tyX2 k) := by decide +kernel
abbrev cX2_all : ByteArray := prog_11_method_11_code
def yX2_all : MethodName := ⟨RX2, "all", "()I"⟩
def dkwX2_all_3 : List UInt8 := [182, 0, 72, 42, 89, 180, 0, 75, 4, 96, 181, 0, 75, 167, 255, 197, 42, 180, 0, 75, 172]
abbrev dktX2_all_3 : List UInt8 := dkwX2_all_3 ++ []
def dkwX2_all_2 : List UInt8 := [182, 0, 120, 182, 0, 59, 42, 182, 0, 72, 42, 27, 182, 0, 124, 42, 42, 180, 0, 44, 182, 0, 59, 42]
abbrev dktX2_all_2 : List UInt8 := dkwX2_all_2 ++ dktX2_all_3
def dkwX2_all_1 : List UInt8 := [42, 180, 0, 25, 42, 180, 0, 3, 180, 0, 15, 162, 0, 51, 42, 180, 0, 38, 60, 42, 42, 27]
abbrev dktX2_all_1 : List UInt8 := dkwX2_all_1 ++ dktX2_all_2
def dkwX2_all_0 : List UInt8 := [42, 180, 0, 3, 180, 0, 78, 182, 0, 117, 42, 3, 181, 0, 75, 42, 3, 181, 0, 31, 42, 182, 0, 72]
abbrev dktX2_all_0 : List UInt8 := dkwX2_all_0 ++ dktX2_all_1
theorem dksX2_all_0 : cX2_all.data.toList.drop 0 = dktX2_all_0 := by decide +kernel
theorem dksX2_all_1 : cX2_all.data.toList.drop 24 = dktX2_all_1 := dk_seg dksX2_all_0 24 rfl rfl
theorem dksX2_all_2 : cX2_all.data.toList.drop 46 = dktX2_all_2 := dk_seg dksX2_all_1 22 rfl rfl
theorem dksX2_all_3 : cX2_all.data.toList.drop 70 = dktX2_all_3 := dk_seg dksX2_all_2 24 rfl rfl
theorem dX2_all_0 : decode cX2_all 0 = .ok (.aload_n 0, 1) := dk_42 (dk_at dksX2_all_0 0 rfl rfl)
theorem dX2_all_1 : decode cX2_all 1 = .ok (.getfield 3, 3) := dk_180 0 3 (dk_at dksX2_all_0 1 rfl rfl)
theorem dX2_all_4 : decode cX2_all 4 = .ok (.getfield 78, 3) := dk_180 0 78 (dk_at dksX2_all_0 4 rfl rfl)
theorem dX2_all_7 : decode cX2_all 7 = .ok (.invokevirtual 117, 3) := dk_182 0 117 (dk_at dksX2_all_0 7 rfl rfl)
theorem dX2_all_10 : decode cX2_all 10 = .ok (.aload_n 0, 1) := dk_42 (dk_at dksX2_all_0 10 rfl rfl)
theorem dX2_all_11 : decode cX2_all 11 = .ok (.iconst 0, 1) := dk_3 (dk_at dksX2_all_0 11 rfl rfl)
theorem dX2_all_12 : decode cX2_all 12 = .ok (.putfield 75, 3) := dk_181 0 75 (dk_at dksX2_all_0 12 rfl rfl)
theorem dX2_all_15 : decode cX2_all 15 = .ok (.aload_n 0, 1) := dk_42 (dk_at dksX2_all_0 15 rfl rfl)
theorem dX2_all_16 : decode cX2_all 16 = .ok (.iconst 0, 1) := dk_3 (dk_at dksX2_all_0 16 rfl rfl)
theorem dX2_all_17 : decode cX2_all 17 = .ok (.putfield 31, 3) := dk_181 0 31 (dk_at dksX2_all_0 17 rfl rfl)
theorem dX2_all_20 : decode cX2_all 20 = .ok (.aload_n 0, 1) := dk_42 (dk_at dksX2_all_0 20 rfl rfl)
theorem dX2_all_21 : decode cX2_all 21 = .ok (.invokevirtual 72, 3) := dk_182 0 72 (dk_at dksX2_all_0 21 rfl rfl)
theorem dX2_all_24 : decode cX2_all 24 = .ok (.aload_n 0, 1) := dk_42 (dk_at dksX2_all_1 0 rfl rfl)
theorem dX2_all_25 : decode cX2_all 25 = .ok (.getfield 25, 3) := dk_180 0 25 (dk_at dksX2_all_1 1 rfl rfl)
theorem dX2_all_28 : decode cX2_all 28 = .ok (.aload_n 0, 1) := dk_42 (dk_at dksX2_all_1 4 rfl rfl)
theorem dX2_all_29 : decode cX2_all 29 = .ok (.getfield 3, 3) := dk_180 0 3 (dk_at dksX2_all_1 5 rfl rfl)
theorem dX2_all_32 : decode cX2_all 32 = .ok (.getfield 15, 3) := dk_180 0 15 (dk_at dksX2_all_1 8 rfl rfl)
theorem dX2_all_35 : decode cX2_all 35 = .ok (.if_icmp .ge 51, 3) := dk_162 0 51 (dk_at dksX2_all_1 11 rfl rfl)
theorem dX2_all_38 : decode cX2_all 38 = .ok (.aload_n 0, 1) := dk_42 (dk_at dksX2_all_1 14 rfl rfl)
theorem dX2_all_39 : decode cX2_all 39 = .ok (.getfield 38, 3) := dk_180 0 38 (dk_at dksX2_all_1 15 rfl rfl)
theorem dX2_all_42 : decode cX2_all 42 = .ok (.istore_n 1, 1) := dk_60 (dk_at dksX2_all_1 18 rfl rfl)
theorem dX2_all_43 : decode cX2_all 43 = .ok (.aload_n 0, 1) := dk_42 (dk_at dksX2_all_1 19 rfl rfl)
theorem dX2_all_44 : decode cX2_all 44 = .ok (.aload_n 0, 1) := dk_42 (dk_at dksX2_all_1 20 rfl rfl)
theorem dX2_all_45 : decode cX2_all 45 = .ok (.iload_n 1, 1) := dk_27 (dk_at dksX2_all_1 21 rfl rfl)
theorem dX2_all_46 : decode cX2_all 46 = .ok (.invokevirtual 120, 3) := dk_182 0 120 (dk_at dksX2_all_2 0 rfl rfl)
theorem dX2_all_49 : decode cX2_all 49 = .ok (.invokevirtual 59, 3) := dk_182 0 59 (dk_at dksX2_all_2 3 rfl rfl)
theorem dX2_all_52 : decode cX2_all 52 = .ok (.aload_n 0, 1) := dk_42 (dk_at dksX2_all_2 6 rfl rfl)
theorem dX2_all_53 : decode cX2_all 53 = .ok (.invokevirtual 72, 3) := dk_182 0 72 (dk_at dksX2_all_2 7 rfl rfl)
theorem dX2_all_56 : decode cX2_all 56 = .ok (.aload_n 0, 1) := dk_42 (dk_at dksX2_all_2 10 rfl rfl)
theorem dX2_all_57 : decode cX2_all 57 = .ok (.iload_n 1, 1) := dk_27 (dk_at dksX2_all_2 11 rfl rfl)
theorem dX2_all_58 : decode cX2_all 58 = .ok (.invokevirtual 124, 3) := dk_182 0 124 (dk_at dksX2_all_2 12 rfl rfl)
theorem dX2_all_61 : decode cX2_all 61 = .ok (.aload_n 0, 1) := dk_42 (dk_at dksX2_all_2 15 rfl rfl)
theorem dX2_all_62 : decode cX2_all 62 = .ok (.aload_n 0, 1) := dk_42 (dk_at dksX2_all_2 16 rfl rfl)
theorem dX2_all_63 : decode cX2_all 63 = .ok (.getfield 44, 3) := dk_180 0 44 (dk_at dksX2_all_2 17 rfl rfl)
theorem dX2_all_66 : decode cX2_all 66 = .ok (.invokevirtual 59, 3) := dk_182 0 59 (dk_at dksX2_all_2 20 rfl rfl)
theorem dX2_all_69 : decode cX2_all 69 = .ok (.aload_n 0, 1) := dk_42 (dk_at dksX2_all_2 23 rfl rfl)
theorem dX2_all_70 : decode cX2_all 70 = .ok (.invokevirtual 72, 3) := dk_182 0 72 (dk_at dksX2_all_3 0 rfl rfl)
theorem dX2_all_73 : decode cX2_all 73 = .ok (.aload_n 0, 1) := dk_42 (dk_at dksX2_all_3 3 rfl rfl)
theorem dX2_all_74 : decode cX2_all 74 = .ok (.dup, 1) := dk_89 (dk_at dksX2_all_3 4 rfl rfl)
theorem dX2_all_75 : decode cX2_all 75 = .ok (.getfield 75, 3) := dk_180 0 75 (dk_at dksX2_all_3 5 rfl rfl)
theorem dX2_all_78 : decode cX2_all 78 = .ok (.iconst 1, 1) := dk_4 (dk_at dksX2_all_3 8 rfl rfl)
theorem dX2_all_79 : decode cX2_all 79 = .ok (.iadd, 1) := dk_96 (dk_at dksX2_all_3 9 rfl rfl)
theorem dX2_all_80 : decode cX2_all 80 = .ok (.putfield 75, 3) := dk_181 0 75 (dk_at dksX2_all_3 10 rfl rfl)
theorem dX2_all_83 : decode cX2_all 83 = .ok (.goto (-59), 3) := dk_167 255 197 (dk_at dksX2_all_3 13 rfl rfl)
theorem dX2_all_86 : decode cX2_all 86 = .ok (.aload_n 0, 1) := dk_42 (dk_at dksX2_all_3 16 rfl rfl)
theorem dX2_all_87 : decode cX2_all 87 = .ok (.getfield 75, 3) := dk_180 0 75 (dk_at dksX2_all_3 17 rfl rfl)
theorem dX2_all_90 : decode cX2_all 90 = .ok (.ireturn, 1) := dk_172 (dk_at dksX2_all_3 20 rfl rfl)
abbrev cX2_advances : ByteArray := prog_11_method_4_code
def yX2_advances : MethodName := ⟨RX2, "advances", "()V"⟩
def dkwX2_advances_8 : List UInt8 := [42, 27, 156, 0, 7, 4, 167, 0, 4, 3, 182, 0, 59, 177]
abbrev dktX2_advances_8 : List UInt8 := dkwX2_advances_8 ++ []
def dkwX2_advances_7 : List UInt8 := [27, 16, 59, 160, 0, 21, 42, 4, 181, 0, 44, 42, 89, 180, 0, 31, 4, 96, 181, 0, 31, 167, 0, 16]
abbrev dktX2_advances_7 : List UInt8 := dkwX2_advances_7 ++ dktX2_advances_8
def dkwX2_advances_6 : List UInt8 := [182, 0, 59, 167, 0, 58, 27, 16, 48, 16, 57, 184, 0, 48, 153, 0, 10, 42, 182, 0, 63, 167, 0, 40]
abbrev dktX2_advances_6 : List UInt8 := dkwX2_advances_6 ++ dktX2_advances_7
def dkwX2_advances_5 : List UInt8 := [182, 0, 54, 167, 0, 5, 16, 247, 181, 0, 38, 42, 42, 180, 0, 38, 155, 0, 7, 4, 167, 0, 4, 3]
abbrev dktX2_advances_5 : List UInt8 := dkwX2_advances_5 ++ dktX2_advances_6
def dkwX2_advances_4 : List UInt8 := [96, 181, 0, 31, 167, 255, 228, 42, 42, 180, 0, 31, 42, 180, 0, 25, 4, 96, 160, 0, 12, 18, 52, 27]
abbrev dktX2_advances_4 : List UInt8 := dkwX2_advances_4 ++ dktX2_advances_5
def dkwX2_advances_3 : List UInt8 := [42, 42, 180, 0, 31, 182, 0, 34, 16, 97, 16, 122, 184, 0, 48, 153, 0, 16, 42, 89, 180, 0, 31, 4]
abbrev dktX2_advances_3 : List UInt8 := dkwX2_advances_3 ++ dktX2_advances_4
def dkwX2_advances_2 : List UInt8 := [3, 181, 0, 44, 42, 42, 180, 0, 31, 182, 0, 34, 60, 27, 16, 97, 16, 122, 184, 0, 48, 153, 0, 81]
abbrev dktX2_advances_2 : List UInt8 := dkwX2_advances_2 ++ dktX2_advances_3
def dkwX2_advances_1 : List UInt8 := [167, 255, 233, 42, 42, 180, 0, 31, 181, 0, 25, 42, 16, 247, 181, 0, 38, 42, 16, 247, 181, 0, 41, 42]
abbrev dktX2_advances_1 : List UInt8 := dkwX2_advances_1 ++ dktX2_advances_2
def dkwX2_advances_0 : List UInt8 := [42, 42, 180, 0, 31, 182, 0, 34, 16, 32, 160, 0, 16, 42, 89, 180, 0, 31, 4, 96, 181, 0, 31]
abbrev dktX2_advances_0 : List UInt8 := dkwX2_advances_0 ++ dktX2_advances_1
theorem dksX2_advances_0 : cX2_advances.data.toList.drop 0 = dktX2_advances_0 := by decide +kernel
theorem dksX2_advances_1 : cX2_advances.data.toList.drop 23 = dktX2_advances_1 := dk_seg dksX2_advances_0 23 rfl rfl
theorem dksX2_advances_2 : cX2_advances.data.toList.drop 47 = dktX2_advances_2 := dk_seg dksX2_advances_1 24 rfl rfl
theorem dksX2_advances_3 : cX2_advances.data.toList.drop 71 = dktX2_advances_3 := dk_seg dksX2_advances_2 24 rfl rfl
theorem dksX2_advances_4 : cX2_advances.data.toList.drop 95 = dktX2_advances_4 := dk_seg dksX2_advances_3 24 rfl rfl
theorem dksX2_advances_5 : cX2_advances.data.toList.drop 119 = dktX2_advances_5 := dk_seg dksX2_advances_4 24 rfl rfl
theorem dksX2_advances_6 : cX2_advances.data.toList.drop 143 = dktX2_advances_6 := dk_seg dksX2_advances_5 24 rfl rfl
theorem dksX2_advances_7 : cX2_advances.data.toList.drop 167 = dktX2_advances_7 := dk_seg dksX2_advances_6 24 rfl rfl
theorem dksX2_advances_8 : cX2_advances.data.toList.drop 191 = dktX2_advances_8 := dk_seg dksX2_advances_7 24 rfl rfl
theorem dX2_advances_0 : decode cX2_advances 0 = .ok (.aload_n 0, 1) := dk_42 (dk_at dksX2_advances_0 0 rfl rfl)
theorem dX2_advances_1 : decode cX2_advances 1 = .ok (.aload_n 0, 1) := dk_42 (dk_at dksX2_advances_0 1 rfl rfl)
theorem dX2_advances_2 : decode cX2_advances 2 = .ok (.getfield 31, 3) := dk_180 0 31 (dk_at dksX2_advances_0 2 rfl rfl)
theorem dX2_advances_5 : decode cX2_advances 5 = .ok (.invokevirtual 34, 3) := dk_182 0 34 (dk_at dksX2_advances_0 5 rfl rfl)
theorem dX2_advances_8 : decode cX2_advances 8 = .ok (.bipush 32, 2) := dk_16 32 (dk_at dksX2_advances_0 8 rfl rfl)
theorem dX2_advances_10 : decode cX2_advances 10 = .ok (.if_icmp .ne 16, 3) := dk_160 0 16 (dk_at dksX2_advances_0 10 rfl rfl)
theorem dX2_advances_13 : decode cX2_advances 13 = .ok (.aload_n 0, 1) := dk_42 (dk_at dksX2_advances_0 13 rfl rfl)
theorem dX2_advances_14 : decode cX2_advances 14 = .ok (.dup, 1) := dk_89 (dk_at dksX2_advances_0 14 rfl rfl)
theorem dX2_advances_15 : decode cX2_advances 15 = .ok (.getfield 31, 3) := dk_180 0 31 (dk_at dksX2_advances_0 15 rfl rfl)
theorem dX2_advances_18 : decode cX2_advances 18 = .ok (.iconst 1, 1) := dk_4 (dk_at dksX2_advances_0 18 rfl rfl)
theorem dX2_advances_19 : decode cX2_advances 19 = .ok (.iadd, 1) := dk_96 (dk_at dksX2_advances_0 19 rfl rfl)
theorem dX2_advances_20 : decode cX2_advances 20 = .ok (.putfield 31, 3) := dk_181 0 31 (dk_at dksX2_advances_0 20 rfl rfl)
theorem dX2_advances_23 : decode cX2_advances 23 = .ok (.goto (-23), 3) := dk_167 255 233 (dk_at dksX2_advances_1 0 rfl rfl)
theorem dX2_advances_26 : decode cX2_advances 26 = .ok (.aload_n 0, 1) := dk_42 (dk_at dksX2_advances_1 3 rfl rfl)
theorem dX2_advances_27 : decode cX2_advances 27 = .ok (.aload_n 0, 1) := dk_42 (dk_at dksX2_advances_1 4 rfl rfl)
theorem dX2_advances_28 : decode cX2_advances 28 = .ok (.getfield 31, 3) := dk_180 0 31 (dk_at dksX2_advances_1 5 rfl rfl)
theorem dX2_advances_31 : decode cX2_advances 31 = .ok (.putfield 25, 3) := dk_181 0 25 (dk_at dksX2_advances_1 8 rfl rfl)
theorem dX2_advances_34 : decode cX2_advances 34 = .ok (.aload_n 0, 1) := dk_42 (dk_at dksX2_advances_1 11 rfl rfl)
theorem dX2_advances_35 : decode cX2_advances 35 = .ok (.bipush (-9), 2) := dk_16 247 (dk_at dksX2_advances_1 12 rfl rfl)
theorem dX2_advances_37 : decode cX2_advances 37 = .ok (.putfield 38, 3) := dk_181 0 38 (dk_at dksX2_advances_1 14 rfl rfl)
theorem dX2_advances_40 : decode cX2_advances 40 = .ok (.aload_n 0, 1) := dk_42 (dk_at dksX2_advances_1 17 rfl rfl)
theorem dX2_advances_41 : decode cX2_advances 41 = .ok (.bipush (-9), 2) := dk_16 247 (dk_at dksX2_advances_1 18 rfl rfl)
theorem dX2_advances_43 : decode cX2_advances 43 = .ok (.putfield 41, 3) := dk_181 0 41 (dk_at dksX2_advances_1 20 rfl rfl)
theorem dX2_advances_46 : decode cX2_advances 46 = .ok (.aload_n 0, 1) := dk_42 (dk_at dksX2_advances_1 23 rfl rfl)
theorem dX2_advances_47 : decode cX2_advances 47 = .ok (.iconst 0, 1) := dk_3 (dk_at dksX2_advances_2 0 rfl rfl)
theorem dX2_advances_48 : decode cX2_advances 48 = .ok (.putfield 44, 3) := dk_181 0 44 (dk_at dksX2_advances_2 1 rfl rfl)
theorem dX2_advances_51 : decode cX2_advances 51 = .ok (.aload_n 0, 1) := dk_42 (dk_at dksX2_advances_2 4 rfl rfl)
theorem dX2_advances_52 : decode cX2_advances 52 = .ok (.aload_n 0, 1) := dk_42 (dk_at dksX2_advances_2 5 rfl rfl)
theorem dX2_advances_53 : decode cX2_advances 53 = .ok (.getfield 31, 3) := dk_180 0 31 (dk_at dksX2_advances_2 6 rfl rfl)
theorem dX2_advances_56 : decode cX2_advances 56 = .ok (.invokevirtual 34, 3) := dk_182 0 34 (dk_at dksX2_advances_2 9 rfl rfl)
theorem dX2_advances_59 : decode cX2_advances 59 = .ok (.istore_n 1, 1) := dk_60 (dk_at dksX2_advances_2 12 rfl rfl)
theorem dX2_advances_60 : decode cX2_advances 60 = .ok (.iload_n 1, 1) := dk_27 (dk_at dksX2_advances_2 13 rfl rfl)
theorem dX2_advances_61 : decode cX2_advances 61 = .ok (.bipush 97, 2) := dk_16 97 (dk_at dksX2_advances_2 14 rfl rfl)
theorem dX2_advances_63 : decode cX2_advances 63 = .ok (.bipush 122, 2) := dk_16 122 (dk_at dksX2_advances_2 16 rfl rfl)
theorem dX2_advances_65 : decode cX2_advances 65 = .ok (.invokestatic 48, 3) := dk_184 0 48 (dk_at dksX2_advances_2 18 rfl rfl)
theorem dX2_advances_68 : decode cX2_advances 68 = .ok (.ifCond .eq 81, 3) := dk_153 0 81 (dk_at dksX2_advances_2 21 rfl rfl)
theorem dX2_advances_71 : decode cX2_advances 71 = .ok (.aload_n 0, 1) := dk_42 (dk_at dksX2_advances_3 0 rfl rfl)
theorem dX2_advances_72 : decode cX2_advances 72 = .ok (.aload_n 0, 1) := dk_42 (dk_at dksX2_advances_3 1 rfl rfl)
theorem dX2_advances_73 : decode cX2_advances 73 = .ok (.getfield 31, 3) := dk_180 0 31 (dk_at dksX2_advances_3 2 rfl rfl)
theorem dX2_advances_76 : decode cX2_advances 76 = .ok (.invokevirtual 34, 3) := dk_182 0 34 (dk_at dksX2_advances_3 5 rfl rfl)
theorem dX2_advances_79 : decode cX2_advances 79 = .ok (.bipush 97, 2) := dk_16 97 (dk_at dksX2_advances_3 8 rfl rfl)
theorem dX2_advances_81 : decode cX2_advances 81 = .ok (.bipush 122, 2) := dk_16 122 (dk_at dksX2_advances_3 10 rfl rfl)
theorem dX2_advances_83 : decode cX2_advances 83 = .ok (.invokestatic 48, 3) := dk_184 0 48 (dk_at dksX2_advances_3 12 rfl rfl)
theorem dX2_advances_86 : decode cX2_advances 86 = .ok (.ifCond .eq 16, 3) := dk_153 0 16 (dk_at dksX2_advances_3 15 rfl rfl)
theorem dX2_advances_89 : decode cX2_advances 89 = .ok (.aload_n 0, 1) := dk_42 (dk_at dksX2_advances_3 18 rfl rfl)
theorem dX2_advances_90 : decode cX2_advances 90 = .ok (.dup, 1) := dk_89 (dk_at dksX2_advances_3 19 rfl rfl)
theorem dX2_advances_91 : decode cX2_advances 91 = .ok (.getfield 31, 3) := dk_180 0 31 (dk_at dksX2_advances_3 20 rfl rfl)
theorem dX2_advances_94 : decode cX2_advances 94 = .ok (.iconst 1, 1) := dk_4 (dk_at dksX2_advances_3 23 rfl rfl)
theorem dX2_advances_95 : decode cX2_advances 95 = .ok (.iadd, 1) := dk_96 (dk_at dksX2_advances_4 0 rfl rfl)
theorem dX2_advances_96 : decode cX2_advances 96 = .ok (.putfield 31, 3) := dk_181 0 31 (dk_at dksX2_advances_4 1 rfl rfl)
theorem dX2_advances_99 : decode cX2_advances 99 = .ok (.goto (-28), 3) := dk_167 255 228 (dk_at dksX2_advances_4 4 rfl rfl)
theorem dX2_advances_102 : decode cX2_advances 102 = .ok (.aload_n 0, 1) := dk_42 (dk_at dksX2_advances_4 7 rfl rfl)
theorem dX2_advances_103 : decode cX2_advances 103 = .ok (.aload_n 0, 1) := dk_42 (dk_at dksX2_advances_4 8 rfl rfl)
theorem dX2_advances_104 : decode cX2_advances 104 = .ok (.getfield 31, 3) := dk_180 0 31 (dk_at dksX2_advances_4 9 rfl rfl)
theorem dX2_advances_107 : decode cX2_advances 107 = .ok (.aload_n 0, 1) := dk_42 (dk_at dksX2_advances_4 12 rfl rfl)
theorem dX2_advances_108 : decode cX2_advances 108 = .ok (.getfield 25, 3) := dk_180 0 25 (dk_at dksX2_advances_4 13 rfl rfl)
theorem dX2_advances_111 : decode cX2_advances 111 = .ok (.iconst 1, 1) := dk_4 (dk_at dksX2_advances_4 16 rfl rfl)
theorem dX2_advances_112 : decode cX2_advances 112 = .ok (.iadd, 1) := dk_96 (dk_at dksX2_advances_4 17 rfl rfl)
theorem dX2_advances_113 : decode cX2_advances 113 = .ok (.if_icmp .ne 12, 3) := dk_160 0 12 (dk_at dksX2_advances_4 18 rfl rfl)
theorem dX2_advances_116 : decode cX2_advances 116 = .ok (.ldc 52, 2) := dk_18 52 (dk_at dksX2_advances_4 21 rfl rfl)
theorem dX2_advances_118 : decode cX2_advances 118 = .ok (.iload_n 1, 1) := dk_27 (dk_at dksX2_advances_4 23 rfl rfl)
theorem dX2_advances_119 : decode cX2_advances 119 = .ok (.invokevirtual 54, 3) := dk_182 0 54 (dk_at dksX2_advances_5 0 rfl rfl)
theorem dX2_advances_122 : decode cX2_advances 122 = .ok (.goto 5, 3) := dk_167 0 5 (dk_at dksX2_advances_5 3 rfl rfl)
theorem dX2_advances_125 : decode cX2_advances 125 = .ok (.bipush (-9), 2) := dk_16 247 (dk_at dksX2_advances_5 6 rfl rfl)
theorem dX2_advances_127 : decode cX2_advances 127 = .ok (.putfield 38, 3) := dk_181 0 38 (dk_at dksX2_advances_5 8 rfl rfl)
theorem dX2_advances_130 : decode cX2_advances 130 = .ok (.aload_n 0, 1) := dk_42 (dk_at dksX2_advances_5 11 rfl rfl)
theorem dX2_advances_131 : decode cX2_advances 131 = .ok (.aload_n 0, 1) := dk_42 (dk_at dksX2_advances_5 12 rfl rfl)
theorem dX2_advances_132 : decode cX2_advances 132 = .ok (.getfield 38, 3) := dk_180 0 38 (dk_at dksX2_advances_5 13 rfl rfl)
theorem dX2_advances_135 : decode cX2_advances 135 = .ok (.ifCond .lt 7, 3) := dk_155 0 7 (dk_at dksX2_advances_5 16 rfl rfl)
theorem dX2_advances_138 : decode cX2_advances 138 = .ok (.iconst 1, 1) := dk_4 (dk_at dksX2_advances_5 19 rfl rfl)
theorem dX2_advances_139 : decode cX2_advances 139 = .ok (.goto 4, 3) := dk_167 0 4 (dk_at dksX2_advances_5 20 rfl rfl)
theorem dX2_advances_142 : decode cX2_advances 142 = .ok (.iconst 0, 1) := dk_3 (dk_at dksX2_advances_5 23 rfl rfl)
theorem dX2_advances_143 : decode cX2_advances 143 = .ok (.invokevirtual 59, 3) := dk_182 0 59 (dk_at dksX2_advances_6 0 rfl rfl)
theorem dX2_advances_146 : decode cX2_advances 146 = .ok (.goto 58, 3) := dk_167 0 58 (dk_at dksX2_advances_6 3 rfl rfl)
theorem dX2_advances_149 : decode cX2_advances 149 = .ok (.iload_n 1, 1) := dk_27 (dk_at dksX2_advances_6 6 rfl rfl)
theorem dX2_advances_150 : decode cX2_advances 150 = .ok (.bipush 48, 2) := dk_16 48 (dk_at dksX2_advances_6 7 rfl rfl)
theorem dX2_advances_152 : decode cX2_advances 152 = .ok (.bipush 57, 2) := dk_16 57 (dk_at dksX2_advances_6 9 rfl rfl)
theorem dX2_advances_154 : decode cX2_advances 154 = .ok (.invokestatic 48, 3) := dk_184 0 48 (dk_at dksX2_advances_6 11 rfl rfl)
theorem dX2_advances_157 : decode cX2_advances 157 = .ok (.ifCond .eq 10, 3) := dk_153 0 10 (dk_at dksX2_advances_6 14 rfl rfl)
theorem dX2_advances_160 : decode cX2_advances 160 = .ok (.aload_n 0, 1) := dk_42 (dk_at dksX2_advances_6 17 rfl rfl)
theorem dX2_advances_161 : decode cX2_advances 161 = .ok (.invokevirtual 63, 3) := dk_182 0 63 (dk_at dksX2_advances_6 18 rfl rfl)
theorem dX2_advances_164 : decode cX2_advances 164 = .ok (.goto 40, 3) := dk_167 0 40 (dk_at dksX2_advances_6 21 rfl rfl)
theorem dX2_advances_167 : decode cX2_advances 167 = .ok (.iload_n 1, 1) := dk_27 (dk_at dksX2_advances_7 0 rfl rfl)
theorem dX2_advances_168 : decode cX2_advances 168 = .ok (.bipush 59, 2) := dk_16 59 (dk_at dksX2_advances_7 1 rfl rfl)
theorem dX2_advances_170 : decode cX2_advances 170 = .ok (.if_icmp .ne 21, 3) := dk_160 0 21 (dk_at dksX2_advances_7 3 rfl rfl)
theorem dX2_advances_173 : decode cX2_advances 173 = .ok (.aload_n 0, 1) := dk_42 (dk_at dksX2_advances_7 6 rfl rfl)
theorem dX2_advances_174 : decode cX2_advances 174 = .ok (.iconst 1, 1) := dk_4 (dk_at dksX2_advances_7 7 rfl rfl)
theorem dX2_advances_175 : decode cX2_advances 175 = .ok (.putfield 44, 3) := dk_181 0 44 (dk_at dksX2_advances_7 8 rfl rfl)
theorem dX2_advances_178 : decode cX2_advances 178 = .ok (.aload_n 0, 1) := dk_42 (dk_at dksX2_advances_7 11 rfl rfl)
theorem dX2_advances_179 : decode cX2_advances 179 = .ok (.dup, 1) := dk_89 (dk_at dksX2_advances_7 12 rfl rfl)
theorem dX2_advances_180 : decode cX2_advances 180 = .ok (.getfield 31, 3) := dk_180 0 31 (dk_at dksX2_advances_7 13 rfl rfl)
theorem dX2_advances_183 : decode cX2_advances 183 = .ok (.iconst 1, 1) := dk_4 (dk_at dksX2_advances_7 16 rfl rfl)
theorem dX2_advances_184 : decode cX2_advances 184 = .ok (.iadd, 1) := dk_96 (dk_at dksX2_advances_7 17 rfl rfl)
theorem dX2_advances_185 : decode cX2_advances 185 = .ok (.putfield 31, 3) := dk_181 0 31 (dk_at dksX2_advances_7 18 rfl rfl)
theorem dX2_advances_188 : decode cX2_advances 188 = .ok (.goto 16, 3) := dk_167 0 16 (dk_at dksX2_advances_7 21 rfl rfl)
theorem dX2_advances_191 : decode cX2_advances 191 = .ok (.aload_n 0, 1) := dk_42 (dk_at dksX2_advances_8 0 rfl rfl)
theorem dX2_advances_192 : decode cX2_advances 192 = .ok (.iload_n 1, 1) := dk_27 (dk_at dksX2_advances_8 1 rfl rfl)
theorem dX2_advances_193 : decode cX2_advances 193 = .ok (.ifCond .ge 7, 3) := dk_156 0 7 (dk_at dksX2_advances_8 2 rfl rfl)
theorem dX2_advances_196 : decode cX2_advances 196 = .ok (.iconst 1, 1) := dk_4 (dk_at dksX2_advances_8 5 rfl rfl)
theorem dX2_advances_197 : decode cX2_advances 197 = .ok (.goto 4, 3) := dk_167 0 4 (dk_at dksX2_advances_8 6 rfl rfl)
theorem dX2_advances_200 : decode cX2_advances 200 = .ok (.iconst 0, 1) := dk_3 (dk_at dksX2_advances_8 9 rfl rfl)
theorem dX2_advances_201 : decode cX2_advances 201 = .ok (.invokevirtual 59, 3) := dk_182 0 59 (dk_at dksX2_advances_8 10 rfl rfl)
theorem dX2_advances_204 : decode cX2_advances 204 = .ok (.return_, 1) := dk_177 (dk_at dksX2_advances_8 13 rfl rfl)
abbrev cX2_at : ByteArray := prog_11_method_2_code
def yX2_at : MethodName := ⟨RX2, "at", "(I)I"⟩
def dkwX2_at_1 : List UInt8 := [167, 0, 4, 2, 172]
abbrev dktX2_at_1 : List UInt8 := dkwX2_at_1 ++ []
def dkwX2_at_0 : List UInt8 := [27, 42, 180, 0, 3, 180, 0, 15, 162, 0, 19, 42, 180, 0, 3, 180, 0, 19, 27, 51, 17, 0, 255, 126]
abbrev dktX2_at_0 : List UInt8 := dkwX2_at_0 ++ dktX2_at_1
theorem dksX2_at_0 : cX2_at.data.toList.drop 0 = dktX2_at_0 := by decide +kernel
theorem dksX2_at_1 : cX2_at.data.toList.drop 24 = dktX2_at_1 := dk_seg dksX2_at_0 24 rfl rfl
theorem dX2_at_0 : decode cX2_at 0 = .ok (.iload_n 1, 1) := dk_27 (dk_at dksX2_at_0 0 rfl rfl)
theorem dX2_at_1 : decode cX2_at 1 = .ok (.aload_n 0, 1) := dk_42 (dk_at dksX2_at_0 1 rfl rfl)
theorem dX2_at_2 : decode cX2_at 2 = .ok (.getfield 3, 3) := dk_180 0 3 (dk_at dksX2_at_0 2 rfl rfl)
theorem dX2_at_5 : decode cX2_at 5 = .ok (.getfield 15, 3) := dk_180 0 15 (dk_at dksX2_at_0 5 rfl rfl)
theorem dX2_at_8 : decode cX2_at 8 = .ok (.if_icmp .ge 19, 3) := dk_162 0 19 (dk_at dksX2_at_0 8 rfl rfl)
theorem dX2_at_11 : decode cX2_at 11 = .ok (.aload_n 0, 1) := dk_42 (dk_at dksX2_at_0 11 rfl rfl)
theorem dX2_at_12 : decode cX2_at 12 = .ok (.getfield 3, 3) := dk_180 0 3 (dk_at dksX2_at_0 12 rfl rfl)
theorem dX2_at_15 : decode cX2_at 15 = .ok (.getfield 19, 3) := dk_180 0 19 (dk_at dksX2_at_0 15 rfl rfl)
theorem dX2_at_18 : decode cX2_at 18 = .ok (.iload_n 1, 1) := dk_27 (dk_at dksX2_at_0 18 rfl rfl)
theorem dX2_at_19 : decode cX2_at 19 = .ok (.baload, 1) := dk_51 (dk_at dksX2_at_0 19 rfl rfl)
theorem dX2_at_20 : decode cX2_at 20 = .ok (.sipush 255, 3) := dk_17 0 255 (dk_at dksX2_at_0 20 rfl rfl)
theorem dX2_at_23 : decode cX2_at 23 = .ok (.iand, 1) := dk_126 (dk_at dksX2_at_0 23 rfl rfl)
theorem dX2_at_24 : decode cX2_at 24 = .ok (.goto 4, 3) := dk_167 0 4 (dk_at dksX2_at_1 0 rfl rfl)
theorem dX2_at_27 : decode cX2_at 27 = .ok (.iconst (-1), 1) := dk_2 (dk_at dksX2_at_1 3 rfl rfl)
theorem dX2_at_28 : decode cX2_at 28 = .ok (.ireturn, 1) := dk_172 (dk_at dksX2_at_1 4 rfl rfl)
abbrev cX2_wants : ByteArray := prog_11_method_3_code
def yX2_wants : MethodName := ⟨RX2, "wants", "(Z)V"⟩
def dkwX2_wants_0 : List UInt8 := [27, 154, 0, 15, 187, 0, 23, 89, 42, 180, 0, 25, 183, 0, 28, 191, 177]
abbrev dktX2_wants_0 : List UInt8 := dkwX2_wants_0 ++ []
theorem dksX2_wants_0 : cX2_wants.data.toList.drop 0 = dktX2_wants_0 := by decide +kernel
theorem dX2_wants_0 : decode cX2_wants 0 = .ok (.iload_n 1, 1) := dk_27 (dk_at dksX2_wants_0 0 rfl rfl)
theorem dX2_wants_1 : decode cX2_wants 1 = .ok (.ifCond .ne 15, 3) := dk_154 0 15 (dk_at dksX2_wants_0 1 rfl rfl)
theorem dX2_wants_4 : decode cX2_wants 4 = .ok (.new 23, 3) := dk_187 0 23 (dk_at dksX2_wants_0 4 rfl rfl)
theorem dX2_wants_7 : decode cX2_wants 7 = .ok (.dup, 1) := dk_89 (dk_at dksX2_wants_0 7 rfl rfl)
theorem dX2_wants_8 : decode cX2_wants 8 = .ok (.aload_n 0, 1) := dk_42 (dk_at dksX2_wants_0 8 rfl rfl)
theorem dX2_wants_9 : decode cX2_wants 9 = .ok (.getfield 25, 3) := dk_180 0 25 (dk_at dksX2_wants_0 9 rfl rfl)
theorem dX2_wants_12 : decode cX2_wants 12 = .ok (.invokespecial 28, 3) := dk_183 0 28 (dk_at dksX2_wants_0 12 rfl rfl)
theorem dX2_wants_15 : decode cX2_wants 15 = .ok (.athrow, 1) := dk_191 (dk_at dksX2_wants_0 15 rfl rfl)
theorem dX2_wants_16 : decode cX2_wants 16 = .ok (.return_, 1) := dk_177 (dk_at dksX2_wants_0 16 rfl rfl)
abbrev cX2_figures : ByteArray := prog_11_method_5_code
def yX2_figures : MethodName := ⟨RX2, "figures", "()V"⟩
def dkwX2_figures_4 : List UInt8 := [42, 27, 181, 0, 41, 177]
abbrev dktX2_figures_4 : List UInt8 := dkwX2_figures_4 ++ []
def dkwX2_figures_3 : List UInt8 := [159, 0, 16, 42, 42, 180, 0, 25, 182, 0, 34, 16, 48, 159, 0, 7, 4, 167, 0, 4, 3, 182, 0, 59]
abbrev dktX2_figures_3 : List UInt8 := dkwX2_figures_3 ++ dktX2_figures_4
def dkwX2_figures_2 : List UInt8 := [96, 181, 0, 31, 167, 255, 206, 42, 27, 16, 100, 162, 0, 33, 42, 180, 0, 31, 42, 180, 0, 25, 4, 96]
abbrev dktX2_figures_2 : List UInt8 := dkwX2_figures_2 ++ dktX2_figures_3
def dkwX2_figures_1 : List UInt8 := [27, 104, 42, 42, 180, 0, 31, 182, 0, 34, 96, 16, 48, 100, 184, 0, 66, 60, 42, 89, 180, 0, 31, 4]
abbrev dktX2_figures_1 : List UInt8 := dkwX2_figures_1 ++ dktX2_figures_2
def dkwX2_figures_0 : List UInt8 := [3, 60, 42, 42, 180, 0, 31, 182, 0, 34, 16, 48, 16, 57, 184, 0, 48, 153, 0, 38, 16, 100, 16, 10]
abbrev dktX2_figures_0 : List UInt8 := dkwX2_figures_0 ++ dktX2_figures_1
theorem dksX2_figures_0 : cX2_figures.data.toList.drop 0 = dktX2_figures_0 := by decide +kernel
theorem dksX2_figures_1 : cX2_figures.data.toList.drop 24 = dktX2_figures_1 := dk_seg dksX2_figures_0 24 rfl rfl
theorem dksX2_figures_2 : cX2_figures.data.toList.drop 48 = dktX2_figures_2 := dk_seg dksX2_figures_1 24 rfl rfl
theorem dksX2_figures_3 : cX2_figures.data.toList.drop 72 = dktX2_figures_3 := dk_seg dksX2_figures_2 24 rfl rfl
theorem dksX2_figures_4 : cX2_figures.data.toList.drop 96 = dktX2_figures_4 := dk_seg dksX2_figures_3 24 rfl rfl
theorem dX2_figures_0 : decode cX2_figures 0 = .ok (.iconst 0, 1) := dk_3 (dk_at dksX2_figures_0 0 rfl rfl)
theorem dX2_figures_1 : decode cX2_figures 1 = .ok (.istore_n 1, 1) := dk_60 (dk_at dksX2_figures_0 1 rfl rfl)
theorem dX2_figures_2 : decode cX2_figures 2 = .ok (.aload_n 0, 1) := dk_42 (dk_at dksX2_figures_0 2 rfl rfl)
theorem dX2_figures_3 : decode cX2_figures 3 = .ok (.aload_n 0, 1) := dk_42 (dk_at dksX2_figures_0 3 rfl rfl)
theorem dX2_figures_4 : decode cX2_figures 4 = .ok (.getfield 31, 3) := dk_180 0 31 (dk_at dksX2_figures_0 4 rfl rfl)
theorem dX2_figures_7 : decode cX2_figures 7 = .ok (.invokevirtual 34, 3) := dk_182 0 34 (dk_at dksX2_figures_0 7 rfl rfl)
theorem dX2_figures_10 : decode cX2_figures 10 = .ok (.bipush 48, 2) := dk_16 48 (dk_at dksX2_figures_0 10 rfl rfl)
theorem dX2_figures_12 : decode cX2_figures 12 = .ok (.bipush 57, 2) := dk_16 57 (dk_at dksX2_figures_0 12 rfl rfl)
theorem dX2_figures_14 : decode cX2_figures 14 = .ok (.invokestatic 48, 3) := dk_184 0 48 (dk_at dksX2_figures_0 14 rfl rfl)
theorem dX2_figures_17 : decode cX2_figures 17 = .ok (.ifCond .eq 38, 3) := dk_153 0 38 (dk_at dksX2_figures_0 17 rfl rfl)
theorem dX2_figures_20 : decode cX2_figures 20 = .ok (.bipush 100, 2) := dk_16 100 (dk_at dksX2_figures_0 20 rfl rfl)
theorem dX2_figures_22 : decode cX2_figures 22 = .ok (.bipush 10, 2) := dk_16 10 (dk_at dksX2_figures_0 22 rfl rfl)
theorem dX2_figures_24 : decode cX2_figures 24 = .ok (.iload_n 1, 1) := dk_27 (dk_at dksX2_figures_1 0 rfl rfl)
theorem dX2_figures_25 : decode cX2_figures 25 = .ok (.imul, 1) := dk_104 (dk_at dksX2_figures_1 1 rfl rfl)
theorem dX2_figures_26 : decode cX2_figures 26 = .ok (.aload_n 0, 1) := dk_42 (dk_at dksX2_figures_1 2 rfl rfl)
theorem dX2_figures_27 : decode cX2_figures 27 = .ok (.aload_n 0, 1) := dk_42 (dk_at dksX2_figures_1 3 rfl rfl)
theorem dX2_figures_28 : decode cX2_figures 28 = .ok (.getfield 31, 3) := dk_180 0 31 (dk_at dksX2_figures_1 4 rfl rfl)
theorem dX2_figures_31 : decode cX2_figures 31 = .ok (.invokevirtual 34, 3) := dk_182 0 34 (dk_at dksX2_figures_1 7 rfl rfl)
theorem dX2_figures_34 : decode cX2_figures 34 = .ok (.iadd, 1) := dk_96 (dk_at dksX2_figures_1 10 rfl rfl)
theorem dX2_figures_35 : decode cX2_figures 35 = .ok (.bipush 48, 2) := dk_16 48 (dk_at dksX2_figures_1 11 rfl rfl)
theorem dX2_figures_37 : decode cX2_figures 37 = .ok (.isub, 1) := dk_100 (dk_at dksX2_figures_1 13 rfl rfl)
theorem dX2_figures_38 : decode cX2_figures 38 = .ok (.invokestatic 66, 3) := dk_184 0 66 (dk_at dksX2_figures_1 14 rfl rfl)
theorem dX2_figures_41 : decode cX2_figures 41 = .ok (.istore_n 1, 1) := dk_60 (dk_at dksX2_figures_1 17 rfl rfl)
theorem dX2_figures_42 : decode cX2_figures 42 = .ok (.aload_n 0, 1) := dk_42 (dk_at dksX2_figures_1 18 rfl rfl)
theorem dX2_figures_43 : decode cX2_figures 43 = .ok (.dup, 1) := dk_89 (dk_at dksX2_figures_1 19 rfl rfl)
theorem dX2_figures_44 : decode cX2_figures 44 = .ok (.getfield 31, 3) := dk_180 0 31 (dk_at dksX2_figures_1 20 rfl rfl)
theorem dX2_figures_47 : decode cX2_figures 47 = .ok (.iconst 1, 1) := dk_4 (dk_at dksX2_figures_1 23 rfl rfl)
theorem dX2_figures_48 : decode cX2_figures 48 = .ok (.iadd, 1) := dk_96 (dk_at dksX2_figures_2 0 rfl rfl)
theorem dX2_figures_49 : decode cX2_figures 49 = .ok (.putfield 31, 3) := dk_181 0 31 (dk_at dksX2_figures_2 1 rfl rfl)
theorem dX2_figures_52 : decode cX2_figures 52 = .ok (.goto (-50), 3) := dk_167 255 206 (dk_at dksX2_figures_2 4 rfl rfl)
theorem dX2_figures_55 : decode cX2_figures 55 = .ok (.aload_n 0, 1) := dk_42 (dk_at dksX2_figures_2 7 rfl rfl)
theorem dX2_figures_56 : decode cX2_figures 56 = .ok (.iload_n 1, 1) := dk_27 (dk_at dksX2_figures_2 8 rfl rfl)
theorem dX2_figures_57 : decode cX2_figures 57 = .ok (.bipush 100, 2) := dk_16 100 (dk_at dksX2_figures_2 9 rfl rfl)
theorem dX2_figures_59 : decode cX2_figures 59 = .ok (.if_icmp .ge 33, 3) := dk_162 0 33 (dk_at dksX2_figures_2 11 rfl rfl)
theorem dX2_figures_62 : decode cX2_figures 62 = .ok (.aload_n 0, 1) := dk_42 (dk_at dksX2_figures_2 14 rfl rfl)
theorem dX2_figures_63 : decode cX2_figures 63 = .ok (.getfield 31, 3) := dk_180 0 31 (dk_at dksX2_figures_2 15 rfl rfl)
theorem dX2_figures_66 : decode cX2_figures 66 = .ok (.aload_n 0, 1) := dk_42 (dk_at dksX2_figures_2 18 rfl rfl)
theorem dX2_figures_67 : decode cX2_figures 67 = .ok (.getfield 25, 3) := dk_180 0 25 (dk_at dksX2_figures_2 19 rfl rfl)
theorem dX2_figures_70 : decode cX2_figures 70 = .ok (.iconst 1, 1) := dk_4 (dk_at dksX2_figures_2 22 rfl rfl)
theorem dX2_figures_71 : decode cX2_figures 71 = .ok (.iadd, 1) := dk_96 (dk_at dksX2_figures_2 23 rfl rfl)
theorem dX2_figures_72 : decode cX2_figures 72 = .ok (.if_icmp .eq 16, 3) := dk_159 0 16 (dk_at dksX2_figures_3 0 rfl rfl)
theorem dX2_figures_75 : decode cX2_figures 75 = .ok (.aload_n 0, 1) := dk_42 (dk_at dksX2_figures_3 3 rfl rfl)
theorem dX2_figures_76 : decode cX2_figures 76 = .ok (.aload_n 0, 1) := dk_42 (dk_at dksX2_figures_3 4 rfl rfl)
theorem dX2_figures_77 : decode cX2_figures 77 = .ok (.getfield 25, 3) := dk_180 0 25 (dk_at dksX2_figures_3 5 rfl rfl)
theorem dX2_figures_80 : decode cX2_figures 80 = .ok (.invokevirtual 34, 3) := dk_182 0 34 (dk_at dksX2_figures_3 8 rfl rfl)
theorem dX2_figures_83 : decode cX2_figures 83 = .ok (.bipush 48, 2) := dk_16 48 (dk_at dksX2_figures_3 11 rfl rfl)
theorem dX2_figures_85 : decode cX2_figures 85 = .ok (.if_icmp .eq 7, 3) := dk_159 0 7 (dk_at dksX2_figures_3 13 rfl rfl)
theorem dX2_figures_88 : decode cX2_figures 88 = .ok (.iconst 1, 1) := dk_4 (dk_at dksX2_figures_3 16 rfl rfl)
theorem dX2_figures_89 : decode cX2_figures 89 = .ok (.goto 4, 3) := dk_167 0 4 (dk_at dksX2_figures_3 17 rfl rfl)
theorem dX2_figures_92 : decode cX2_figures 92 = .ok (.iconst 0, 1) := dk_3 (dk_at dksX2_figures_3 20 rfl rfl)
theorem dX2_figures_93 : decode cX2_figures 93 = .ok (.invokevirtual 59, 3) := dk_182 0 59 (dk_at dksX2_figures_3 21 rfl rfl)
theorem dX2_figures_96 : decode cX2_figures 96 = .ok (.aload_n 0, 1) := dk_42 (dk_at dksX2_figures_4 0 rfl rfl)
theorem dX2_figures_97 : decode cX2_figures 97 = .ok (.iload_n 1, 1) := dk_27 (dk_at dksX2_figures_4 1 rfl rfl)
theorem dX2_figures_98 : decode cX2_figures 98 = .ok (.putfield 41, 3) := dk_181 0 41 (dk_at dksX2_figures_4 2 rfl rfl)
theorem dX2_figures_101 : decode cX2_figures 101 = .ok (.return_, 1) := dk_177 (dk_at dksX2_figures_4 5 rfl rfl)
abbrev cX2_mayBegin : ByteArray := prog_11_method_7_code
def yX2_mayBegin : MethodName := ⟨RX2, "mayBegin", "(I)Z"⟩
def dkwX2_mayBegin_4 : List UInt8 := [180, 0, 87, 16, 6, 162, 0, 7, 4, 167, 0, 4, 3, 172]
abbrev dktX2_mayBegin_4 : List UInt8 := dkwX2_mayBegin_4 ++ []
def dkwX2_mayBegin_3 : List UInt8 := [16, 9, 162, 0, 7, 4, 167, 0, 4, 3, 172, 27, 5, 160, 0, 22, 42, 180, 0, 3, 180, 0, 78]
abbrev dktX2_mayBegin_3 : List UInt8 := dkwX2_mayBegin_3 ++ dktX2_mayBegin_4
def dkwX2_mayBegin_2 : List UInt8 := [42, 180, 0, 75, 154, 0, 7, 4, 167, 0, 4, 3, 172, 42, 180, 0, 3, 180, 0, 78, 180, 0, 82]
abbrev dktX2_mayBegin_2 : List UInt8 := dkwX2_mayBegin_2 ++ dktX2_mayBegin_3
def dkwX2_mayBegin_1 : List UInt8 := [171, 0, 0, 0, 0, 0, 61, 0, 0, 0, 2, 0, 0, 0, 0, 0, 0, 0, 27, 0, 0, 0, 1, 0, 0, 0, 40]
abbrev dktX2_mayBegin_1 : List UInt8 := dkwX2_mayBegin_1 ++ dktX2_mayBegin_2
def dkwX2_mayBegin_0 : List UInt8 := [27]
abbrev dktX2_mayBegin_0 : List UInt8 := dkwX2_mayBegin_0 ++ dktX2_mayBegin_1
theorem dksX2_mayBegin_0 : cX2_mayBegin.data.toList.drop 0 = dktX2_mayBegin_0 := by decide +kernel
theorem dksX2_mayBegin_1 : cX2_mayBegin.data.toList.drop 1 = dktX2_mayBegin_1 := dk_seg dksX2_mayBegin_0 1 rfl rfl
theorem dksX2_mayBegin_2 : cX2_mayBegin.data.toList.drop 28 = dktX2_mayBegin_2 := dk_seg dksX2_mayBegin_1 27 rfl rfl
theorem dksX2_mayBegin_3 : cX2_mayBegin.data.toList.drop 51 = dktX2_mayBegin_3 := dk_seg dksX2_mayBegin_2 23 rfl rfl
theorem dksX2_mayBegin_4 : cX2_mayBegin.data.toList.drop 74 = dktX2_mayBegin_4 := dk_seg dksX2_mayBegin_3 23 rfl rfl
theorem dX2_mayBegin_0 : decode cX2_mayBegin 0 = .ok (.iload_n 1, 1) := dk_27 (dk_at dksX2_mayBegin_0 0 rfl rfl)
theorem dX2_mayBegin_1 : decode cX2_mayBegin 1 = .ok (.lookupswitch 61 #[(0, 27), (1, 40)], 27) := by decide +kernel
theorem dX2_mayBegin_28 : decode cX2_mayBegin 28 = .ok (.aload_n 0, 1) := dk_42 (dk_at dksX2_mayBegin_2 0 rfl rfl)
theorem dX2_mayBegin_29 : decode cX2_mayBegin 29 = .ok (.getfield 75, 3) := dk_180 0 75 (dk_at dksX2_mayBegin_2 1 rfl rfl)
theorem dX2_mayBegin_32 : decode cX2_mayBegin 32 = .ok (.ifCond .ne 7, 3) := dk_154 0 7 (dk_at dksX2_mayBegin_2 4 rfl rfl)
theorem dX2_mayBegin_35 : decode cX2_mayBegin 35 = .ok (.iconst 1, 1) := dk_4 (dk_at dksX2_mayBegin_2 7 rfl rfl)
theorem dX2_mayBegin_36 : decode cX2_mayBegin 36 = .ok (.goto 4, 3) := dk_167 0 4 (dk_at dksX2_mayBegin_2 8 rfl rfl)
theorem dX2_mayBegin_39 : decode cX2_mayBegin 39 = .ok (.iconst 0, 1) := dk_3 (dk_at dksX2_mayBegin_2 11 rfl rfl)
theorem dX2_mayBegin_40 : decode cX2_mayBegin 40 = .ok (.ireturn, 1) := dk_172 (dk_at dksX2_mayBegin_2 12 rfl rfl)
theorem dX2_mayBegin_41 : decode cX2_mayBegin 41 = .ok (.aload_n 0, 1) := dk_42 (dk_at dksX2_mayBegin_2 13 rfl rfl)
theorem dX2_mayBegin_42 : decode cX2_mayBegin 42 = .ok (.getfield 3, 3) := dk_180 0 3 (dk_at dksX2_mayBegin_2 14 rfl rfl)
theorem dX2_mayBegin_45 : decode cX2_mayBegin 45 = .ok (.getfield 78, 3) := dk_180 0 78 (dk_at dksX2_mayBegin_2 17 rfl rfl)
theorem dX2_mayBegin_48 : decode cX2_mayBegin 48 = .ok (.getfield 82, 3) := dk_180 0 82 (dk_at dksX2_mayBegin_2 20 rfl rfl)
theorem dX2_mayBegin_51 : decode cX2_mayBegin 51 = .ok (.bipush 9, 2) := dk_16 9 (dk_at dksX2_mayBegin_3 0 rfl rfl)
theorem dX2_mayBegin_53 : decode cX2_mayBegin 53 = .ok (.if_icmp .ge 7, 3) := dk_162 0 7 (dk_at dksX2_mayBegin_3 2 rfl rfl)
theorem dX2_mayBegin_56 : decode cX2_mayBegin 56 = .ok (.iconst 1, 1) := dk_4 (dk_at dksX2_mayBegin_3 5 rfl rfl)
theorem dX2_mayBegin_57 : decode cX2_mayBegin 57 = .ok (.goto 4, 3) := dk_167 0 4 (dk_at dksX2_mayBegin_3 6 rfl rfl)
theorem dX2_mayBegin_60 : decode cX2_mayBegin 60 = .ok (.iconst 0, 1) := dk_3 (dk_at dksX2_mayBegin_3 9 rfl rfl)
theorem dX2_mayBegin_61 : decode cX2_mayBegin 61 = .ok (.ireturn, 1) := dk_172 (dk_at dksX2_mayBegin_3 10 rfl rfl)
theorem dX2_mayBegin_62 : decode cX2_mayBegin 62 = .ok (.iload_n 1, 1) := dk_27 (dk_at dksX2_mayBegin_3 11 rfl rfl)
theorem dX2_mayBegin_63 : decode cX2_mayBegin 63 = .ok (.iconst 2, 1) := dk_5 (dk_at dksX2_mayBegin_3 12 rfl rfl)
theorem dX2_mayBegin_64 : decode cX2_mayBegin 64 = .ok (.if_icmp .ne 22, 3) := dk_160 0 22 (dk_at dksX2_mayBegin_3 13 rfl rfl)
theorem dX2_mayBegin_67 : decode cX2_mayBegin 67 = .ok (.aload_n 0, 1) := dk_42 (dk_at dksX2_mayBegin_3 16 rfl rfl)
theorem dX2_mayBegin_68 : decode cX2_mayBegin 68 = .ok (.getfield 3, 3) := dk_180 0 3 (dk_at dksX2_mayBegin_3 17 rfl rfl)
theorem dX2_mayBegin_71 : decode cX2_mayBegin 71 = .ok (.getfield 78, 3) := dk_180 0 78 (dk_at dksX2_mayBegin_3 20 rfl rfl)
theorem dX2_mayBegin_74 : decode cX2_mayBegin 74 = .ok (.getfield 87, 3) := dk_180 0 87 (dk_at dksX2_mayBegin_4 0 rfl rfl)
theorem dX2_mayBegin_77 : decode cX2_mayBegin 77 = .ok (.bipush 6, 2) := dk_16 6 (dk_at dksX2_mayBegin_4 3 rfl rfl)
theorem dX2_mayBegin_79 : decode cX2_mayBegin 79 = .ok (.if_icmp .ge 7, 3) := dk_162 0 7 (dk_at dksX2_mayBegin_4 5 rfl rfl)
theorem dX2_mayBegin_82 : decode cX2_mayBegin 82 = .ok (.iconst 1, 1) := dk_4 (dk_at dksX2_mayBegin_4 8 rfl rfl)
theorem dX2_mayBegin_83 : decode cX2_mayBegin 83 = .ok (.goto 4, 3) := dk_167 0 4 (dk_at dksX2_mayBegin_4 9 rfl rfl)
theorem dX2_mayBegin_86 : decode cX2_mayBegin 86 = .ok (.iconst 0, 1) := dk_3 (dk_at dksX2_mayBegin_4 12 rfl rfl)
theorem dX2_mayBegin_87 : decode cX2_mayBegin 87 = .ok (.ireturn, 1) := dk_172 (dk_at dksX2_mayBegin_4 13 rfl rfl)
abbrev cX2_item : ByteArray := prog_11_method_10_code
def yX2_item : MethodName := ⟨RX2, "item", "(I)V"⟩
def dkwX2_item_3 : List UInt8 := [167, 0, 7, 42, 182, 0, 114, 177]
abbrev dktX2_item_3 : List UInt8 := dkwX2_item_3 ++ []
def dkwX2_item_2 : List UInt8 := [42, 180, 0, 3, 180, 0, 78, 42, 5, 16, 8, 182, 0, 97, 181, 0, 94, 167, 0, 14, 42, 182, 0, 111]
abbrev dktX2_item_2 : List UInt8 := dkwX2_item_2 ++ dktX2_item_3
def dkwX2_item_1 : List UInt8 := [171, 0, 0, 0, 0, 0, 54, 0, 0, 0, 2, 0, 0, 0, 0, 0, 0, 0, 27, 0, 0, 0, 1, 0, 0, 0, 47]
abbrev dktX2_item_1 : List UInt8 := dkwX2_item_1 ++ dktX2_item_2
def dkwX2_item_0 : List UInt8 := [27]
abbrev dktX2_item_0 : List UInt8 := dkwX2_item_0 ++ dktX2_item_1
theorem dksX2_item_0 : cX2_item.data.toList.drop 0 = dktX2_item_0 := by decide +kernel
theorem dksX2_item_1 : cX2_item.data.toList.drop 1 = dktX2_item_1 := dk_seg dksX2_item_0 1 rfl rfl
theorem dksX2_item_2 : cX2_item.data.toList.drop 28 = dktX2_item_2 := dk_seg dksX2_item_1 27 rfl rfl
theorem dksX2_item_3 : cX2_item.data.toList.drop 52 = dktX2_item_3 := dk_seg dksX2_item_2 24 rfl rfl
theorem dX2_item_0 : decode cX2_item 0 = .ok (.iload_n 1, 1) := dk_27 (dk_at dksX2_item_0 0 rfl rfl)
theorem dX2_item_1 : decode cX2_item 1 = .ok (.lookupswitch 54 #[(0, 27), (1, 47)], 27) := by decide +kernel
theorem dX2_item_28 : decode cX2_item 28 = .ok (.aload_n 0, 1) := dk_42 (dk_at dksX2_item_2 0 rfl rfl)
theorem dX2_item_29 : decode cX2_item 29 = .ok (.getfield 3, 3) := dk_180 0 3 (dk_at dksX2_item_2 1 rfl rfl)
theorem dX2_item_32 : decode cX2_item 32 = .ok (.getfield 78, 3) := dk_180 0 78 (dk_at dksX2_item_2 4 rfl rfl)
theorem dX2_item_35 : decode cX2_item 35 = .ok (.aload_n 0, 1) := dk_42 (dk_at dksX2_item_2 7 rfl rfl)
theorem dX2_item_36 : decode cX2_item 36 = .ok (.iconst 2, 1) := dk_5 (dk_at dksX2_item_2 8 rfl rfl)
theorem dX2_item_37 : decode cX2_item 37 = .ok (.bipush 8, 2) := dk_16 8 (dk_at dksX2_item_2 9 rfl rfl)
theorem dX2_item_39 : decode cX2_item 39 = .ok (.invokevirtual 97, 3) := dk_182 0 97 (dk_at dksX2_item_2 11 rfl rfl)
theorem dX2_item_42 : decode cX2_item 42 = .ok (.putfield 94, 3) := dk_181 0 94 (dk_at dksX2_item_2 14 rfl rfl)
theorem dX2_item_45 : decode cX2_item 45 = .ok (.goto 14, 3) := dk_167 0 14 (dk_at dksX2_item_2 17 rfl rfl)
theorem dX2_item_48 : decode cX2_item 48 = .ok (.aload_n 0, 1) := dk_42 (dk_at dksX2_item_2 20 rfl rfl)
theorem dX2_item_49 : decode cX2_item 49 = .ok (.invokevirtual 111, 3) := dk_182 0 111 (dk_at dksX2_item_2 21 rfl rfl)
theorem dX2_item_52 : decode cX2_item 52 = .ok (.goto 7, 3) := dk_167 0 7 (dk_at dksX2_item_3 0 rfl rfl)
theorem dX2_item_55 : decode cX2_item 55 = .ok (.aload_n 0, 1) := dk_42 (dk_at dksX2_item_3 3 rfl rfl)
theorem dX2_item_56 : decode cX2_item 56 = .ok (.invokevirtual 114, 3) := dk_182 0 114 (dk_at dksX2_item_3 4 rfl rfl)
theorem dX2_item_59 : decode cX2_item 59 = .ok (.return_, 1) := dk_177 (dk_at dksX2_item_3 7 rfl rfl)
abbrev cX2_takes : ByteArray := prog_11_method_6_code
def yX2_takes : MethodName := ⟨RX2, "takes", "(II)I"⟩
def dkwX2_takes_1 : List UInt8 := [167, 0, 4, 3, 182, 0, 59, 42, 180, 0, 41, 62, 42, 182, 0, 72, 29, 172]
abbrev dktX2_takes_1 : List UInt8 := dkwX2_takes_1 ++ []
def dkwX2_takes_0 : List UInt8 := [42, 42, 180, 0, 41, 16, 247, 159, 0, 19, 42, 180, 0, 41, 27, 28, 184, 0, 48, 153, 0, 7, 4]
abbrev dktX2_takes_0 : List UInt8 := dkwX2_takes_0 ++ dktX2_takes_1
theorem dksX2_takes_0 : cX2_takes.data.toList.drop 0 = dktX2_takes_0 := by decide +kernel
theorem dksX2_takes_1 : cX2_takes.data.toList.drop 23 = dktX2_takes_1 := dk_seg dksX2_takes_0 23 rfl rfl
theorem dX2_takes_0 : decode cX2_takes 0 = .ok (.aload_n 0, 1) := dk_42 (dk_at dksX2_takes_0 0 rfl rfl)
theorem dX2_takes_1 : decode cX2_takes 1 = .ok (.aload_n 0, 1) := dk_42 (dk_at dksX2_takes_0 1 rfl rfl)
theorem dX2_takes_2 : decode cX2_takes 2 = .ok (.getfield 41, 3) := dk_180 0 41 (dk_at dksX2_takes_0 2 rfl rfl)
theorem dX2_takes_5 : decode cX2_takes 5 = .ok (.bipush (-9), 2) := dk_16 247 (dk_at dksX2_takes_0 5 rfl rfl)
theorem dX2_takes_7 : decode cX2_takes 7 = .ok (.if_icmp .eq 19, 3) := dk_159 0 19 (dk_at dksX2_takes_0 7 rfl rfl)
theorem dX2_takes_10 : decode cX2_takes 10 = .ok (.aload_n 0, 1) := dk_42 (dk_at dksX2_takes_0 10 rfl rfl)
theorem dX2_takes_11 : decode cX2_takes 11 = .ok (.getfield 41, 3) := dk_180 0 41 (dk_at dksX2_takes_0 11 rfl rfl)
theorem dX2_takes_14 : decode cX2_takes 14 = .ok (.iload_n 1, 1) := dk_27 (dk_at dksX2_takes_0 14 rfl rfl)
theorem dX2_takes_15 : decode cX2_takes 15 = .ok (.iload_n 2, 1) := dk_28 (dk_at dksX2_takes_0 15 rfl rfl)
theorem dX2_takes_16 : decode cX2_takes 16 = .ok (.invokestatic 48, 3) := dk_184 0 48 (dk_at dksX2_takes_0 16 rfl rfl)
theorem dX2_takes_19 : decode cX2_takes 19 = .ok (.ifCond .eq 7, 3) := dk_153 0 7 (dk_at dksX2_takes_0 19 rfl rfl)
theorem dX2_takes_22 : decode cX2_takes 22 = .ok (.iconst 1, 1) := dk_4 (dk_at dksX2_takes_0 22 rfl rfl)
theorem dX2_takes_23 : decode cX2_takes 23 = .ok (.goto 4, 3) := dk_167 0 4 (dk_at dksX2_takes_1 0 rfl rfl)
theorem dX2_takes_26 : decode cX2_takes 26 = .ok (.iconst 0, 1) := dk_3 (dk_at dksX2_takes_1 3 rfl rfl)
theorem dX2_takes_27 : decode cX2_takes 27 = .ok (.invokevirtual 59, 3) := dk_182 0 59 (dk_at dksX2_takes_1 4 rfl rfl)
theorem dX2_takes_30 : decode cX2_takes 30 = .ok (.aload_n 0, 1) := dk_42 (dk_at dksX2_takes_1 7 rfl rfl)
theorem dX2_takes_31 : decode cX2_takes 31 = .ok (.getfield 41, 3) := dk_180 0 41 (dk_at dksX2_takes_1 8 rfl rfl)
theorem dX2_takes_34 : decode cX2_takes 34 = .ok (.istore_n 3, 1) := dk_62 (dk_at dksX2_takes_1 11 rfl rfl)
theorem dX2_takes_35 : decode cX2_takes 35 = .ok (.aload_n 0, 1) := dk_42 (dk_at dksX2_takes_1 12 rfl rfl)
theorem dX2_takes_36 : decode cX2_takes 36 = .ok (.invokevirtual 72, 3) := dk_182 0 72 (dk_at dksX2_takes_1 13 rfl rfl)
theorem dX2_takes_39 : decode cX2_takes 39 = .ok (.iload_n 3, 1) := dk_29 (dk_at dksX2_takes_1 16 rfl rfl)
theorem dX2_takes_40 : decode cX2_takes 40 = .ok (.ireturn, 1) := dk_172 (dk_at dksX2_takes_1 17 rfl rfl)
abbrev cX2_street : ByteArray := prog_11_method_8_code
def yX2_street : MethodName := ⟨RX2, "street", "()V"⟩
def dkwX2_street_5 : List UInt8 := [180, 0, 3, 180, 0, 78, 89, 180, 0, 82, 4, 96, 181, 0, 82, 177]
abbrev dktX2_street_5 : List UInt8 := dkwX2_street_5 ++ []
def dkwX2_street_4 : List UInt8 := [182, 0, 97, 79, 42, 180, 0, 3, 180, 0, 78, 180, 0, 103, 27, 42, 3, 16, 9, 182, 0, 97, 79, 42]
abbrev dktX2_street_4 : List UInt8 := dkwX2_street_4 ++ dktX2_street_5
def dkwX2_street_3 : List UInt8 := [180, 0, 3, 180, 0, 78, 180, 0, 100, 27, 42, 3, 42, 180, 0, 3, 180, 0, 78, 180, 0, 94, 4, 100]
abbrev dktX2_street_3 : List UInt8 := dkwX2_street_3 ++ dktX2_street_4
def dkwX2_street_2 : List UInt8 := [180, 0, 3, 180, 0, 78, 180, 0, 90, 27, 46, 159, 0, 7, 4, 167, 0, 4, 3, 182, 0, 59, 42]
abbrev dktX2_street_2 : List UInt8 := dkwX2_street_2 ++ dktX2_street_3
def dkwX2_street_1 : List UInt8 := [42, 180, 0, 3, 180, 0, 78, 180, 0, 94, 4, 100, 182, 0, 97, 79, 42, 42, 180, 0, 41, 42]
abbrev dktX2_street_1 : List UInt8 := dkwX2_street_1 ++ dktX2_street_2
def dkwX2_street_0 : List UInt8 := [42, 180, 0, 3, 180, 0, 78, 180, 0, 82, 60, 42, 180, 0, 3, 180, 0, 78, 180, 0, 90, 27, 42, 3]
abbrev dktX2_street_0 : List UInt8 := dkwX2_street_0 ++ dktX2_street_1
theorem dksX2_street_0 : cX2_street.data.toList.drop 0 = dktX2_street_0 := by decide +kernel
theorem dksX2_street_1 : cX2_street.data.toList.drop 24 = dktX2_street_1 := dk_seg dksX2_street_0 24 rfl rfl
theorem dksX2_street_2 : cX2_street.data.toList.drop 46 = dktX2_street_2 := dk_seg dksX2_street_1 22 rfl rfl
theorem dksX2_street_3 : cX2_street.data.toList.drop 69 = dktX2_street_3 := dk_seg dksX2_street_2 23 rfl rfl
theorem dksX2_street_4 : cX2_street.data.toList.drop 93 = dktX2_street_4 := dk_seg dksX2_street_3 24 rfl rfl
theorem dksX2_street_5 : cX2_street.data.toList.drop 117 = dktX2_street_5 := dk_seg dksX2_street_4 24 rfl rfl
theorem dX2_street_0 : decode cX2_street 0 = .ok (.aload_n 0, 1) := dk_42 (dk_at dksX2_street_0 0 rfl rfl)
theorem dX2_street_1 : decode cX2_street 1 = .ok (.getfield 3, 3) := dk_180 0 3 (dk_at dksX2_street_0 1 rfl rfl)
theorem dX2_street_4 : decode cX2_street 4 = .ok (.getfield 78, 3) := dk_180 0 78 (dk_at dksX2_street_0 4 rfl rfl)
theorem dX2_street_7 : decode cX2_street 7 = .ok (.getfield 82, 3) := dk_180 0 82 (dk_at dksX2_street_0 7 rfl rfl)
theorem dX2_street_10 : decode cX2_street 10 = .ok (.istore_n 1, 1) := dk_60 (dk_at dksX2_street_0 10 rfl rfl)
theorem dX2_street_11 : decode cX2_street 11 = .ok (.aload_n 0, 1) := dk_42 (dk_at dksX2_street_0 11 rfl rfl)
theorem dX2_street_12 : decode cX2_street 12 = .ok (.getfield 3, 3) := dk_180 0 3 (dk_at dksX2_street_0 12 rfl rfl)
theorem dX2_street_15 : decode cX2_street 15 = .ok (.getfield 78, 3) := dk_180 0 78 (dk_at dksX2_street_0 15 rfl rfl)
theorem dX2_street_18 : decode cX2_street 18 = .ok (.getfield 90, 3) := dk_180 0 90 (dk_at dksX2_street_0 18 rfl rfl)
theorem dX2_street_21 : decode cX2_street 21 = .ok (.iload_n 1, 1) := dk_27 (dk_at dksX2_street_0 21 rfl rfl)
theorem dX2_street_22 : decode cX2_street 22 = .ok (.aload_n 0, 1) := dk_42 (dk_at dksX2_street_0 22 rfl rfl)
theorem dX2_street_23 : decode cX2_street 23 = .ok (.iconst 0, 1) := dk_3 (dk_at dksX2_street_0 23 rfl rfl)
theorem dX2_street_24 : decode cX2_street 24 = .ok (.aload_n 0, 1) := dk_42 (dk_at dksX2_street_1 0 rfl rfl)
theorem dX2_street_25 : decode cX2_street 25 = .ok (.getfield 3, 3) := dk_180 0 3 (dk_at dksX2_street_1 1 rfl rfl)
theorem dX2_street_28 : decode cX2_street 28 = .ok (.getfield 78, 3) := dk_180 0 78 (dk_at dksX2_street_1 4 rfl rfl)
theorem dX2_street_31 : decode cX2_street 31 = .ok (.getfield 94, 3) := dk_180 0 94 (dk_at dksX2_street_1 7 rfl rfl)
theorem dX2_street_34 : decode cX2_street 34 = .ok (.iconst 1, 1) := dk_4 (dk_at dksX2_street_1 10 rfl rfl)
theorem dX2_street_35 : decode cX2_street 35 = .ok (.isub, 1) := dk_100 (dk_at dksX2_street_1 11 rfl rfl)
theorem dX2_street_36 : decode cX2_street 36 = .ok (.invokevirtual 97, 3) := dk_182 0 97 (dk_at dksX2_street_1 12 rfl rfl)
theorem dX2_street_39 : decode cX2_street 39 = .ok (.iastore, 1) := dk_79 (dk_at dksX2_street_1 15 rfl rfl)
theorem dX2_street_40 : decode cX2_street 40 = .ok (.aload_n 0, 1) := dk_42 (dk_at dksX2_street_1 16 rfl rfl)
theorem dX2_street_41 : decode cX2_street 41 = .ok (.aload_n 0, 1) := dk_42 (dk_at dksX2_street_1 17 rfl rfl)
theorem dX2_street_42 : decode cX2_street 42 = .ok (.getfield 41, 3) := dk_180 0 41 (dk_at dksX2_street_1 18 rfl rfl)
theorem dX2_street_45 : decode cX2_street 45 = .ok (.aload_n 0, 1) := dk_42 (dk_at dksX2_street_1 21 rfl rfl)
theorem dX2_street_46 : decode cX2_street 46 = .ok (.getfield 3, 3) := dk_180 0 3 (dk_at dksX2_street_2 0 rfl rfl)
theorem dX2_street_49 : decode cX2_street 49 = .ok (.getfield 78, 3) := dk_180 0 78 (dk_at dksX2_street_2 3 rfl rfl)
theorem dX2_street_52 : decode cX2_street 52 = .ok (.getfield 90, 3) := dk_180 0 90 (dk_at dksX2_street_2 6 rfl rfl)
theorem dX2_street_55 : decode cX2_street 55 = .ok (.iload_n 1, 1) := dk_27 (dk_at dksX2_street_2 9 rfl rfl)
theorem dX2_street_56 : decode cX2_street 56 = .ok (.iaload, 1) := dk_46 (dk_at dksX2_street_2 10 rfl rfl)
theorem dX2_street_57 : decode cX2_street 57 = .ok (.if_icmp .eq 7, 3) := dk_159 0 7 (dk_at dksX2_street_2 11 rfl rfl)
theorem dX2_street_60 : decode cX2_street 60 = .ok (.iconst 1, 1) := dk_4 (dk_at dksX2_street_2 14 rfl rfl)
theorem dX2_street_61 : decode cX2_street 61 = .ok (.goto 4, 3) := dk_167 0 4 (dk_at dksX2_street_2 15 rfl rfl)
theorem dX2_street_64 : decode cX2_street 64 = .ok (.iconst 0, 1) := dk_3 (dk_at dksX2_street_2 18 rfl rfl)
theorem dX2_street_65 : decode cX2_street 65 = .ok (.invokevirtual 59, 3) := dk_182 0 59 (dk_at dksX2_street_2 19 rfl rfl)
theorem dX2_street_68 : decode cX2_street 68 = .ok (.aload_n 0, 1) := dk_42 (dk_at dksX2_street_2 22 rfl rfl)
theorem dX2_street_69 : decode cX2_street 69 = .ok (.getfield 3, 3) := dk_180 0 3 (dk_at dksX2_street_3 0 rfl rfl)
theorem dX2_street_72 : decode cX2_street 72 = .ok (.getfield 78, 3) := dk_180 0 78 (dk_at dksX2_street_3 3 rfl rfl)
theorem dX2_street_75 : decode cX2_street 75 = .ok (.getfield 100, 3) := dk_180 0 100 (dk_at dksX2_street_3 6 rfl rfl)
theorem dX2_street_78 : decode cX2_street 78 = .ok (.iload_n 1, 1) := dk_27 (dk_at dksX2_street_3 9 rfl rfl)
theorem dX2_street_79 : decode cX2_street 79 = .ok (.aload_n 0, 1) := dk_42 (dk_at dksX2_street_3 10 rfl rfl)
theorem dX2_street_80 : decode cX2_street 80 = .ok (.iconst 0, 1) := dk_3 (dk_at dksX2_street_3 11 rfl rfl)
theorem dX2_street_81 : decode cX2_street 81 = .ok (.aload_n 0, 1) := dk_42 (dk_at dksX2_street_3 12 rfl rfl)
theorem dX2_street_82 : decode cX2_street 82 = .ok (.getfield 3, 3) := dk_180 0 3 (dk_at dksX2_street_3 13 rfl rfl)
theorem dX2_street_85 : decode cX2_street 85 = .ok (.getfield 78, 3) := dk_180 0 78 (dk_at dksX2_street_3 16 rfl rfl)
theorem dX2_street_88 : decode cX2_street 88 = .ok (.getfield 94, 3) := dk_180 0 94 (dk_at dksX2_street_3 19 rfl rfl)
theorem dX2_street_91 : decode cX2_street 91 = .ok (.iconst 1, 1) := dk_4 (dk_at dksX2_street_3 22 rfl rfl)
theorem dX2_street_92 : decode cX2_street 92 = .ok (.isub, 1) := dk_100 (dk_at dksX2_street_3 23 rfl rfl)
theorem dX2_street_93 : decode cX2_street 93 = .ok (.invokevirtual 97, 3) := dk_182 0 97 (dk_at dksX2_street_4 0 rfl rfl)
theorem dX2_street_96 : decode cX2_street 96 = .ok (.iastore, 1) := dk_79 (dk_at dksX2_street_4 3 rfl rfl)
theorem dX2_street_97 : decode cX2_street 97 = .ok (.aload_n 0, 1) := dk_42 (dk_at dksX2_street_4 4 rfl rfl)
theorem dX2_street_98 : decode cX2_street 98 = .ok (.getfield 3, 3) := dk_180 0 3 (dk_at dksX2_street_4 5 rfl rfl)
theorem dX2_street_101 : decode cX2_street 101 = .ok (.getfield 78, 3) := dk_180 0 78 (dk_at dksX2_street_4 8 rfl rfl)
theorem dX2_street_104 : decode cX2_street 104 = .ok (.getfield 103, 3) := dk_180 0 103 (dk_at dksX2_street_4 11 rfl rfl)
theorem dX2_street_107 : decode cX2_street 107 = .ok (.iload_n 1, 1) := dk_27 (dk_at dksX2_street_4 14 rfl rfl)
theorem dX2_street_108 : decode cX2_street 108 = .ok (.aload_n 0, 1) := dk_42 (dk_at dksX2_street_4 15 rfl rfl)
theorem dX2_street_109 : decode cX2_street 109 = .ok (.iconst 0, 1) := dk_3 (dk_at dksX2_street_4 16 rfl rfl)
theorem dX2_street_110 : decode cX2_street 110 = .ok (.bipush 9, 2) := dk_16 9 (dk_at dksX2_street_4 17 rfl rfl)
theorem dX2_street_112 : decode cX2_street 112 = .ok (.invokevirtual 97, 3) := dk_182 0 97 (dk_at dksX2_street_4 19 rfl rfl)
theorem dX2_street_115 : decode cX2_street 115 = .ok (.iastore, 1) := dk_79 (dk_at dksX2_street_4 22 rfl rfl)
theorem dX2_street_116 : decode cX2_street 116 = .ok (.aload_n 0, 1) := dk_42 (dk_at dksX2_street_4 23 rfl rfl)
theorem dX2_street_117 : decode cX2_street 117 = .ok (.getfield 3, 3) := dk_180 0 3 (dk_at dksX2_street_5 0 rfl rfl)
theorem dX2_street_120 : decode cX2_street 120 = .ok (.getfield 78, 3) := dk_180 0 78 (dk_at dksX2_street_5 3 rfl rfl)
theorem dX2_street_123 : decode cX2_street 123 = .ok (.dup, 1) := dk_89 (dk_at dksX2_street_5 6 rfl rfl)
theorem dX2_street_124 : decode cX2_street 124 = .ok (.getfield 82, 3) := dk_180 0 82 (dk_at dksX2_street_5 7 rfl rfl)
theorem dX2_street_127 : decode cX2_street 127 = .ok (.iconst 1, 1) := dk_4 (dk_at dksX2_street_5 10 rfl rfl)
theorem dX2_street_128 : decode cX2_street 128 = .ok (.iadd, 1) := dk_96 (dk_at dksX2_street_5 11 rfl rfl)
theorem dX2_street_129 : decode cX2_street 129 = .ok (.putfield 82, 3) := dk_181 0 82 (dk_at dksX2_street_5 12 rfl rfl)
theorem dX2_street_132 : decode cX2_street 132 = .ok (.return_, 1) := dk_177 (dk_at dksX2_street_5 15 rfl rfl)
abbrev cX2_citizen : ByteArray := prog_11_method_9_code
def yX2_citizen : MethodName := ⟨RX2, "citizen", "()V"⟩
def dkwX2_citizen_3 : List UInt8 := [180, 0, 3, 180, 0, 78, 89, 180, 0, 87, 4, 96, 181, 0, 87, 177]
abbrev dktX2_citizen_3 : List UInt8 := dkwX2_citizen_3 ++ []
def dkwX2_citizen_2 : List UInt8 := [180, 0, 109, 42, 180, 0, 3, 180, 0, 78, 180, 0, 87, 42, 4, 16, 10, 182, 0, 97, 79, 42]
abbrev dktX2_citizen_2 : List UInt8 := dkwX2_citizen_2 ++ dktX2_citizen_3
def dkwX2_citizen_1 : List UInt8 := [180, 0, 3, 180, 0, 78, 180, 0, 82, 4, 100, 182, 0, 97, 79, 42, 180, 0, 3, 180, 0, 78]
abbrev dktX2_citizen_1 : List UInt8 := dkwX2_citizen_1 ++ dktX2_citizen_2
def dkwX2_citizen_0 : List UInt8 := [42, 180, 0, 3, 180, 0, 78, 180, 0, 106, 42, 180, 0, 3, 180, 0, 78, 180, 0, 87, 42, 3, 42]
abbrev dktX2_citizen_0 : List UInt8 := dkwX2_citizen_0 ++ dktX2_citizen_1
theorem dksX2_citizen_0 : cX2_citizen.data.toList.drop 0 = dktX2_citizen_0 := by decide +kernel
theorem dksX2_citizen_1 : cX2_citizen.data.toList.drop 23 = dktX2_citizen_1 := dk_seg dksX2_citizen_0 23 rfl rfl
theorem dksX2_citizen_2 : cX2_citizen.data.toList.drop 45 = dktX2_citizen_2 := dk_seg dksX2_citizen_1 22 rfl rfl
theorem dksX2_citizen_3 : cX2_citizen.data.toList.drop 67 = dktX2_citizen_3 := dk_seg dksX2_citizen_2 22 rfl rfl
theorem dX2_citizen_0 : decode cX2_citizen 0 = .ok (.aload_n 0, 1) := dk_42 (dk_at dksX2_citizen_0 0 rfl rfl)
theorem dX2_citizen_1 : decode cX2_citizen 1 = .ok (.getfield 3, 3) := dk_180 0 3 (dk_at dksX2_citizen_0 1 rfl rfl)
theorem dX2_citizen_4 : decode cX2_citizen 4 = .ok (.getfield 78, 3) := dk_180 0 78 (dk_at dksX2_citizen_0 4 rfl rfl)
theorem dX2_citizen_7 : decode cX2_citizen 7 = .ok (.getfield 106, 3) := dk_180 0 106 (dk_at dksX2_citizen_0 7 rfl rfl)
theorem dX2_citizen_10 : decode cX2_citizen 10 = .ok (.aload_n 0, 1) := dk_42 (dk_at dksX2_citizen_0 10 rfl rfl)
theorem dX2_citizen_11 : decode cX2_citizen 11 = .ok (.getfield 3, 3) := dk_180 0 3 (dk_at dksX2_citizen_0 11 rfl rfl)
theorem dX2_citizen_14 : decode cX2_citizen 14 = .ok (.getfield 78, 3) := dk_180 0 78 (dk_at dksX2_citizen_0 14 rfl rfl)
theorem dX2_citizen_17 : decode cX2_citizen 17 = .ok (.getfield 87, 3) := dk_180 0 87 (dk_at dksX2_citizen_0 17 rfl rfl)
theorem dX2_citizen_20 : decode cX2_citizen 20 = .ok (.aload_n 0, 1) := dk_42 (dk_at dksX2_citizen_0 20 rfl rfl)
theorem dX2_citizen_21 : decode cX2_citizen 21 = .ok (.iconst 0, 1) := dk_3 (dk_at dksX2_citizen_0 21 rfl rfl)
theorem dX2_citizen_22 : decode cX2_citizen 22 = .ok (.aload_n 0, 1) := dk_42 (dk_at dksX2_citizen_0 22 rfl rfl)
theorem dX2_citizen_23 : decode cX2_citizen 23 = .ok (.getfield 3, 3) := dk_180 0 3 (dk_at dksX2_citizen_1 0 rfl rfl)
theorem dX2_citizen_26 : decode cX2_citizen 26 = .ok (.getfield 78, 3) := dk_180 0 78 (dk_at dksX2_citizen_1 3 rfl rfl)
theorem dX2_citizen_29 : decode cX2_citizen 29 = .ok (.getfield 82, 3) := dk_180 0 82 (dk_at dksX2_citizen_1 6 rfl rfl)
theorem dX2_citizen_32 : decode cX2_citizen 32 = .ok (.iconst 1, 1) := dk_4 (dk_at dksX2_citizen_1 9 rfl rfl)
theorem dX2_citizen_33 : decode cX2_citizen 33 = .ok (.isub, 1) := dk_100 (dk_at dksX2_citizen_1 10 rfl rfl)
theorem dX2_citizen_34 : decode cX2_citizen 34 = .ok (.invokevirtual 97, 3) := dk_182 0 97 (dk_at dksX2_citizen_1 11 rfl rfl)
theorem dX2_citizen_37 : decode cX2_citizen 37 = .ok (.iastore, 1) := dk_79 (dk_at dksX2_citizen_1 14 rfl rfl)
theorem dX2_citizen_38 : decode cX2_citizen 38 = .ok (.aload_n 0, 1) := dk_42 (dk_at dksX2_citizen_1 15 rfl rfl)
theorem dX2_citizen_39 : decode cX2_citizen 39 = .ok (.getfield 3, 3) := dk_180 0 3 (dk_at dksX2_citizen_1 16 rfl rfl)
theorem dX2_citizen_42 : decode cX2_citizen 42 = .ok (.getfield 78, 3) := dk_180 0 78 (dk_at dksX2_citizen_1 19 rfl rfl)
theorem dX2_citizen_45 : decode cX2_citizen 45 = .ok (.getfield 109, 3) := dk_180 0 109 (dk_at dksX2_citizen_2 0 rfl rfl)
theorem dX2_citizen_48 : decode cX2_citizen 48 = .ok (.aload_n 0, 1) := dk_42 (dk_at dksX2_citizen_2 3 rfl rfl)
theorem dX2_citizen_49 : decode cX2_citizen 49 = .ok (.getfield 3, 3) := dk_180 0 3 (dk_at dksX2_citizen_2 4 rfl rfl)
theorem dX2_citizen_52 : decode cX2_citizen 52 = .ok (.getfield 78, 3) := dk_180 0 78 (dk_at dksX2_citizen_2 7 rfl rfl)
theorem dX2_citizen_55 : decode cX2_citizen 55 = .ok (.getfield 87, 3) := dk_180 0 87 (dk_at dksX2_citizen_2 10 rfl rfl)
theorem dX2_citizen_58 : decode cX2_citizen 58 = .ok (.aload_n 0, 1) := dk_42 (dk_at dksX2_citizen_2 13 rfl rfl)
theorem dX2_citizen_59 : decode cX2_citizen 59 = .ok (.iconst 1, 1) := dk_4 (dk_at dksX2_citizen_2 14 rfl rfl)
theorem dX2_citizen_60 : decode cX2_citizen 60 = .ok (.bipush 10, 2) := dk_16 10 (dk_at dksX2_citizen_2 15 rfl rfl)
theorem dX2_citizen_62 : decode cX2_citizen 62 = .ok (.invokevirtual 97, 3) := dk_182 0 97 (dk_at dksX2_citizen_2 17 rfl rfl)
theorem dX2_citizen_65 : decode cX2_citizen 65 = .ok (.iastore, 1) := dk_79 (dk_at dksX2_citizen_2 20 rfl rfl)
theorem dX2_citizen_66 : decode cX2_citizen 66 = .ok (.aload_n 0, 1) := dk_42 (dk_at dksX2_citizen_2 21 rfl rfl)
theorem dX2_citizen_67 : decode cX2_citizen 67 = .ok (.getfield 3, 3) := dk_180 0 3 (dk_at dksX2_citizen_3 0 rfl rfl)
theorem dX2_citizen_70 : decode cX2_citizen 70 = .ok (.getfield 78, 3) := dk_180 0 78 (dk_at dksX2_citizen_3 3 rfl rfl)
theorem dX2_citizen_73 : decode cX2_citizen 73 = .ok (.dup, 1) := dk_89 (dk_at dksX2_citizen_3 6 rfl rfl)
theorem dX2_citizen_74 : decode cX2_citizen 74 = .ok (.getfield 87, 3) := dk_180 0 87 (dk_at dksX2_citizen_3 7 rfl rfl)
theorem dX2_citizen_77 : decode cX2_citizen 77 = .ok (.iconst 1, 1) := dk_4 (dk_at dksX2_citizen_3 10 rfl rfl)
theorem dX2_citizen_78 : decode cX2_citizen 78 = .ok (.iadd, 1) := dk_96 (dk_at dksX2_citizen_3 11 rfl rfl)
theorem dX2_citizen_79 : decode cX2_citizen 79 = .ok (.putfield 87, 3) := dk_181 0 87 (dk_at dksX2_citizen_3 12 rfl rfl)
theorem dX2_citizen_82 : decode cX2_citizen 82 = .ok (.return_, 1) := dk_177 (dk_at dksX2_citizen_3 15 rfl rfl)
abbrev cX2_init : ByteArray := prog_11_method_1_code
def yX2_init : MethodName := ⟨RX2, "<init>", "(LKindStreets;)V"⟩
def dkwX2_init_0 : List UInt8 := [42, 43, 181, 0, 3, 42, 183, 0, 9, 177]
abbrev dktX2_init_0 : List UInt8 := dkwX2_init_0 ++ []
theorem dksX2_init_0 : cX2_init.data.toList.drop 0 = dktX2_init_0 := by decide +kernel
theorem dX2_init_0 : decode cX2_init 0 = .ok (.aload_n 0, 1) := dk_42 (dk_at dksX2_init_0 0 rfl rfl)
theorem dX2_init_1 : decode cX2_init 1 = .ok (.aload_n 1, 1) := dk_43 (dk_at dksX2_init_0 1 rfl rfl)
theorem dX2_init_2 : decode cX2_init 2 = .ok (.putfield 3, 3) := dk_181 0 3 (dk_at dksX2_init_0 2 rfl rfl)
theorem dX2_init_5 : decode cX2_init 5 = .ok (.aload_n 0, 1) := dk_42 (dk_at dksX2_init_0 5 rfl rfl)
theorem dX2_init_6 : decode cX2_init 6 = .ok (.invokespecial 9, 3) := dk_183 0 9 (dk_at dksX2_init_0 6 rfl rfl)
theorem dX2_init_9 : decode cX2_init 9 = .ok (.return_, 1) := dk_177 (dk_at dksX2_init_0 9 rfl rfl)
theorem q56 : (Jvm.Cond.initialized "KindStreets$Reader") ∈ lw_all := lw_g (lw_at lw_m1 3 rfl) rfl
theorem q94 : (Jvm.Cond.instanceMethod ({ cls := "KindStreets$Reader", name := "all", desc := "()I" } : Jvm.MethodName)) ∈ lw_all := lw_g (lw_at lw_m1 41 rfl) rfl
theorem q95 : (Jvm.Cond.selects "KindStreets$Reader" ({ cls := "KindStreets$Reader", name := "all", desc := "()I" } : Jvm.MethodName) ({ cls := "KindStreets$Reader", name := "all", desc := "()I" } : Jvm.MethodName)) ∈ lw_all := lw_g (lw_at lw_m1 42 rfl) rfl
theorem q96 : (Jvm.Cond.code ({ cls := "KindStreets$Reader", name := "all", desc := "()I" } : Jvm.MethodName) prog_11_method_11_code (2 : Nat) (Option.some Jvm.ClassFile.FieldType.int)) ∈ lw_all := lw_g (lw_at lw_m1 43 rfl) rfl
theorem q97 : (Jvm.Cond.methodLink "KindStreets$Reader" (117 : Nat) ({ cls := "KindStreets$Town", name := "begins", desc := "()V" } : Jvm.MethodName)) ∈ lw_all := lw_g (lw_at lw_m1 44 rfl) rfl
theorem q101 : (Jvm.Cond.methodLink "KindStreets$Reader" (72 : Nat) ({ cls := "KindStreets$Reader", name := "advances", desc := "()V" } : Jvm.MethodName)) ∈ lw_all := lw_g (lw_at lw_m1 48 rfl) rfl
theorem q102 : (Jvm.Cond.privateMethod ({ cls := "KindStreets$Reader", name := "advances", desc := "()V" } : Jvm.MethodName)) ∈ lw_tbl := lw_at lw_m1 49 rfl
theorem q103 : (Jvm.Cond.instanceMethod ({ cls := "KindStreets$Reader", name := "advances", desc := "()V" } : Jvm.MethodName)) ∈ lw_all := lw_g (lw_at lw_m1 50 rfl) rfl
theorem q104 : (Jvm.Cond.instantiable "KindStreets$Reader" (7 : Nat)) ∈ lw_all := lw_g (lw_at lw_m1 51 rfl) rfl
theorem q105 : (Jvm.Cond.code ({ cls := "KindStreets$Reader", name := "advances", desc := "()V" } : Jvm.MethodName) prog_11_method_4_code (2 : Nat) (Option.none : Option Jvm.ClassFile.FieldType)) ∈ lw_all := lw_g (lw_at lw_m1 52 rfl) rfl
theorem q106 : (Jvm.Cond.methodLink "KindStreets$Reader" (34 : Nat) ({ cls := "KindStreets$Reader", name := "at", desc := "(I)I" } : Jvm.MethodName)) ∈ lw_all := lw_g (lw_at lw_m1 53 rfl) rfl
theorem q107 : (Jvm.Cond.privateMethod ({ cls := "KindStreets$Reader", name := "at", desc := "(I)I" } : Jvm.MethodName)) ∈ lw_tbl := lw_at lw_m1 54 rfl
theorem q108 : (Jvm.Cond.instanceMethod ({ cls := "KindStreets$Reader", name := "at", desc := "(I)I" } : Jvm.MethodName)) ∈ lw_all := lw_g (lw_at lw_m1 55 rfl) rfl
theorem q109 : (Jvm.Cond.code ({ cls := "KindStreets$Reader", name := "at", desc := "(I)I" } : Jvm.MethodName) prog_11_method_2_code (2 : Nat) (Option.some Jvm.ClassFile.FieldType.int)) ∈ lw_all := lw_g (lw_at lw_m1 56 rfl) rfl
theorem q110 : (Jvm.Cond.methodLinkNest "KindStreets$Reader" (48 : Nat) ({ cls := "KindStreets", name := "isIn", desc := "(III)Z" } : Jvm.MethodName) "KindStreets") ∈ lw_tbl := lw_at lw_m1 57 rfl
theorem q111 : (Jvm.Cond.stringRef "KindStreets$Reader" (52 : Nat) "ysc") ∈ lw_tbl := lw_at lw_m1 58 rfl
theorem q112 : (Jvm.Cond.methodLink "KindStreets$Reader" (54 : Nat) ({ cls := "java/lang/String", name := "indexOf", desc := "(I)I" } : Jvm.MethodName)) ∈ lw_all := lw_g (lw_at lw_m1 59 rfl) rfl
theorem q198 : (Jvm.Cond.methodLink "KindStreets$Reader" (59 : Nat) ({ cls := "KindStreets$Reader", name := "wants", desc := "(Z)V" } : Jvm.MethodName)) ∈ lw_all := lw_g (lw_at lw_m1 145 rfl) rfl
theorem q199 : (Jvm.Cond.privateMethod ({ cls := "KindStreets$Reader", name := "wants", desc := "(Z)V" } : Jvm.MethodName)) ∈ lw_tbl := lw_at lw_m1 146 rfl
theorem q200 : (Jvm.Cond.instanceMethod ({ cls := "KindStreets$Reader", name := "wants", desc := "(Z)V" } : Jvm.MethodName)) ∈ lw_all := lw_g (lw_at lw_m1 147 rfl) rfl
theorem q201 : (Jvm.Cond.code ({ cls := "KindStreets$Reader", name := "wants", desc := "(Z)V" } : Jvm.MethodName) prog_11_method_3_code (2 : Nat) (Option.none : Option Jvm.ClassFile.FieldType)) ∈ lw_all := lw_g (lw_at lw_m1 148 rfl) rfl
theorem q202 : (Jvm.Cond.classLink "KindStreets$Reader" (23 : Nat) "KindStreets$Fault") ∈ lw_all := lw_g (lw_at lw_m1 149 rfl) rfl
theorem q241 : (Jvm.Cond.methodLink "KindStreets$Reader" (28 : Nat) ({ cls := "KindStreets$Fault", name := "<init>", desc := "(I)V" } : Jvm.MethodName)) ∈ lw_all := lw_g (lw_at lw_m1 188 rfl) rfl
theorem q268 : (Jvm.Cond.methodLink "KindStreets$Reader" (63 : Nat) ({ cls := "KindStreets$Reader", name := "figures", desc := "()V" } : Jvm.MethodName)) ∈ lw_all := lw_g (lw_at lw_m1 215 rfl) rfl
theorem q269 : (Jvm.Cond.privateMethod ({ cls := "KindStreets$Reader", name := "figures", desc := "()V" } : Jvm.MethodName)) ∈ lw_tbl := lw_at lw_m1 216 rfl
theorem q270 : (Jvm.Cond.instanceMethod ({ cls := "KindStreets$Reader", name := "figures", desc := "()V" } : Jvm.MethodName)) ∈ lw_all := lw_g (lw_at lw_m1 217 rfl) rfl
theorem q271 : (Jvm.Cond.code ({ cls := "KindStreets$Reader", name := "figures", desc := "()V" } : Jvm.MethodName) prog_11_method_5_code (2 : Nat) (Option.none : Option Jvm.ClassFile.FieldType)) ∈ lw_all := lw_g (lw_at lw_m1 218 rfl) rfl
theorem q272 : (Jvm.Cond.methodLink "KindStreets$Reader" (66 : Nat) ({ cls := "java/lang/Math", name := "min", desc := "(II)I" } : Jvm.MethodName)) ∈ lw_all := lw_g (lw_at lw_m1 219 rfl) rfl
theorem q273 : (Jvm.Cond.methodLink "KindStreets$Reader" (120 : Nat) ({ cls := "KindStreets$Reader", name := "mayBegin", desc := "(I)Z" } : Jvm.MethodName)) ∈ lw_all := lw_g (lw_at lw_m1 220 rfl) rfl
theorem q274 : (Jvm.Cond.privateMethod ({ cls := "KindStreets$Reader", name := "mayBegin", desc := "(I)Z" } : Jvm.MethodName)) ∈ lw_tbl := lw_at lw_m1 221 rfl
theorem q275 : (Jvm.Cond.instanceMethod ({ cls := "KindStreets$Reader", name := "mayBegin", desc := "(I)Z" } : Jvm.MethodName)) ∈ lw_all := lw_g (lw_at lw_m1 222 rfl) rfl
theorem q276 : (Jvm.Cond.code ({ cls := "KindStreets$Reader", name := "mayBegin", desc := "(I)Z" } : Jvm.MethodName) prog_11_method_7_code (2 : Nat) (Option.some Jvm.ClassFile.FieldType.boolean)) ∈ lw_all := lw_g (lw_at lw_m1 223 rfl) rfl
theorem q277 : (Jvm.Cond.methodLink "KindStreets$Reader" (124 : Nat) ({ cls := "KindStreets$Reader", name := "item", desc := "(I)V" } : Jvm.MethodName)) ∈ lw_all := lw_g (lw_at lw_m1 224 rfl) rfl
theorem q278 : (Jvm.Cond.privateMethod ({ cls := "KindStreets$Reader", name := "item", desc := "(I)V" } : Jvm.MethodName)) ∈ lw_tbl := lw_at lw_m1 225 rfl
theorem q279 : (Jvm.Cond.instanceMethod ({ cls := "KindStreets$Reader", name := "item", desc := "(I)V" } : Jvm.MethodName)) ∈ lw_all := lw_g (lw_at lw_m1 226 rfl) rfl
theorem q280 : (Jvm.Cond.code ({ cls := "KindStreets$Reader", name := "item", desc := "(I)V" } : Jvm.MethodName) prog_11_method_10_code (2 : Nat) (Option.none : Option Jvm.ClassFile.FieldType)) ∈ lw_all := lw_g (lw_at lw_m1 227 rfl) rfl
theorem q281 : (Jvm.Cond.methodLink "KindStreets$Reader" (97 : Nat) ({ cls := "KindStreets$Reader", name := "takes", desc := "(II)I" } : Jvm.MethodName)) ∈ lw_all := lw_g (lw_at lw_m1 228 rfl) rfl
theorem q282 : (Jvm.Cond.privateMethod ({ cls := "KindStreets$Reader", name := "takes", desc := "(II)I" } : Jvm.MethodName)) ∈ lw_tbl := lw_at lw_m1 229 rfl
theorem q283 : (Jvm.Cond.instanceMethod ({ cls := "KindStreets$Reader", name := "takes", desc := "(II)I" } : Jvm.MethodName)) ∈ lw_all := lw_g (lw_at lw_m1 230 rfl) rfl
theorem q284 : (Jvm.Cond.code ({ cls := "KindStreets$Reader", name := "takes", desc := "(II)I" } : Jvm.MethodName) prog_11_method_6_code (4 : Nat) (Option.some Jvm.ClassFile.FieldType.int)) ∈ lw_all := lw_g (lw_at lw_m1 231 rfl) rfl
theorem q285 : (Jvm.Cond.methodLink "KindStreets$Reader" (111 : Nat) ({ cls := "KindStreets$Reader", name := "street", desc := "()V" } : Jvm.MethodName)) ∈ lw_all := lw_g (lw_at lw_m1 232 rfl) rfl
theorem q286 : (Jvm.Cond.privateMethod ({ cls := "KindStreets$Reader", name := "street", desc := "()V" } : Jvm.MethodName)) ∈ lw_tbl := lw_at lw_m1 233 rfl
theorem q287 : (Jvm.Cond.instanceMethod ({ cls := "KindStreets$Reader", name := "street", desc := "()V" } : Jvm.MethodName)) ∈ lw_all := lw_g (lw_at lw_m1 234 rfl) rfl
theorem q288 : (Jvm.Cond.code ({ cls := "KindStreets$Reader", name := "street", desc := "()V" } : Jvm.MethodName) prog_11_method_8_code (2 : Nat) (Option.none : Option Jvm.ClassFile.FieldType)) ∈ lw_all := lw_g (lw_at lw_m1 235 rfl) rfl
theorem q289 : (Jvm.Cond.methodLink "KindStreets$Reader" (114 : Nat) ({ cls := "KindStreets$Reader", name := "citizen", desc := "()V" } : Jvm.MethodName)) ∈ lw_all := lw_g (lw_at lw_m1 236 rfl) rfl
theorem q290 : (Jvm.Cond.privateMethod ({ cls := "KindStreets$Reader", name := "citizen", desc := "()V" } : Jvm.MethodName)) ∈ lw_tbl := lw_at lw_m1 237 rfl
theorem q291 : (Jvm.Cond.instanceMethod ({ cls := "KindStreets$Reader", name := "citizen", desc := "()V" } : Jvm.MethodName)) ∈ lw_all := lw_g (lw_at lw_m1 238 rfl) rfl
theorem q292 : (Jvm.Cond.code ({ cls := "KindStreets$Reader", name := "citizen", desc := "()V" } : Jvm.MethodName) prog_11_method_9_code (1 : Nat) (Option.none : Option Jvm.ClassFile.FieldType)) ∈ lw_all := lw_g (lw_at lw_m1 239 rfl) rfl
theorem q318 : (Jvm.Cond.fieldLinkNest "KindStreets$Reader" (94 : Nat) "KindStreets$Town" "yards" "I" "KindStreets") ∈ lw_tbl := lw_at lw_m2 25 rfl
theorem q321 : (Jvm.Cond.fieldLinkNest "KindStreets$Reader" (82 : Nat) "KindStreets$Town" "streets" "I" "KindStreets") ∈ lw_tbl := lw_at lw_m2 28 rfl
theorem q324 : (Jvm.Cond.fieldLinkNest "KindStreets$Reader" (90 : Nat) "KindStreets$Town" "one" "[I" "KindStreets") ∈ lw_tbl := lw_at lw_m2 31 rfl
theorem q327 : (Jvm.Cond.fieldLinkNest "KindStreets$Reader" (100 : Nat) "KindStreets$Town" "other" "[I" "KindStreets") ∈ lw_tbl := lw_at lw_m2 34 rfl
theorem q331 : (Jvm.Cond.fieldLinkNest "KindStreets$Reader" (103 : Nat) "KindStreets$Town" "old" "[I" "KindStreets") ∈ lw_tbl := lw_at lw_m2 38 rfl
theorem q334 : (Jvm.Cond.fieldLinkNest "KindStreets$Reader" (87 : Nat) "KindStreets$Town" "citizens" "I" "KindStreets") ∈ lw_tbl := lw_at lw_m2 41 rfl
theorem q338 : (Jvm.Cond.fieldLinkNest "KindStreets$Reader" (106 : Nat) "KindStreets$Town" "home" "[I" "KindStreets") ∈ lw_tbl := lw_at lw_m2 45 rfl
theorem q340 : (Jvm.Cond.fieldLinkNest "KindStreets$Reader" (109 : Nat) "KindStreets$Town" "wants" "[I" "KindStreets") ∈ lw_tbl := lw_at lw_m2 47 rfl
theorem q362 : (Jvm.Cond.instanceMethod ({ cls := "KindStreets$Reader", name := "<init>", desc := "(LKindStreets;)V" } : Jvm.MethodName)) ∈ lw_all := lw_g (lw_at lw_m2 69 rfl) rfl
theorem q363 : (Jvm.Cond.code ({ cls := "KindStreets$Reader", name := "<init>", desc := "(LKindStreets;)V" } : Jvm.MethodName) prog_11_method_1_code (2 : Nat) (Option.none : Option Jvm.ClassFile.FieldType)) ∈ lw_all := lw_g (lw_at lw_m2 70 rfl) rfl
theorem q364 : (Jvm.Cond.methodLink "KindStreets$Reader" (9 : Nat) ({ cls := "java/lang/Object", name := "<init>", desc := "()V" } : Jvm.MethodName)) ∈ lw_all := lw_g (lw_at lw_m2 71 rfl) rfl
theorem q365 : (Jvm.Cond.fieldLink "KindStreets$Reader" (31 : Nat) "KindStreets$Reader" "next" "I") ∈ lw_all := lw_g (lw_at lw_m2 72 rfl) rfl
theorem q366 : (Jvm.Cond.fieldLink "KindStreets$Reader" (25 : Nat) "KindStreets$Reader" "begun" "I") ∈ lw_all := lw_g (lw_at lw_m2 73 rfl) rfl
theorem q367 : (Jvm.Cond.fieldLink "KindStreets$Reader" (38 : Nat) "KindStreets$Reader" "word" "I") ∈ lw_all := lw_g (lw_at lw_m2 74 rfl) rfl
theorem q368 : (Jvm.Cond.fieldLink "KindStreets$Reader" (41 : Nat) "KindStreets$Reader" "number" "I") ∈ lw_all := lw_g (lw_at lw_m2 75 rfl) rfl
theorem q369 : (Jvm.Cond.fieldLink "KindStreets$Reader" (44 : Nat) "KindStreets$Reader" "isStop" "Z") ∈ lw_all := lw_g (lw_at lw_m2 76 rfl) rfl
theorem q370 : (Jvm.Cond.fieldLink "KindStreets$Reader" (75 : Nat) "KindStreets$Reader" "items" "I") ∈ lw_all := lw_g (lw_at lw_m2 77 rfl) rfl
theorem q371 : (Jvm.Cond.fieldLink "KindStreets$Reader" (3 : Nat) "KindStreets$Reader" "this$0" "LKindStreets;") ∈ lw_all := lw_g (lw_at lw_m2 78 rfl) rfl
theorem q372 : (Jvm.Cond.lays "KindStreets$Reader" "KindStreets$Reader" "next" "I") ∈ lw_all := lw_g (lw_at lw_m2 79 rfl) rfl
theorem q373 : (Jvm.Cond.soleField "KindStreets$Reader" "next") ∈ lw_all := lw_g (lw_at lw_m2 80 rfl) rfl
theorem q374 : (Jvm.Cond.lays "KindStreets$Reader" "KindStreets$Reader" "begun" "I") ∈ lw_all := lw_g (lw_at lw_m2 81 rfl) rfl
theorem q375 : (Jvm.Cond.soleField "KindStreets$Reader" "begun") ∈ lw_all := lw_g (lw_at lw_m2 82 rfl) rfl
theorem q376 : (Jvm.Cond.lays "KindStreets$Reader" "KindStreets$Reader" "word" "I") ∈ lw_all := lw_g (lw_at lw_m2 83 rfl) rfl
theorem q377 : (Jvm.Cond.soleField "KindStreets$Reader" "word") ∈ lw_all := lw_g (lw_at lw_m2 84 rfl) rfl
theorem q378 : (Jvm.Cond.lays "KindStreets$Reader" "KindStreets$Reader" "number" "I") ∈ lw_all := lw_g (lw_at lw_m2 85 rfl) rfl
theorem q379 : (Jvm.Cond.soleField "KindStreets$Reader" "number") ∈ lw_all := lw_g (lw_at lw_m2 86 rfl) rfl
theorem q380 : (Jvm.Cond.lays "KindStreets$Reader" "KindStreets$Reader" "isStop" "Z") ∈ lw_all := lw_g (lw_at lw_m2 87 rfl) rfl
theorem q381 : (Jvm.Cond.soleField "KindStreets$Reader" "isStop") ∈ lw_all := lw_g (lw_at lw_m2 88 rfl) rfl
theorem q382 : (Jvm.Cond.lays "KindStreets$Reader" "KindStreets$Reader" "items" "I") ∈ lw_all := lw_g (lw_at lw_m2 89 rfl) rfl
theorem q383 : (Jvm.Cond.soleField "KindStreets$Reader" "items") ∈ lw_all := lw_g (lw_at lw_m2 90 rfl) rfl
theorem q384 : (Jvm.Cond.laysFinal "KindStreets$Reader" "KindStreets$Reader" "this$0" "LKindStreets;") ∈ lw_all := lw_g (lw_at lw_m2 91 rfl) rfl
theorem q385 : (Jvm.Cond.soleField "KindStreets$Reader" "this$0") ∈ lw_all := lw_g (lw_at lw_m2 92 rfl) rfl
theorem q386 : (Jvm.Cond.superclass "KindStreets$Reader" "java/lang/Object") ∈ lw_all := lw_g (lw_at lw_m2 93 rfl) rfl
theorem q487 : (Jvm.Cond.fieldLinkNest "KindStreets$Reader" (78 : Nat) "KindStreets" "draft" "LKindStreets$Town;" "KindStreets") ∈ lw_tbl := lw_at lw_m2 194 rfl
theorem q488 : (Jvm.Cond.fieldLinkNest "KindStreets$Reader" (19 : Nat) "KindStreets" "text" "[B" "KindStreets") ∈ lw_tbl := lw_at lw_m2 195 rfl
theorem q490 : (Jvm.Cond.fieldLinkNest "KindStreets$Reader" (15 : Nat) "KindStreets" "typed" "I" "KindStreets") ∈ lw_tbl := lw_at lw_m2 197 rfl
theorem in_X2 : ∀ w ∈ wsX20, w ∈ lw_all := lw_in wsX20 [372, 374, 376, 378, 380, 382, 384] (by decide +kernel) (by decide +kernel)

/-! KindStreets$Age -/
set_option maxRecDepth 100000
def RX3 : String := "KindStreets$Age"
def TX3 : u_T := fun k => match k with
  | 0 => ("KindStreets$Age", "seen", "[B", true)
  | 1 => ("KindStreets$Age", "hidden", "[B", true)
  | 2 => ("KindStreets$Age", "faked", "[B", true)
  | 3 => ("KindStreets$Age", "home", "[I", true)
  | _ => ("KindStreets$Age", "isNight", "Z", false)
def tyX3 : Nat → FieldType := fun k => match k with
  | 0 => .array .byte
  | 1 => .array .byte
  | 2 => .array .byte
  | 3 => .array .int
  | _ => .boolean
abbrev wsX30 : List Cond := u_ws RX3 TX3 5
theorem nmX3 : ∀ a, a < 5 → ∀ b, b < 5 → a ≠ b → (TX3 a).2.1 ≠ (TX3 b).2.1 := by decide +kernel
theorem tyX3_ok : ∀ k, k < 5 → parseFieldDescriptor (TX3 k).2.2.1 = some (tyX3 k) := by decide +kernel
abbrev cX3_begins : ByteArray := prog_2_method_2_code
def yX3_begins : MethodName := ⟨RX3, "begins", "(LKindStreets$Town;)V"⟩
def dkwX3_begins_2 : List UInt8 := [42, 180, 0, 21, 3, 16, 6, 184, 0, 31, 42, 3, 181, 0, 37, 177]
abbrev dktX3_begins_2 : List UInt8 := dkwX3_begins_2 ++ []
def dkwX3_begins_1 : List UInt8 := [180, 0, 15, 28, 3, 84, 42, 180, 0, 18, 28, 3, 84, 132, 2, 1, 167, 255, 220, 43, 180, 0, 30, 3]
abbrev dktX3_begins_1 : List UInt8 := dkwX3_begins_1 ++ dktX3_begins_2
def dkwX3_begins_0 : List UInt8 := [3, 61, 28, 16, 9, 162, 0, 36, 42, 180, 0, 9, 28, 43, 180, 0, 25, 28, 46, 145, 84, 42]
abbrev dktX3_begins_0 : List UInt8 := dkwX3_begins_0 ++ dktX3_begins_1
theorem dksX3_begins_0 : cX3_begins.data.toList.drop 0 = dktX3_begins_0 := by decide +kernel
theorem dksX3_begins_1 : cX3_begins.data.toList.drop 22 = dktX3_begins_1 := dk_seg dksX3_begins_0 22 rfl rfl
theorem dksX3_begins_2 : cX3_begins.data.toList.drop 46 = dktX3_begins_2 := dk_seg dksX3_begins_1 24 rfl rfl
theorem dX3_begins_0 : decode cX3_begins 0 = .ok (.iconst 0, 1) := dk_3 (dk_at dksX3_begins_0 0 rfl rfl)
theorem dX3_begins_1 : decode cX3_begins 1 = .ok (.istore_n 2, 1) := dk_61 (dk_at dksX3_begins_0 1 rfl rfl)
theorem dX3_begins_2 : decode cX3_begins 2 = .ok (.iload_n 2, 1) := dk_28 (dk_at dksX3_begins_0 2 rfl rfl)
theorem dX3_begins_3 : decode cX3_begins 3 = .ok (.bipush 9, 2) := dk_16 9 (dk_at dksX3_begins_0 3 rfl rfl)
theorem dX3_begins_5 : decode cX3_begins 5 = .ok (.if_icmp .ge 36, 3) := dk_162 0 36 (dk_at dksX3_begins_0 5 rfl rfl)
theorem dX3_begins_8 : decode cX3_begins 8 = .ok (.aload_n 0, 1) := dk_42 (dk_at dksX3_begins_0 8 rfl rfl)
theorem dX3_begins_9 : decode cX3_begins 9 = .ok (.getfield 9, 3) := dk_180 0 9 (dk_at dksX3_begins_0 9 rfl rfl)
theorem dX3_begins_12 : decode cX3_begins 12 = .ok (.iload_n 2, 1) := dk_28 (dk_at dksX3_begins_0 12 rfl rfl)
theorem dX3_begins_13 : decode cX3_begins 13 = .ok (.aload_n 1, 1) := dk_43 (dk_at dksX3_begins_0 13 rfl rfl)
theorem dX3_begins_14 : decode cX3_begins 14 = .ok (.getfield 25, 3) := dk_180 0 25 (dk_at dksX3_begins_0 14 rfl rfl)
theorem dX3_begins_17 : decode cX3_begins 17 = .ok (.iload_n 2, 1) := dk_28 (dk_at dksX3_begins_0 17 rfl rfl)
theorem dX3_begins_18 : decode cX3_begins 18 = .ok (.iaload, 1) := dk_46 (dk_at dksX3_begins_0 18 rfl rfl)
theorem dX3_begins_19 : decode cX3_begins 19 = .ok (.i2b, 1) := dk_145 (dk_at dksX3_begins_0 19 rfl rfl)
theorem dX3_begins_20 : decode cX3_begins 20 = .ok (.bastore, 1) := dk_84 (dk_at dksX3_begins_0 20 rfl rfl)
theorem dX3_begins_21 : decode cX3_begins 21 = .ok (.aload_n 0, 1) := dk_42 (dk_at dksX3_begins_0 21 rfl rfl)
theorem dX3_begins_22 : decode cX3_begins 22 = .ok (.getfield 15, 3) := dk_180 0 15 (dk_at dksX3_begins_1 0 rfl rfl)
theorem dX3_begins_25 : decode cX3_begins 25 = .ok (.iload_n 2, 1) := dk_28 (dk_at dksX3_begins_1 3 rfl rfl)
theorem dX3_begins_26 : decode cX3_begins 26 = .ok (.iconst 0, 1) := dk_3 (dk_at dksX3_begins_1 4 rfl rfl)
theorem dX3_begins_27 : decode cX3_begins 27 = .ok (.bastore, 1) := dk_84 (dk_at dksX3_begins_1 5 rfl rfl)
theorem dX3_begins_28 : decode cX3_begins 28 = .ok (.aload_n 0, 1) := dk_42 (dk_at dksX3_begins_1 6 rfl rfl)
theorem dX3_begins_29 : decode cX3_begins 29 = .ok (.getfield 18, 3) := dk_180 0 18 (dk_at dksX3_begins_1 7 rfl rfl)
theorem dX3_begins_32 : decode cX3_begins 32 = .ok (.iload_n 2, 1) := dk_28 (dk_at dksX3_begins_1 10 rfl rfl)
theorem dX3_begins_33 : decode cX3_begins 33 = .ok (.iconst 0, 1) := dk_3 (dk_at dksX3_begins_1 11 rfl rfl)
theorem dX3_begins_34 : decode cX3_begins 34 = .ok (.bastore, 1) := dk_84 (dk_at dksX3_begins_1 12 rfl rfl)
theorem dX3_begins_35 : decode cX3_begins 35 = .ok (.iinc 2 1, 3) := dk_132 2 1 (dk_at dksX3_begins_1 13 rfl rfl)
theorem dX3_begins_38 : decode cX3_begins 38 = .ok (.goto (-36), 3) := dk_167 255 220 (dk_at dksX3_begins_1 16 rfl rfl)
theorem dX3_begins_41 : decode cX3_begins 41 = .ok (.aload_n 1, 1) := dk_43 (dk_at dksX3_begins_1 19 rfl rfl)
theorem dX3_begins_42 : decode cX3_begins 42 = .ok (.getfield 30, 3) := dk_180 0 30 (dk_at dksX3_begins_1 20 rfl rfl)
theorem dX3_begins_45 : decode cX3_begins 45 = .ok (.iconst 0, 1) := dk_3 (dk_at dksX3_begins_1 23 rfl rfl)
theorem dX3_begins_46 : decode cX3_begins 46 = .ok (.aload_n 0, 1) := dk_42 (dk_at dksX3_begins_2 0 rfl rfl)
theorem dX3_begins_47 : decode cX3_begins 47 = .ok (.getfield 21, 3) := dk_180 0 21 (dk_at dksX3_begins_2 1 rfl rfl)
theorem dX3_begins_50 : decode cX3_begins 50 = .ok (.iconst 0, 1) := dk_3 (dk_at dksX3_begins_2 4 rfl rfl)
theorem dX3_begins_51 : decode cX3_begins 51 = .ok (.bipush 6, 2) := dk_16 6 (dk_at dksX3_begins_2 5 rfl rfl)
theorem dX3_begins_53 : decode cX3_begins 53 = .ok (.invokestatic 31, 3) := dk_184 0 31 (dk_at dksX3_begins_2 7 rfl rfl)
theorem dX3_begins_56 : decode cX3_begins 56 = .ok (.aload_n 0, 1) := dk_42 (dk_at dksX3_begins_2 10 rfl rfl)
theorem dX3_begins_57 : decode cX3_begins 57 = .ok (.iconst 0, 1) := dk_3 (dk_at dksX3_begins_2 11 rfl rfl)
theorem dX3_begins_58 : decode cX3_begins 58 = .ok (.putfield 37, 3) := dk_181 0 37 (dk_at dksX3_begins_2 12 rfl rfl)
theorem dX3_begins_61 : decode cX3_begins 61 = .ok (.return_, 1) := dk_177 (dk_at dksX3_begins_2 15 rfl rfl)
abbrev cX3_init : ByteArray := prog_2_method_1_code
def yX3_init : MethodName := ⟨RX3, "<init>", "()V"⟩
def dkwX3_init_1 : List UInt8 := [188, 8, 181, 0, 18, 42, 16, 6, 188, 10, 181, 0, 21, 177]
abbrev dktX3_init_1 : List UInt8 := dkwX3_init_1 ++ []
def dkwX3_init_0 : List UInt8 := [42, 183, 0, 3, 42, 16, 9, 188, 8, 181, 0, 9, 42, 16, 9, 188, 8, 181, 0, 15, 42, 16, 9]
abbrev dktX3_init_0 : List UInt8 := dkwX3_init_0 ++ dktX3_init_1
theorem dksX3_init_0 : cX3_init.data.toList.drop 0 = dktX3_init_0 := by decide +kernel
theorem dksX3_init_1 : cX3_init.data.toList.drop 23 = dktX3_init_1 := dk_seg dksX3_init_0 23 rfl rfl
theorem dX3_init_0 : decode cX3_init 0 = .ok (.aload_n 0, 1) := dk_42 (dk_at dksX3_init_0 0 rfl rfl)
theorem dX3_init_1 : decode cX3_init 1 = .ok (.invokespecial 3, 3) := dk_183 0 3 (dk_at dksX3_init_0 1 rfl rfl)
theorem dX3_init_4 : decode cX3_init 4 = .ok (.aload_n 0, 1) := dk_42 (dk_at dksX3_init_0 4 rfl rfl)
theorem dX3_init_5 : decode cX3_init 5 = .ok (.bipush 9, 2) := dk_16 9 (dk_at dksX3_init_0 5 rfl rfl)
theorem dX3_init_7 : decode cX3_init 7 = .ok (.newarray .byte, 2) := dk_188_8 (dk_at dksX3_init_0 7 rfl rfl)
theorem dX3_init_9 : decode cX3_init 9 = .ok (.putfield 9, 3) := dk_181 0 9 (dk_at dksX3_init_0 9 rfl rfl)
theorem dX3_init_12 : decode cX3_init 12 = .ok (.aload_n 0, 1) := dk_42 (dk_at dksX3_init_0 12 rfl rfl)
theorem dX3_init_13 : decode cX3_init 13 = .ok (.bipush 9, 2) := dk_16 9 (dk_at dksX3_init_0 13 rfl rfl)
theorem dX3_init_15 : decode cX3_init 15 = .ok (.newarray .byte, 2) := dk_188_8 (dk_at dksX3_init_0 15 rfl rfl)
theorem dX3_init_17 : decode cX3_init 17 = .ok (.putfield 15, 3) := dk_181 0 15 (dk_at dksX3_init_0 17 rfl rfl)
theorem dX3_init_20 : decode cX3_init 20 = .ok (.aload_n 0, 1) := dk_42 (dk_at dksX3_init_0 20 rfl rfl)
theorem dX3_init_21 : decode cX3_init 21 = .ok (.bipush 9, 2) := dk_16 9 (dk_at dksX3_init_0 21 rfl rfl)
theorem dX3_init_23 : decode cX3_init 23 = .ok (.newarray .byte, 2) := dk_188_8 (dk_at dksX3_init_1 0 rfl rfl)
theorem dX3_init_25 : decode cX3_init 25 = .ok (.putfield 18, 3) := dk_181 0 18 (dk_at dksX3_init_1 2 rfl rfl)
theorem dX3_init_28 : decode cX3_init 28 = .ok (.aload_n 0, 1) := dk_42 (dk_at dksX3_init_1 5 rfl rfl)
theorem dX3_init_29 : decode cX3_init 29 = .ok (.bipush 6, 2) := dk_16 6 (dk_at dksX3_init_1 6 rfl rfl)
theorem dX3_init_31 : decode cX3_init 31 = .ok (.newarray .int, 2) := dk_188_10 (dk_at dksX3_init_1 8 rfl rfl)
theorem dX3_init_33 : decode cX3_init 33 = .ok (.putfield 21, 3) := dk_181 0 21 (dk_at dksX3_init_1 10 rfl rfl)
theorem dX3_init_36 : decode cX3_init 36 = .ok (.return_, 1) := dk_177 (dk_at dksX3_init_1 13 rfl rfl)
abbrev cX3_width : ByteArray := prog_2_method_4_code
def yX3_width : MethodName := ⟨RX3, "width", "(I)I"⟩
def dkwX3_width_1 : List UInt8 := [180, 0, 18, 27, 51, 184, 0, 41, 96, 172]
abbrev dktX3_width_1 : List UInt8 := dkwX3_width_1 ++ []
def dkwX3_width_0 : List UInt8 := [4, 42, 180, 0, 37, 153, 0, 12, 42, 180, 0, 9, 27, 51, 167, 0, 18, 42, 180, 0, 9, 27, 51, 42]
abbrev dktX3_width_0 : List UInt8 := dkwX3_width_0 ++ dktX3_width_1
theorem dksX3_width_0 : cX3_width.data.toList.drop 0 = dktX3_width_0 := by decide +kernel
theorem dksX3_width_1 : cX3_width.data.toList.drop 24 = dktX3_width_1 := dk_seg dksX3_width_0 24 rfl rfl
theorem dX3_width_0 : decode cX3_width 0 = .ok (.iconst 1, 1) := dk_4 (dk_at dksX3_width_0 0 rfl rfl)
theorem dX3_width_1 : decode cX3_width 1 = .ok (.aload_n 0, 1) := dk_42 (dk_at dksX3_width_0 1 rfl rfl)
theorem dX3_width_2 : decode cX3_width 2 = .ok (.getfield 37, 3) := dk_180 0 37 (dk_at dksX3_width_0 2 rfl rfl)
theorem dX3_width_5 : decode cX3_width 5 = .ok (.ifCond .eq 12, 3) := dk_153 0 12 (dk_at dksX3_width_0 5 rfl rfl)
theorem dX3_width_8 : decode cX3_width 8 = .ok (.aload_n 0, 1) := dk_42 (dk_at dksX3_width_0 8 rfl rfl)
theorem dX3_width_9 : decode cX3_width 9 = .ok (.getfield 9, 3) := dk_180 0 9 (dk_at dksX3_width_0 9 rfl rfl)
theorem dX3_width_12 : decode cX3_width 12 = .ok (.iload_n 1, 1) := dk_27 (dk_at dksX3_width_0 12 rfl rfl)
theorem dX3_width_13 : decode cX3_width 13 = .ok (.baload, 1) := dk_51 (dk_at dksX3_width_0 13 rfl rfl)
theorem dX3_width_14 : decode cX3_width 14 = .ok (.goto 18, 3) := dk_167 0 18 (dk_at dksX3_width_0 14 rfl rfl)
theorem dX3_width_17 : decode cX3_width 17 = .ok (.aload_n 0, 1) := dk_42 (dk_at dksX3_width_0 17 rfl rfl)
theorem dX3_width_18 : decode cX3_width 18 = .ok (.getfield 9, 3) := dk_180 0 9 (dk_at dksX3_width_0 18 rfl rfl)
theorem dX3_width_21 : decode cX3_width 21 = .ok (.iload_n 1, 1) := dk_27 (dk_at dksX3_width_0 21 rfl rfl)
theorem dX3_width_22 : decode cX3_width 22 = .ok (.baload, 1) := dk_51 (dk_at dksX3_width_0 22 rfl rfl)
theorem dX3_width_23 : decode cX3_width 23 = .ok (.aload_n 0, 1) := dk_42 (dk_at dksX3_width_0 23 rfl rfl)
theorem dX3_width_24 : decode cX3_width 24 = .ok (.getfield 18, 3) := dk_180 0 18 (dk_at dksX3_width_1 0 rfl rfl)
theorem dX3_width_27 : decode cX3_width 27 = .ok (.iload_n 1, 1) := dk_27 (dk_at dksX3_width_1 3 rfl rfl)
theorem dX3_width_28 : decode cX3_width 28 = .ok (.baload, 1) := dk_51 (dk_at dksX3_width_1 4 rfl rfl)
theorem dX3_width_29 : decode cX3_width 29 = .ok (.invokestatic 41, 3) := dk_184 0 41 (dk_at dksX3_width_1 5 rfl rfl)
theorem dX3_width_32 : decode cX3_width 32 = .ok (.iadd, 1) := dk_96 (dk_at dksX3_width_1 8 rfl rfl)
theorem dX3_width_33 : decode cX3_width 33 = .ok (.ireturn, 1) := dk_172 (dk_at dksX3_width_1 9 rfl rfl)
abbrev cX3_living : ByteArray := prog_2_method_5_code
def yX3_living : MethodName := ⟨RX3, "living", "(LKindStreets$Town;I)I"⟩
def dkwX3_living_1 : List UInt8 := [160, 0, 10, 4, 21, 4, 120, 167, 0, 4, 3, 128, 62, 132, 4, 1, 167, 255, 222, 29, 172]
abbrev dktX3_living_1 : List UInt8 := dkwX3_living_1 ++ []
def dkwX3_living_0 : List UInt8 := [3, 62, 3, 54, 4, 21, 4, 43, 180, 0, 47, 162, 0, 31, 29, 42, 180, 0, 21, 21, 4, 46, 28]
abbrev dktX3_living_0 : List UInt8 := dkwX3_living_0 ++ dktX3_living_1
theorem dksX3_living_0 : cX3_living.data.toList.drop 0 = dktX3_living_0 := by decide +kernel
theorem dksX3_living_1 : cX3_living.data.toList.drop 23 = dktX3_living_1 := dk_seg dksX3_living_0 23 rfl rfl
theorem dX3_living_0 : decode cX3_living 0 = .ok (.iconst 0, 1) := dk_3 (dk_at dksX3_living_0 0 rfl rfl)
theorem dX3_living_1 : decode cX3_living 1 = .ok (.istore_n 3, 1) := dk_62 (dk_at dksX3_living_0 1 rfl rfl)
theorem dX3_living_2 : decode cX3_living 2 = .ok (.iconst 0, 1) := dk_3 (dk_at dksX3_living_0 2 rfl rfl)
theorem dX3_living_3 : decode cX3_living 3 = .ok (.istore 4, 2) := dk_54 4 (dk_at dksX3_living_0 3 rfl rfl)
theorem dX3_living_5 : decode cX3_living 5 = .ok (.iload 4, 2) := dk_21 4 (dk_at dksX3_living_0 5 rfl rfl)
theorem dX3_living_7 : decode cX3_living 7 = .ok (.aload_n 1, 1) := dk_43 (dk_at dksX3_living_0 7 rfl rfl)
theorem dX3_living_8 : decode cX3_living 8 = .ok (.getfield 47, 3) := dk_180 0 47 (dk_at dksX3_living_0 8 rfl rfl)
theorem dX3_living_11 : decode cX3_living 11 = .ok (.if_icmp .ge 31, 3) := dk_162 0 31 (dk_at dksX3_living_0 11 rfl rfl)
theorem dX3_living_14 : decode cX3_living 14 = .ok (.iload_n 3, 1) := dk_29 (dk_at dksX3_living_0 14 rfl rfl)
theorem dX3_living_15 : decode cX3_living 15 = .ok (.aload_n 0, 1) := dk_42 (dk_at dksX3_living_0 15 rfl rfl)
theorem dX3_living_16 : decode cX3_living 16 = .ok (.getfield 21, 3) := dk_180 0 21 (dk_at dksX3_living_0 16 rfl rfl)
theorem dX3_living_19 : decode cX3_living 19 = .ok (.iload 4, 2) := dk_21 4 (dk_at dksX3_living_0 19 rfl rfl)
theorem dX3_living_21 : decode cX3_living 21 = .ok (.iaload, 1) := dk_46 (dk_at dksX3_living_0 21 rfl rfl)
theorem dX3_living_22 : decode cX3_living 22 = .ok (.iload_n 2, 1) := dk_28 (dk_at dksX3_living_0 22 rfl rfl)
theorem dX3_living_23 : decode cX3_living 23 = .ok (.if_icmp .ne 10, 3) := dk_160 0 10 (dk_at dksX3_living_1 0 rfl rfl)
theorem dX3_living_26 : decode cX3_living 26 = .ok (.iconst 1, 1) := dk_4 (dk_at dksX3_living_1 3 rfl rfl)
theorem dX3_living_27 : decode cX3_living 27 = .ok (.iload 4, 2) := dk_21 4 (dk_at dksX3_living_1 4 rfl rfl)
theorem dX3_living_29 : decode cX3_living 29 = .ok (.ishl, 1) := dk_120 (dk_at dksX3_living_1 6 rfl rfl)
theorem dX3_living_30 : decode cX3_living 30 = .ok (.goto 4, 3) := dk_167 0 4 (dk_at dksX3_living_1 7 rfl rfl)
theorem dX3_living_33 : decode cX3_living 33 = .ok (.iconst 0, 1) := dk_3 (dk_at dksX3_living_1 10 rfl rfl)
theorem dX3_living_34 : decode cX3_living 34 = .ok (.ior, 1) := dk_128 (dk_at dksX3_living_1 11 rfl rfl)
theorem dX3_living_35 : decode cX3_living 35 = .ok (.istore_n 3, 1) := dk_62 (dk_at dksX3_living_1 12 rfl rfl)
theorem dX3_living_36 : decode cX3_living 36 = .ok (.iinc 4 1, 3) := dk_132 4 1 (dk_at dksX3_living_1 13 rfl rfl)
theorem dX3_living_39 : decode cX3_living 39 = .ok (.goto (-34), 3) := dk_167 255 222 (dk_at dksX3_living_1 16 rfl rfl)
theorem dX3_living_42 : decode cX3_living 42 = .ok (.iload_n 3, 1) := dk_29 (dk_at dksX3_living_1 19 rfl rfl)
theorem dX3_living_43 : decode cX3_living 43 = .ok (.ireturn, 1) := dk_172 (dk_at dksX3_living_1 20 rfl rfl)
abbrev cX3_witnesses : ByteArray := prog_2_method_6_code
def yX3_witnesses : MethodName := ⟨RX3, "witnesses", "(LKindStreets$Town;I)I"⟩
def dkwX3_witnesses_2 : List UInt8 := [167, 0, 4, 3, 128, 62, 132, 4, 1, 167, 255, 207, 29, 172]
abbrev dktX3_witnesses_2 : List UInt8 := dkwX3_witnesses_2 ++ []
def dkwX3_witnesses_1 : List UInt8 := [180, 0, 21, 28, 46, 42, 180, 0, 21, 21, 4, 46, 182, 0, 51, 153, 0, 10, 4, 21, 4, 120]
abbrev dktX3_witnesses_1 : List UInt8 := dkwX3_witnesses_1 ++ dktX3_witnesses_2
def dkwX3_witnesses_0 : List UInt8 := [3, 62, 3, 54, 4, 21, 4, 43, 180, 0, 47, 162, 0, 46, 29, 21, 4, 28, 159, 0, 30, 43, 42]
abbrev dktX3_witnesses_0 : List UInt8 := dkwX3_witnesses_0 ++ dktX3_witnesses_1
theorem dksX3_witnesses_0 : cX3_witnesses.data.toList.drop 0 = dktX3_witnesses_0 := by decide +kernel
theorem dksX3_witnesses_1 : cX3_witnesses.data.toList.drop 23 = dktX3_witnesses_1 := dk_seg dksX3_witnesses_0 23 rfl rfl
theorem dksX3_witnesses_2 : cX3_witnesses.data.toList.drop 45 = dktX3_witnesses_2 := dk_seg dksX3_witnesses_1 22 rfl rfl
theorem dX3_witnesses_0 : decode cX3_witnesses 0 = .ok (.iconst 0, 1) := dk_3 (dk_at dksX3_witnesses_0 0 rfl rfl)
theorem dX3_witnesses_1 : decode cX3_witnesses 1 = .ok (.istore_n 3, 1) := dk_62 (dk_at dksX3_witnesses_0 1 rfl rfl)
theorem dX3_witnesses_2 : decode cX3_witnesses 2 = .ok (.iconst 0, 1) := dk_3 (dk_at dksX3_witnesses_0 2 rfl rfl)
theorem dX3_witnesses_3 : decode cX3_witnesses 3 = .ok (.istore 4, 2) := dk_54 4 (dk_at dksX3_witnesses_0 3 rfl rfl)
theorem dX3_witnesses_5 : decode cX3_witnesses 5 = .ok (.iload 4, 2) := dk_21 4 (dk_at dksX3_witnesses_0 5 rfl rfl)
theorem dX3_witnesses_7 : decode cX3_witnesses 7 = .ok (.aload_n 1, 1) := dk_43 (dk_at dksX3_witnesses_0 7 rfl rfl)
theorem dX3_witnesses_8 : decode cX3_witnesses 8 = .ok (.getfield 47, 3) := dk_180 0 47 (dk_at dksX3_witnesses_0 8 rfl rfl)
theorem dX3_witnesses_11 : decode cX3_witnesses 11 = .ok (.if_icmp .ge 46, 3) := dk_162 0 46 (dk_at dksX3_witnesses_0 11 rfl rfl)
theorem dX3_witnesses_14 : decode cX3_witnesses 14 = .ok (.iload_n 3, 1) := dk_29 (dk_at dksX3_witnesses_0 14 rfl rfl)
theorem dX3_witnesses_15 : decode cX3_witnesses 15 = .ok (.iload 4, 2) := dk_21 4 (dk_at dksX3_witnesses_0 15 rfl rfl)
theorem dX3_witnesses_17 : decode cX3_witnesses 17 = .ok (.iload_n 2, 1) := dk_28 (dk_at dksX3_witnesses_0 17 rfl rfl)
theorem dX3_witnesses_18 : decode cX3_witnesses 18 = .ok (.if_icmp .eq 30, 3) := dk_159 0 30 (dk_at dksX3_witnesses_0 18 rfl rfl)
theorem dX3_witnesses_21 : decode cX3_witnesses 21 = .ok (.aload_n 1, 1) := dk_43 (dk_at dksX3_witnesses_0 21 rfl rfl)
theorem dX3_witnesses_22 : decode cX3_witnesses 22 = .ok (.aload_n 0, 1) := dk_42 (dk_at dksX3_witnesses_0 22 rfl rfl)
theorem dX3_witnesses_23 : decode cX3_witnesses 23 = .ok (.getfield 21, 3) := dk_180 0 21 (dk_at dksX3_witnesses_1 0 rfl rfl)
theorem dX3_witnesses_26 : decode cX3_witnesses 26 = .ok (.iload_n 2, 1) := dk_28 (dk_at dksX3_witnesses_1 3 rfl rfl)
theorem dX3_witnesses_27 : decode cX3_witnesses 27 = .ok (.iaload, 1) := dk_46 (dk_at dksX3_witnesses_1 4 rfl rfl)
theorem dX3_witnesses_28 : decode cX3_witnesses 28 = .ok (.aload_n 0, 1) := dk_42 (dk_at dksX3_witnesses_1 5 rfl rfl)
theorem dX3_witnesses_29 : decode cX3_witnesses 29 = .ok (.getfield 21, 3) := dk_180 0 21 (dk_at dksX3_witnesses_1 6 rfl rfl)
theorem dX3_witnesses_32 : decode cX3_witnesses 32 = .ok (.iload 4, 2) := dk_21 4 (dk_at dksX3_witnesses_1 9 rfl rfl)
theorem dX3_witnesses_34 : decode cX3_witnesses 34 = .ok (.iaload, 1) := dk_46 (dk_at dksX3_witnesses_1 11 rfl rfl)
theorem dX3_witnesses_35 : decode cX3_witnesses 35 = .ok (.invokevirtual 51, 3) := dk_182 0 51 (dk_at dksX3_witnesses_1 12 rfl rfl)
theorem dX3_witnesses_38 : decode cX3_witnesses 38 = .ok (.ifCond .eq 10, 3) := dk_153 0 10 (dk_at dksX3_witnesses_1 15 rfl rfl)
theorem dX3_witnesses_41 : decode cX3_witnesses 41 = .ok (.iconst 1, 1) := dk_4 (dk_at dksX3_witnesses_1 18 rfl rfl)
theorem dX3_witnesses_42 : decode cX3_witnesses 42 = .ok (.iload 4, 2) := dk_21 4 (dk_at dksX3_witnesses_1 19 rfl rfl)
theorem dX3_witnesses_44 : decode cX3_witnesses 44 = .ok (.ishl, 1) := dk_120 (dk_at dksX3_witnesses_1 21 rfl rfl)
theorem dX3_witnesses_45 : decode cX3_witnesses 45 = .ok (.goto 4, 3) := dk_167 0 4 (dk_at dksX3_witnesses_2 0 rfl rfl)
theorem dX3_witnesses_48 : decode cX3_witnesses 48 = .ok (.iconst 0, 1) := dk_3 (dk_at dksX3_witnesses_2 3 rfl rfl)
theorem dX3_witnesses_49 : decode cX3_witnesses 49 = .ok (.ior, 1) := dk_128 (dk_at dksX3_witnesses_2 4 rfl rfl)
theorem dX3_witnesses_50 : decode cX3_witnesses 50 = .ok (.istore_n 3, 1) := dk_62 (dk_at dksX3_witnesses_2 5 rfl rfl)
theorem dX3_witnesses_51 : decode cX3_witnesses 51 = .ok (.iinc 4 1, 3) := dk_132 4 1 (dk_at dksX3_witnesses_2 6 rfl rfl)
theorem dX3_witnesses_54 : decode cX3_witnesses 54 = .ok (.goto (-49), 3) := dk_167 255 207 (dk_at dksX3_witnesses_2 9 rfl rfl)
theorem dX3_witnesses_57 : decode cX3_witnesses 57 = .ok (.iload_n 3, 1) := dk_29 (dk_at dksX3_witnesses_2 12 rfl rfl)
theorem dX3_witnesses_58 : decode cX3_witnesses 58 = .ok (.ireturn, 1) := dk_172 (dk_at dksX3_witnesses_2 13 rfl rfl)
abbrev cX3_copy : ByteArray := prog_2_method_3_code
def yX3_copy : MethodName := ⟨RX3, "copy", "(LKindStreets$Age;)V"⟩
def dkwX3_copy_2 : List UInt8 := [180, 0, 21, 3, 42, 180, 0, 21, 3, 16, 6, 184, 0, 31, 42, 43, 180, 0, 37, 181, 0, 37, 177]
abbrev dktX3_copy_2 : List UInt8 := dkwX3_copy_2 ++ []
def dkwX3_copy_1 : List UInt8 := [3, 16, 9, 184, 0, 31, 43, 180, 0, 18, 3, 42, 180, 0, 18, 3, 16, 9, 184, 0, 31, 43]
abbrev dktX3_copy_1 : List UInt8 := dkwX3_copy_1 ++ dktX3_copy_2
def dkwX3_copy_0 : List UInt8 := [43, 180, 0, 9, 3, 42, 180, 0, 9, 3, 16, 9, 184, 0, 31, 43, 180, 0, 15, 3, 42, 180, 0, 15]
abbrev dktX3_copy_0 : List UInt8 := dkwX3_copy_0 ++ dktX3_copy_1
theorem dksX3_copy_0 : cX3_copy.data.toList.drop 0 = dktX3_copy_0 := by decide +kernel
theorem dksX3_copy_1 : cX3_copy.data.toList.drop 24 = dktX3_copy_1 := dk_seg dksX3_copy_0 24 rfl rfl
theorem dksX3_copy_2 : cX3_copy.data.toList.drop 46 = dktX3_copy_2 := dk_seg dksX3_copy_1 22 rfl rfl
theorem dX3_copy_0 : decode cX3_copy 0 = .ok (.aload_n 1, 1) := dk_43 (dk_at dksX3_copy_0 0 rfl rfl)
theorem dX3_copy_1 : decode cX3_copy 1 = .ok (.getfield 9, 3) := dk_180 0 9 (dk_at dksX3_copy_0 1 rfl rfl)
theorem dX3_copy_4 : decode cX3_copy 4 = .ok (.iconst 0, 1) := dk_3 (dk_at dksX3_copy_0 4 rfl rfl)
theorem dX3_copy_5 : decode cX3_copy 5 = .ok (.aload_n 0, 1) := dk_42 (dk_at dksX3_copy_0 5 rfl rfl)
theorem dX3_copy_6 : decode cX3_copy 6 = .ok (.getfield 9, 3) := dk_180 0 9 (dk_at dksX3_copy_0 6 rfl rfl)
theorem dX3_copy_9 : decode cX3_copy 9 = .ok (.iconst 0, 1) := dk_3 (dk_at dksX3_copy_0 9 rfl rfl)
theorem dX3_copy_10 : decode cX3_copy 10 = .ok (.bipush 9, 2) := dk_16 9 (dk_at dksX3_copy_0 10 rfl rfl)
theorem dX3_copy_12 : decode cX3_copy 12 = .ok (.invokestatic 31, 3) := dk_184 0 31 (dk_at dksX3_copy_0 12 rfl rfl)
theorem dX3_copy_15 : decode cX3_copy 15 = .ok (.aload_n 1, 1) := dk_43 (dk_at dksX3_copy_0 15 rfl rfl)
theorem dX3_copy_16 : decode cX3_copy 16 = .ok (.getfield 15, 3) := dk_180 0 15 (dk_at dksX3_copy_0 16 rfl rfl)
theorem dX3_copy_19 : decode cX3_copy 19 = .ok (.iconst 0, 1) := dk_3 (dk_at dksX3_copy_0 19 rfl rfl)
theorem dX3_copy_20 : decode cX3_copy 20 = .ok (.aload_n 0, 1) := dk_42 (dk_at dksX3_copy_0 20 rfl rfl)
theorem dX3_copy_21 : decode cX3_copy 21 = .ok (.getfield 15, 3) := dk_180 0 15 (dk_at dksX3_copy_0 21 rfl rfl)
theorem dX3_copy_24 : decode cX3_copy 24 = .ok (.iconst 0, 1) := dk_3 (dk_at dksX3_copy_1 0 rfl rfl)
theorem dX3_copy_25 : decode cX3_copy 25 = .ok (.bipush 9, 2) := dk_16 9 (dk_at dksX3_copy_1 1 rfl rfl)
theorem dX3_copy_27 : decode cX3_copy 27 = .ok (.invokestatic 31, 3) := dk_184 0 31 (dk_at dksX3_copy_1 3 rfl rfl)
theorem dX3_copy_30 : decode cX3_copy 30 = .ok (.aload_n 1, 1) := dk_43 (dk_at dksX3_copy_1 6 rfl rfl)
theorem dX3_copy_31 : decode cX3_copy 31 = .ok (.getfield 18, 3) := dk_180 0 18 (dk_at dksX3_copy_1 7 rfl rfl)
theorem dX3_copy_34 : decode cX3_copy 34 = .ok (.iconst 0, 1) := dk_3 (dk_at dksX3_copy_1 10 rfl rfl)
theorem dX3_copy_35 : decode cX3_copy 35 = .ok (.aload_n 0, 1) := dk_42 (dk_at dksX3_copy_1 11 rfl rfl)
theorem dX3_copy_36 : decode cX3_copy 36 = .ok (.getfield 18, 3) := dk_180 0 18 (dk_at dksX3_copy_1 12 rfl rfl)
theorem dX3_copy_39 : decode cX3_copy 39 = .ok (.iconst 0, 1) := dk_3 (dk_at dksX3_copy_1 15 rfl rfl)
theorem dX3_copy_40 : decode cX3_copy 40 = .ok (.bipush 9, 2) := dk_16 9 (dk_at dksX3_copy_1 16 rfl rfl)
theorem dX3_copy_42 : decode cX3_copy 42 = .ok (.invokestatic 31, 3) := dk_184 0 31 (dk_at dksX3_copy_1 18 rfl rfl)
theorem dX3_copy_45 : decode cX3_copy 45 = .ok (.aload_n 1, 1) := dk_43 (dk_at dksX3_copy_1 21 rfl rfl)
theorem dX3_copy_46 : decode cX3_copy 46 = .ok (.getfield 21, 3) := dk_180 0 21 (dk_at dksX3_copy_2 0 rfl rfl)
theorem dX3_copy_49 : decode cX3_copy 49 = .ok (.iconst 0, 1) := dk_3 (dk_at dksX3_copy_2 3 rfl rfl)
theorem dX3_copy_50 : decode cX3_copy 50 = .ok (.aload_n 0, 1) := dk_42 (dk_at dksX3_copy_2 4 rfl rfl)
theorem dX3_copy_51 : decode cX3_copy 51 = .ok (.getfield 21, 3) := dk_180 0 21 (dk_at dksX3_copy_2 5 rfl rfl)
theorem dX3_copy_54 : decode cX3_copy 54 = .ok (.iconst 0, 1) := dk_3 (dk_at dksX3_copy_2 8 rfl rfl)
theorem dX3_copy_55 : decode cX3_copy 55 = .ok (.bipush 6, 2) := dk_16 6 (dk_at dksX3_copy_2 9 rfl rfl)
theorem dX3_copy_57 : decode cX3_copy 57 = .ok (.invokestatic 31, 3) := dk_184 0 31 (dk_at dksX3_copy_2 11 rfl rfl)
theorem dX3_copy_60 : decode cX3_copy 60 = .ok (.aload_n 0, 1) := dk_42 (dk_at dksX3_copy_2 14 rfl rfl)
theorem dX3_copy_61 : decode cX3_copy 61 = .ok (.aload_n 1, 1) := dk_43 (dk_at dksX3_copy_2 15 rfl rfl)
theorem dX3_copy_62 : decode cX3_copy 62 = .ok (.getfield 37, 3) := dk_180 0 37 (dk_at dksX3_copy_2 16 rfl rfl)
theorem dX3_copy_65 : decode cX3_copy 65 = .ok (.putfield 37, 3) := dk_181 0 37 (dk_at dksX3_copy_2 19 rfl rfl)
theorem dX3_copy_68 : decode cX3_copy 68 = .ok (.return_, 1) := dk_177 (dk_at dksX3_copy_2 22 rfl rfl)
theorem q57 : (Jvm.Cond.initialized "KindStreets$Age") ∈ lw_all := lw_g (lw_at lw_m1 4 rfl) rfl
theorem q301 : (Jvm.Cond.instanceMethod ({ cls := "KindStreets$Age", name := "begins", desc := "(LKindStreets$Town;)V" } : Jvm.MethodName)) ∈ lw_all := lw_g (lw_at lw_m2 8 rfl) rfl
theorem q302 : (Jvm.Cond.selects "KindStreets$Age" ({ cls := "KindStreets$Age", name := "begins", desc := "(LKindStreets$Town;)V" } : Jvm.MethodName) ({ cls := "KindStreets$Age", name := "begins", desc := "(LKindStreets$Town;)V" } : Jvm.MethodName)) ∈ lw_all := lw_g (lw_at lw_m2 9 rfl) rfl
theorem q303 : (Jvm.Cond.code ({ cls := "KindStreets$Age", name := "begins", desc := "(LKindStreets$Town;)V" } : Jvm.MethodName) prog_2_method_2_code (3 : Nat) (Option.none : Option Jvm.ClassFile.FieldType)) ∈ lw_all := lw_g (lw_at lw_m2 10 rfl) rfl
theorem q304 : (Jvm.Cond.methodLink "KindStreets$Age" (31 : Nat) ({ cls := "java/lang/System", name := "arraycopy", desc := "(Ljava/lang/Object;ILjava/lang/Object;II)V" } : Jvm.MethodName)) ∈ lw_all := lw_g (lw_at lw_m2 11 rfl) rfl
theorem q330 : (Jvm.Cond.fieldLinkNest "KindStreets$Age" (25 : Nat) "KindStreets$Town" "old" "[I" "KindStreets") ∈ lw_tbl := lw_at lw_m2 37 rfl
theorem q333 : (Jvm.Cond.fieldLinkNest "KindStreets$Age" (47 : Nat) "KindStreets$Town" "citizens" "I" "KindStreets") ∈ lw_tbl := lw_at lw_m2 40 rfl
theorem q337 : (Jvm.Cond.fieldLinkNest "KindStreets$Age" (30 : Nat) "KindStreets$Town" "home" "[I" "KindStreets") ∈ lw_tbl := lw_at lw_m2 44 rfl
theorem q388 : (Jvm.Cond.instantiable "KindStreets$Age" (5 : Nat)) ∈ lw_all := lw_g (lw_at lw_m2 95 rfl) rfl
theorem q390 : (Jvm.Cond.instanceMethod ({ cls := "KindStreets$Age", name := "<init>", desc := "()V" } : Jvm.MethodName)) ∈ lw_all := lw_g (lw_at lw_m2 97 rfl) rfl
theorem q391 : (Jvm.Cond.code ({ cls := "KindStreets$Age", name := "<init>", desc := "()V" } : Jvm.MethodName) prog_2_method_1_code (1 : Nat) (Option.none : Option Jvm.ClassFile.FieldType)) ∈ lw_all := lw_g (lw_at lw_m2 98 rfl) rfl
theorem q392 : (Jvm.Cond.methodLink "KindStreets$Age" (3 : Nat) ({ cls := "java/lang/Object", name := "<init>", desc := "()V" } : Jvm.MethodName)) ∈ lw_all := lw_g (lw_at lw_m2 99 rfl) rfl
theorem q393 : (Jvm.Cond.fieldLink "KindStreets$Age" (9 : Nat) "KindStreets$Age" "seen" "[B") ∈ lw_all := lw_g (lw_at lw_m2 100 rfl) rfl
theorem q395 : (Jvm.Cond.fieldLink "KindStreets$Age" (15 : Nat) "KindStreets$Age" "hidden" "[B") ∈ lw_all := lw_g (lw_at lw_m2 102 rfl) rfl
theorem q398 : (Jvm.Cond.fieldLink "KindStreets$Age" (18 : Nat) "KindStreets$Age" "faked" "[B") ∈ lw_all := lw_g (lw_at lw_m2 105 rfl) rfl
theorem q400 : (Jvm.Cond.fieldLink "KindStreets$Age" (21 : Nat) "KindStreets$Age" "home" "[I") ∈ lw_all := lw_g (lw_at lw_m2 107 rfl) rfl
theorem q402 : (Jvm.Cond.fieldLink "KindStreets$Age" (37 : Nat) "KindStreets$Age" "isNight" "Z") ∈ lw_all := lw_g (lw_at lw_m2 109 rfl) rfl
theorem q404 : (Jvm.Cond.laysFinal "KindStreets$Age" "KindStreets$Age" "seen" "[B") ∈ lw_all := lw_g (lw_at lw_m2 111 rfl) rfl
theorem q405 : (Jvm.Cond.soleField "KindStreets$Age" "seen") ∈ lw_all := lw_g (lw_at lw_m2 112 rfl) rfl
theorem q406 : (Jvm.Cond.laysFinal "KindStreets$Age" "KindStreets$Age" "hidden" "[B") ∈ lw_all := lw_g (lw_at lw_m2 113 rfl) rfl
theorem q407 : (Jvm.Cond.soleField "KindStreets$Age" "hidden") ∈ lw_all := lw_g (lw_at lw_m2 114 rfl) rfl
theorem q408 : (Jvm.Cond.laysFinal "KindStreets$Age" "KindStreets$Age" "faked" "[B") ∈ lw_all := lw_g (lw_at lw_m2 115 rfl) rfl
theorem q409 : (Jvm.Cond.soleField "KindStreets$Age" "faked") ∈ lw_all := lw_g (lw_at lw_m2 116 rfl) rfl
theorem q410 : (Jvm.Cond.laysFinal "KindStreets$Age" "KindStreets$Age" "home" "[I") ∈ lw_all := lw_g (lw_at lw_m2 117 rfl) rfl
theorem q411 : (Jvm.Cond.soleField "KindStreets$Age" "home") ∈ lw_all := lw_g (lw_at lw_m2 118 rfl) rfl
theorem q412 : (Jvm.Cond.lays "KindStreets$Age" "KindStreets$Age" "isNight" "Z") ∈ lw_all := lw_g (lw_at lw_m2 119 rfl) rfl
theorem q413 : (Jvm.Cond.soleField "KindStreets$Age" "isNight") ∈ lw_all := lw_g (lw_at lw_m2 120 rfl) rfl
theorem q414 : (Jvm.Cond.superclass "KindStreets$Age" "java/lang/Object") ∈ lw_all := lw_g (lw_at lw_m2 121 rfl) rfl
theorem q564 : (Jvm.Cond.instanceMethod ({ cls := "KindStreets$Age", name := "width", desc := "(I)I" } : Jvm.MethodName)) ∈ lw_all := lw_g (lw_at lw_m3 31 rfl) rfl
theorem q565 : (Jvm.Cond.selects "KindStreets$Age" ({ cls := "KindStreets$Age", name := "width", desc := "(I)I" } : Jvm.MethodName) ({ cls := "KindStreets$Age", name := "width", desc := "(I)I" } : Jvm.MethodName)) ∈ lw_all := lw_g (lw_at lw_m3 32 rfl) rfl
theorem q566 : (Jvm.Cond.code ({ cls := "KindStreets$Age", name := "width", desc := "(I)I" } : Jvm.MethodName) prog_2_method_4_code (2 : Nat) (Option.some Jvm.ClassFile.FieldType.int)) ∈ lw_all := lw_g (lw_at lw_m3 33 rfl) rfl
theorem q567 : (Jvm.Cond.methodLink "KindStreets$Age" (41 : Nat) ({ cls := "java/lang/Math", name := "max", desc := "(II)I" } : Jvm.MethodName)) ∈ lw_all := lw_g (lw_at lw_m3 34 rfl) rfl
theorem q569 : (Jvm.Cond.instanceMethod ({ cls := "KindStreets$Age", name := "living", desc := "(LKindStreets$Town;I)I" } : Jvm.MethodName)) ∈ lw_all := lw_g (lw_at lw_m3 36 rfl) rfl
theorem q570 : (Jvm.Cond.selects "KindStreets$Age" ({ cls := "KindStreets$Age", name := "living", desc := "(LKindStreets$Town;I)I" } : Jvm.MethodName) ({ cls := "KindStreets$Age", name := "living", desc := "(LKindStreets$Town;I)I" } : Jvm.MethodName)) ∈ lw_all := lw_g (lw_at lw_m3 37 rfl) rfl
theorem q571 : (Jvm.Cond.code ({ cls := "KindStreets$Age", name := "living", desc := "(LKindStreets$Town;I)I" } : Jvm.MethodName) prog_2_method_5_code (5 : Nat) (Option.some Jvm.ClassFile.FieldType.int)) ∈ lw_all := lw_g (lw_at lw_m3 38 rfl) rfl
theorem q581 : (Jvm.Cond.instanceMethod ({ cls := "KindStreets$Age", name := "witnesses", desc := "(LKindStreets$Town;I)I" } : Jvm.MethodName)) ∈ lw_all := lw_g (lw_at lw_m3 48 rfl) rfl
theorem q582 : (Jvm.Cond.selects "KindStreets$Age" ({ cls := "KindStreets$Age", name := "witnesses", desc := "(LKindStreets$Town;I)I" } : Jvm.MethodName) ({ cls := "KindStreets$Age", name := "witnesses", desc := "(LKindStreets$Town;I)I" } : Jvm.MethodName)) ∈ lw_all := lw_g (lw_at lw_m3 49 rfl) rfl
theorem q583 : (Jvm.Cond.code ({ cls := "KindStreets$Age", name := "witnesses", desc := "(LKindStreets$Town;I)I" } : Jvm.MethodName) prog_2_method_6_code (5 : Nat) (Option.some Jvm.ClassFile.FieldType.int)) ∈ lw_all := lw_g (lw_at lw_m3 50 rfl) rfl
theorem q584 : (Jvm.Cond.methodLink "KindStreets$Age" (51 : Nat) ({ cls := "KindStreets$Town", name := "meet", desc := "(II)Z" } : Jvm.MethodName)) ∈ lw_all := lw_g (lw_at lw_m3 51 rfl) rfl
theorem q601 : (Jvm.Cond.instanceMethod ({ cls := "KindStreets$Age", name := "copy", desc := "(LKindStreets$Age;)V" } : Jvm.MethodName)) ∈ lw_all := lw_g (lw_at lw_m3 68 rfl) rfl
theorem q602 : (Jvm.Cond.selects "KindStreets$Age" ({ cls := "KindStreets$Age", name := "copy", desc := "(LKindStreets$Age;)V" } : Jvm.MethodName) ({ cls := "KindStreets$Age", name := "copy", desc := "(LKindStreets$Age;)V" } : Jvm.MethodName)) ∈ lw_all := lw_g (lw_at lw_m3 69 rfl) rfl
theorem q603 : (Jvm.Cond.code ({ cls := "KindStreets$Age", name := "copy", desc := "(LKindStreets$Age;)V" } : Jvm.MethodName) prog_2_method_3_code (2 : Nat) (Option.none : Option Jvm.ClassFile.FieldType)) ∈ lw_all := lw_g (lw_at lw_m3 70 rfl) rfl
theorem in_X3 : ∀ w ∈ wsX30, w ∈ lw_all := lw_in wsX30 [404, 406, 408, 410, 412] (by decide +kernel) (by decide +kernel)

/-! KindStreets$Image -/
set_option maxRecDepth 100000
def RX4 : String := "KindStreets$Image"
def TX4 : u_T := fun k => match k with
  | 0 => ("KindStreets$Image", "age", "LKindStreets$Age;", true)
  | 1 => ("KindStreets$Image", "before", "[LKindStreets$Age;", true)
  | 2 => ("KindStreets$Image", "undos", "I", false)
  | _ => ("KindStreets$Image", "isKept", "Z", false)
def tyX4 : Nat → FieldType := fun k => match k with
  | 0 => .object "KindStreets$Age"
  | 1 => .array (.object "KindStreets$Age")
  | 2 => .int
  | _ => .boolean
abbrev wsX40 : List Cond := u_ws RX4 TX4 4
theorem nmX4 : ∀ a, a < 4 → ∀ b, b < 4 → a ≠ b → (TX4 a).2.1 ≠ (TX4 b).2.1 := by decide +kernel
theorem tyX4_ok : ∀ k, k < 4 → parseFieldDescriptor (TX4 k).2.2.1 = some (tyX4 k) := by decide +kernel
abbrev cX4_init : ByteArray := prog_8_method_1_code
def yX4_init : MethodName := ⟨RX4, "<init>", "()V"⟩
def dkwX4_init_2 : List UInt8 := [167, 255, 234, 177]
abbrev dktX4_init_2 : List UInt8 := dkwX4_init_2 ++ []
def dkwX4_init_1 : List UInt8 := [3, 60, 27, 16, 10, 162, 0, 22, 42, 180, 0, 18, 27, 187, 0, 9, 89, 183, 0, 11, 83, 132, 1, 1]
abbrev dktX4_init_1 : List UInt8 := dkwX4_init_1 ++ dktX4_init_2
def dkwX4_init_0 : List UInt8 := [42, 183, 0, 3, 42, 187, 0, 9, 89, 183, 0, 11, 181, 0, 12, 42, 16, 10, 189, 0, 9, 181, 0, 18]
abbrev dktX4_init_0 : List UInt8 := dkwX4_init_0 ++ dktX4_init_1
theorem dksX4_init_0 : cX4_init.data.toList.drop 0 = dktX4_init_0 := by decide +kernel
theorem dksX4_init_1 : cX4_init.data.toList.drop 24 = dktX4_init_1 := dk_seg dksX4_init_0 24 rfl rfl
theorem dksX4_init_2 : cX4_init.data.toList.drop 48 = dktX4_init_2 := dk_seg dksX4_init_1 24 rfl rfl
theorem dX4_init_0 : decode cX4_init 0 = .ok (.aload_n 0, 1) := dk_42 (dk_at dksX4_init_0 0 rfl rfl)
theorem dX4_init_1 : decode cX4_init 1 = .ok (.invokespecial 3, 3) := dk_183 0 3 (dk_at dksX4_init_0 1 rfl rfl)
theorem dX4_init_4 : decode cX4_init 4 = .ok (.aload_n 0, 1) := dk_42 (dk_at dksX4_init_0 4 rfl rfl)
theorem dX4_init_5 : decode cX4_init 5 = .ok (.new 9, 3) := dk_187 0 9 (dk_at dksX4_init_0 5 rfl rfl)
theorem dX4_init_8 : decode cX4_init 8 = .ok (.dup, 1) := dk_89 (dk_at dksX4_init_0 8 rfl rfl)
theorem dX4_init_9 : decode cX4_init 9 = .ok (.invokespecial 11, 3) := dk_183 0 11 (dk_at dksX4_init_0 9 rfl rfl)
theorem dX4_init_12 : decode cX4_init 12 = .ok (.putfield 12, 3) := dk_181 0 12 (dk_at dksX4_init_0 12 rfl rfl)
theorem dX4_init_15 : decode cX4_init 15 = .ok (.aload_n 0, 1) := dk_42 (dk_at dksX4_init_0 15 rfl rfl)
theorem dX4_init_16 : decode cX4_init 16 = .ok (.bipush 10, 2) := dk_16 10 (dk_at dksX4_init_0 16 rfl rfl)
theorem dX4_init_18 : decode cX4_init 18 = .ok (.anewarray 9, 3) := dk_189 0 9 (dk_at dksX4_init_0 18 rfl rfl)
theorem dX4_init_21 : decode cX4_init 21 = .ok (.putfield 18, 3) := dk_181 0 18 (dk_at dksX4_init_0 21 rfl rfl)
theorem dX4_init_24 : decode cX4_init 24 = .ok (.iconst 0, 1) := dk_3 (dk_at dksX4_init_1 0 rfl rfl)
theorem dX4_init_25 : decode cX4_init 25 = .ok (.istore_n 1, 1) := dk_60 (dk_at dksX4_init_1 1 rfl rfl)
theorem dX4_init_26 : decode cX4_init 26 = .ok (.iload_n 1, 1) := dk_27 (dk_at dksX4_init_1 2 rfl rfl)
theorem dX4_init_27 : decode cX4_init 27 = .ok (.bipush 10, 2) := dk_16 10 (dk_at dksX4_init_1 3 rfl rfl)
theorem dX4_init_29 : decode cX4_init 29 = .ok (.if_icmp .ge 22, 3) := dk_162 0 22 (dk_at dksX4_init_1 5 rfl rfl)
theorem dX4_init_32 : decode cX4_init 32 = .ok (.aload_n 0, 1) := dk_42 (dk_at dksX4_init_1 8 rfl rfl)
theorem dX4_init_33 : decode cX4_init 33 = .ok (.getfield 18, 3) := dk_180 0 18 (dk_at dksX4_init_1 9 rfl rfl)
theorem dX4_init_36 : decode cX4_init 36 = .ok (.iload_n 1, 1) := dk_27 (dk_at dksX4_init_1 12 rfl rfl)
theorem dX4_init_37 : decode cX4_init 37 = .ok (.new 9, 3) := dk_187 0 9 (dk_at dksX4_init_1 13 rfl rfl)
theorem dX4_init_40 : decode cX4_init 40 = .ok (.dup, 1) := dk_89 (dk_at dksX4_init_1 16 rfl rfl)
theorem dX4_init_41 : decode cX4_init 41 = .ok (.invokespecial 11, 3) := dk_183 0 11 (dk_at dksX4_init_1 17 rfl rfl)
theorem dX4_init_44 : decode cX4_init 44 = .ok (.aastore, 1) := dk_83 (dk_at dksX4_init_1 20 rfl rfl)
theorem dX4_init_45 : decode cX4_init 45 = .ok (.iinc 1 1, 3) := dk_132 1 1 (dk_at dksX4_init_1 21 rfl rfl)
theorem dX4_init_48 : decode cX4_init 48 = .ok (.goto (-22), 3) := dk_167 255 234 (dk_at dksX4_init_2 0 rfl rfl)
theorem dX4_init_51 : decode cX4_init 51 = .ok (.return_, 1) := dk_177 (dk_at dksX4_init_2 3 rfl rfl)
theorem q58 : (Jvm.Cond.initialized "KindStreets$Image") ∈ lw_all := lw_g (lw_at lw_m1 5 rfl) rfl
theorem q418 : (Jvm.Cond.instantiable "KindStreets$Image" (4 : Nat)) ∈ lw_all := lw_g (lw_at lw_m2 125 rfl) rfl
theorem q420 : (Jvm.Cond.instanceMethod ({ cls := "KindStreets$Image", name := "<init>", desc := "()V" } : Jvm.MethodName)) ∈ lw_all := lw_g (lw_at lw_m2 127 rfl) rfl
theorem q421 : (Jvm.Cond.code ({ cls := "KindStreets$Image", name := "<init>", desc := "()V" } : Jvm.MethodName) prog_8_method_1_code (2 : Nat) (Option.none : Option Jvm.ClassFile.FieldType)) ∈ lw_all := lw_g (lw_at lw_m2 128 rfl) rfl
theorem q422 : (Jvm.Cond.methodLink "KindStreets$Image" (3 : Nat) ({ cls := "java/lang/Object", name := "<init>", desc := "()V" } : Jvm.MethodName)) ∈ lw_all := lw_g (lw_at lw_m2 129 rfl) rfl
theorem q423 : (Jvm.Cond.classLink "KindStreets$Image" (9 : Nat) "KindStreets$Age") ∈ lw_all := lw_g (lw_at lw_m2 130 rfl) rfl
theorem q424 : (Jvm.Cond.methodLinkNest "KindStreets$Image" (11 : Nat) ({ cls := "KindStreets$Age", name := "<init>", desc := "()V" } : Jvm.MethodName) "KindStreets") ∈ lw_tbl := lw_at lw_m2 131 rfl
theorem q425 : (Jvm.Cond.fieldLink "KindStreets$Image" (12 : Nat) "KindStreets$Image" "age" "LKindStreets$Age;") ∈ lw_all := lw_g (lw_at lw_m2 132 rfl) rfl
theorem q427 : (Jvm.Cond.fieldLink "KindStreets$Image" (18 : Nat) "KindStreets$Image" "before" "[LKindStreets$Age;") ∈ lw_all := lw_g (lw_at lw_m2 134 rfl) rfl
theorem q431 : (Jvm.Cond.laysFinal "KindStreets$Image" "KindStreets$Image" "age" "LKindStreets$Age;") ∈ lw_all := lw_g (lw_at lw_m2 138 rfl) rfl
theorem q432 : (Jvm.Cond.soleField "KindStreets$Image" "age") ∈ lw_all := lw_g (lw_at lw_m2 139 rfl) rfl
theorem q433 : (Jvm.Cond.laysFinal "KindStreets$Image" "KindStreets$Image" "before" "[LKindStreets$Age;") ∈ lw_all := lw_g (lw_at lw_m2 140 rfl) rfl
theorem q434 : (Jvm.Cond.soleField "KindStreets$Image" "before") ∈ lw_all := lw_g (lw_at lw_m2 141 rfl) rfl
theorem q435 : (Jvm.Cond.lays "KindStreets$Image" "KindStreets$Image" "undos" "I") ∈ lw_all := lw_g (lw_at lw_m2 142 rfl) rfl
theorem q436 : (Jvm.Cond.soleField "KindStreets$Image" "undos") ∈ lw_all := lw_g (lw_at lw_m2 143 rfl) rfl
theorem q437 : (Jvm.Cond.lays "KindStreets$Image" "KindStreets$Image" "isKept" "Z") ∈ lw_all := lw_g (lw_at lw_m2 144 rfl) rfl
theorem q438 : (Jvm.Cond.soleField "KindStreets$Image" "isKept") ∈ lw_all := lw_g (lw_at lw_m2 145 rfl) rfl
theorem q439 : (Jvm.Cond.superclass "KindStreets$Image" "java/lang/Object") ∈ lw_all := lw_g (lw_at lw_m2 146 rfl) rfl
theorem in_X4 : ∀ w ∈ wsX40, w ∈ lw_all := lw_in wsX40 [431, 433, 435, 437] (by decide +kernel) (by decide +kernel)

/-! KindStreets$Plain -/
set_option maxRecDepth 100000
def RX5 : String := "KindStreets$Plain"
abbrev cX5_init : ByteArray := prog_10_method_1_code
def yX5_init : MethodName := ⟨RX5, "<init>", "()V"⟩
theorem dX5_init_0 : decode cX5_init 0 = .ok (.aload_n 0, 1) := by decide +kernel
theorem dX5_init_1 : decode cX5_init 1 = .ok (.invokespecial 1, 3) := by decide +kernel
theorem dX5_init_4 : decode cX5_init 4 = .ok (.return_, 1) := by decide +kernel
abbrev cX5_mark : ByteArray := prog_10_method_2_code
def yX5_mark : MethodName := ⟨RX5, "mark", "(LKindStreets;I)I"⟩
def dkwX5_mark_0 : List UInt8 := [43, 89, 180, 0, 7, 10, 97, 181, 0, 7, 43, 180, 0, 13, 28, 182, 0, 17, 172]
abbrev dktX5_mark_0 : List UInt8 := dkwX5_mark_0 ++ []
theorem dksX5_mark_0 : cX5_mark.data.toList.drop 0 = dktX5_mark_0 := by decide +kernel
theorem dX5_mark_0 : decode cX5_mark 0 = .ok (.aload_n 1, 1) := dk_43 (dk_at dksX5_mark_0 0 rfl rfl)
theorem dX5_mark_1 : decode cX5_mark 1 = .ok (.dup, 1) := dk_89 (dk_at dksX5_mark_0 1 rfl rfl)
theorem dX5_mark_2 : decode cX5_mark 2 = .ok (.getfield 7, 3) := dk_180 0 7 (dk_at dksX5_mark_0 2 rfl rfl)
theorem dX5_mark_5 : decode cX5_mark 5 = .ok (.lconst 1, 1) := dk_10 (dk_at dksX5_mark_0 5 rfl rfl)
theorem dX5_mark_6 : decode cX5_mark 6 = .ok (.ladd, 1) := dk_97 (dk_at dksX5_mark_0 6 rfl rfl)
theorem dX5_mark_7 : decode cX5_mark 7 = .ok (.putfield 7, 3) := dk_181 0 7 (dk_at dksX5_mark_0 7 rfl rfl)
theorem dX5_mark_10 : decode cX5_mark 10 = .ok (.aload_n 1, 1) := dk_43 (dk_at dksX5_mark_0 10 rfl rfl)
theorem dX5_mark_11 : decode cX5_mark 11 = .ok (.getfield 13, 3) := dk_180 0 13 (dk_at dksX5_mark_0 11 rfl rfl)
theorem dX5_mark_14 : decode cX5_mark 14 = .ok (.iload_n 2, 1) := dk_28 (dk_at dksX5_mark_0 14 rfl rfl)
theorem dX5_mark_15 : decode cX5_mark 15 = .ok (.invokevirtual 17, 3) := dk_182 0 17 (dk_at dksX5_mark_0 15 rfl rfl)
theorem dX5_mark_18 : decode cX5_mark 18 = .ok (.ireturn, 1) := dk_172 (dk_at dksX5_mark_0 18 rfl rfl)
theorem q59 : (Jvm.Cond.initialized "KindStreets$Plain") ∈ lw_all := lw_g (lw_at lw_m1 6 rfl) rfl
theorem q442 : (Jvm.Cond.instantiable "KindStreets$Plain" (0 : Nat)) ∈ lw_all := lw_g (lw_at lw_m2 149 rfl) rfl
theorem q444 : (Jvm.Cond.instanceMethod ({ cls := "KindStreets$Plain", name := "<init>", desc := "()V" } : Jvm.MethodName)) ∈ lw_all := lw_g (lw_at lw_m2 151 rfl) rfl
theorem q445 : (Jvm.Cond.code ({ cls := "KindStreets$Plain", name := "<init>", desc := "()V" } : Jvm.MethodName) prog_10_method_1_code (1 : Nat) (Option.none : Option Jvm.ClassFile.FieldType)) ∈ lw_all := lw_g (lw_at lw_m2 152 rfl) rfl
theorem q446 : (Jvm.Cond.methodLink "KindStreets$Plain" (1 : Nat) ({ cls := "java/lang/Object", name := "<init>", desc := "()V" } : Jvm.MethodName)) ∈ lw_all := lw_g (lw_at lw_m2 153 rfl) rfl
theorem q447 : (Jvm.Cond.superclass "KindStreets$Plain" "java/lang/Object") ∈ lw_all := lw_g (lw_at lw_m2 154 rfl) rfl
theorem q493 : (Jvm.Cond.fieldLinkNest "KindStreets$Plain" (13 : Nat) "KindStreets" "now" "LKindStreets$Age;" "KindStreets") ∈ lw_tbl := lw_at lw_m2 200 rfl
theorem q509 : (Jvm.Cond.fieldLinkNest "KindStreets$Plain" (7 : Nat) "KindStreets" "trace" "J" "KindStreets") ∈ lw_tbl := lw_at lw_m2 216 rfl
theorem q765 : (Jvm.Cond.instanceMethod ({ cls := "KindStreets$Plain", name := "mark", desc := "(LKindStreets;I)I" } : Jvm.MethodName)) ∈ lw_all := lw_g (lw_at lw_m3 232 rfl) rfl
theorem q766 : (Jvm.Cond.selects "KindStreets$Plain" ({ cls := "KindStreets$Plain", name := "mark", desc := "(LKindStreets;I)I" } : Jvm.MethodName) ({ cls := "KindStreets$Plain", name := "mark", desc := "(LKindStreets;I)I" } : Jvm.MethodName)) ∈ lw_all := lw_g (lw_at lw_m3 233 rfl) rfl
theorem q767 : (Jvm.Cond.sameMethod "KindStreets$Plain" "KindStreets$Plain" "mark" "(LKindStreets;I)I") ∈ lw_all := lw_g (lw_at lw_m3 234 rfl) rfl
theorem q800 : (Jvm.Cond.code ({ cls := "KindStreets$Plain", name := "mark", desc := "(LKindStreets;I)I" } : Jvm.MethodName) prog_10_method_2_code (3 : Nat) (Option.some Jvm.ClassFile.FieldType.int)) ∈ lw_all := lw_g (lw_at lw_m4 27 rfl) rfl
theorem q801 : (Jvm.Cond.methodLink "KindStreets$Plain" (17 : Nat) ({ cls := "KindStreets$Age", name := "width", desc := "(I)I" } : Jvm.MethodName)) ∈ lw_all := lw_g (lw_at lw_m4 28 rfl) rfl

/-! KindStreets$Cross -/
set_option maxRecDepth 100000
def RX6 : String := "KindStreets$Cross"
abbrev cX6_init : ByteArray := prog_6_method_1_code
def yX6_init : MethodName := ⟨RX6, "<init>", "()V"⟩
theorem dX6_init_0 : decode cX6_init 0 = .ok (.aload_n 0, 1) := by decide +kernel
theorem dX6_init_1 : decode cX6_init 1 = .ok (.invokespecial 1, 3) := by decide +kernel
theorem dX6_init_4 : decode cX6_init 4 = .ok (.return_, 1) := by decide +kernel
abbrev cX6_mark : ByteArray := prog_6_method_2_code
def yX6_mark : MethodName := ⟨RX6, "mark", "(LKindStreets;I)I"⟩
def dkwX6_mark_1 : List UInt8 := [180, 0, 23, 28, 182, 0, 27, 184, 0, 33, 96, 172]
abbrev dktX6_mark_1 : List UInt8 := dkwX6_mark_1 ++ []
def dkwX6_mark_0 : List UInt8 := [43, 89, 180, 0, 7, 20, 0, 13, 97, 181, 0, 7, 42, 43, 28, 183, 0, 15, 43, 180, 0, 19, 43]
abbrev dktX6_mark_0 : List UInt8 := dkwX6_mark_0 ++ dktX6_mark_1
theorem dksX6_mark_0 : cX6_mark.data.toList.drop 0 = dktX6_mark_0 := by decide +kernel
theorem dksX6_mark_1 : cX6_mark.data.toList.drop 23 = dktX6_mark_1 := dk_seg dksX6_mark_0 23 rfl rfl
theorem dX6_mark_0 : decode cX6_mark 0 = .ok (.aload_n 1, 1) := dk_43 (dk_at dksX6_mark_0 0 rfl rfl)
theorem dX6_mark_1 : decode cX6_mark 1 = .ok (.dup, 1) := dk_89 (dk_at dksX6_mark_0 1 rfl rfl)
theorem dX6_mark_2 : decode cX6_mark 2 = .ok (.getfield 7, 3) := dk_180 0 7 (dk_at dksX6_mark_0 2 rfl rfl)
theorem dX6_mark_5 : decode cX6_mark 5 = .ok (.ldc2_w 13, 3) := dk_20 0 13 (dk_at dksX6_mark_0 5 rfl rfl)
theorem dX6_mark_8 : decode cX6_mark 8 = .ok (.ladd, 1) := dk_97 (dk_at dksX6_mark_0 8 rfl rfl)
theorem dX6_mark_9 : decode cX6_mark 9 = .ok (.putfield 7, 3) := dk_181 0 7 (dk_at dksX6_mark_0 9 rfl rfl)
theorem dX6_mark_12 : decode cX6_mark 12 = .ok (.aload_n 0, 1) := dk_42 (dk_at dksX6_mark_0 12 rfl rfl)
theorem dX6_mark_13 : decode cX6_mark 13 = .ok (.aload_n 1, 1) := dk_43 (dk_at dksX6_mark_0 13 rfl rfl)
theorem dX6_mark_14 : decode cX6_mark 14 = .ok (.iload_n 2, 1) := dk_28 (dk_at dksX6_mark_0 14 rfl rfl)
theorem dX6_mark_15 : decode cX6_mark 15 = .ok (.invokespecial 15, 3) := dk_183 0 15 (dk_at dksX6_mark_0 15 rfl rfl)
theorem dX6_mark_18 : decode cX6_mark 18 = .ok (.aload_n 1, 1) := dk_43 (dk_at dksX6_mark_0 18 rfl rfl)
theorem dX6_mark_19 : decode cX6_mark 19 = .ok (.getfield 19, 3) := dk_180 0 19 (dk_at dksX6_mark_0 19 rfl rfl)
theorem dX6_mark_22 : decode cX6_mark 22 = .ok (.aload_n 1, 1) := dk_43 (dk_at dksX6_mark_0 22 rfl rfl)
theorem dX6_mark_23 : decode cX6_mark 23 = .ok (.getfield 23, 3) := dk_180 0 23 (dk_at dksX6_mark_1 0 rfl rfl)
theorem dX6_mark_26 : decode cX6_mark 26 = .ok (.iload_n 2, 1) := dk_28 (dk_at dksX6_mark_1 3 rfl rfl)
theorem dX6_mark_27 : decode cX6_mark 27 = .ok (.invokevirtual 27, 3) := dk_182 0 27 (dk_at dksX6_mark_1 4 rfl rfl)
theorem dX6_mark_30 : decode cX6_mark 30 = .ok (.invokestatic 33, 3) := dk_184 0 33 (dk_at dksX6_mark_1 7 rfl rfl)
theorem dX6_mark_33 : decode cX6_mark 33 = .ok (.iadd, 1) := dk_96 (dk_at dksX6_mark_1 10 rfl rfl)
theorem dX6_mark_34 : decode cX6_mark 34 = .ok (.ireturn, 1) := dk_172 (dk_at dksX6_mark_1 11 rfl rfl)
theorem q60 : (Jvm.Cond.initialized "KindStreets$Cross") ∈ lw_all := lw_g (lw_at lw_m1 7 rfl) rfl
theorem q450 : (Jvm.Cond.instantiable "KindStreets$Cross" (0 : Nat)) ∈ lw_all := lw_g (lw_at lw_m2 157 rfl) rfl
theorem q452 : (Jvm.Cond.instanceMethod ({ cls := "KindStreets$Cross", name := "<init>", desc := "()V" } : Jvm.MethodName)) ∈ lw_all := lw_g (lw_at lw_m2 159 rfl) rfl
theorem q453 : (Jvm.Cond.code ({ cls := "KindStreets$Cross", name := "<init>", desc := "()V" } : Jvm.MethodName) prog_6_method_1_code (1 : Nat) (Option.none : Option Jvm.ClassFile.FieldType)) ∈ lw_all := lw_g (lw_at lw_m2 160 rfl) rfl
theorem q454 : (Jvm.Cond.methodLinkNest "KindStreets$Cross" (1 : Nat) ({ cls := "KindStreets$Plain", name := "<init>", desc := "()V" } : Jvm.MethodName) "KindStreets") ∈ lw_tbl := lw_at lw_m2 161 rfl
theorem q455 : (Jvm.Cond.superclass "KindStreets$Cross" "KindStreets$Plain") ∈ lw_all := lw_g (lw_at lw_m2 162 rfl) rfl
theorem q484 : (Jvm.Cond.fieldLinkNest "KindStreets$Cross" (23 : Nat) "KindStreets" "town" "LKindStreets$Town;" "KindStreets") ∈ lw_tbl := lw_at lw_m2 191 rfl
theorem q494 : (Jvm.Cond.fieldLinkNest "KindStreets$Cross" (19 : Nat) "KindStreets" "now" "LKindStreets$Age;" "KindStreets") ∈ lw_tbl := lw_at lw_m2 201 rfl
theorem q512 : (Jvm.Cond.fieldLinkNest "KindStreets$Cross" (7 : Nat) "KindStreets" "trace" "J" "KindStreets") ∈ lw_tbl := lw_at lw_m2 219 rfl
theorem q783 : (Jvm.Cond.instanceMethod ({ cls := "KindStreets$Cross", name := "mark", desc := "(LKindStreets;I)I" } : Jvm.MethodName)) ∈ lw_all := lw_g (lw_at lw_m4 10 rfl) rfl
theorem q784 : (Jvm.Cond.code ({ cls := "KindStreets$Cross", name := "mark", desc := "(LKindStreets;I)I" } : Jvm.MethodName) prog_6_method_2_code (3 : Nat) (Option.some Jvm.ClassFile.FieldType.int)) ∈ lw_all := lw_g (lw_at lw_m4 11 rfl) rfl
theorem q785 : (Jvm.Cond.constantLong "KindStreets$Cross" (13 : Nat) (10 : Int64)) ∈ lw_all := lw_g (lw_at lw_m4 12 rfl) rfl
theorem q786 : (Jvm.Cond.methodLink "KindStreets$Cross" (15 : Nat) ({ cls := "KindStreets$Plain", name := "mark", desc := "(LKindStreets;I)I" } : Jvm.MethodName)) ∈ lw_all := lw_g (lw_at lw_m4 13 rfl) rfl
theorem q787 : (Jvm.Cond.methodLink "KindStreets$Cross" (27 : Nat) ({ cls := "KindStreets$Age", name := "living", desc := "(LKindStreets$Town;I)I" } : Jvm.MethodName)) ∈ lw_all := lw_g (lw_at lw_m4 14 rfl) rfl
theorem q788 : (Jvm.Cond.methodLink "KindStreets$Cross" (33 : Nat) ({ cls := "java/lang/Integer", name := "bitCount", desc := "(I)I" } : Jvm.MethodName)) ∈ lw_all := lw_g (lw_at lw_m4 15 rfl) rfl
theorem q798 : (Jvm.Cond.selects "KindStreets$Cross" ({ cls := "KindStreets$Plain", name := "mark", desc := "(LKindStreets;I)I" } : Jvm.MethodName) ({ cls := "KindStreets$Cross", name := "mark", desc := "(LKindStreets;I)I" } : Jvm.MethodName)) ∈ lw_all := lw_g (lw_at lw_m4 25 rfl) rfl
theorem q1122 : (Jvm.Cond.sameMethod "KindStreets$Cross" "KindStreets$Cross" "mark" "(LKindStreets;I)I") ∈ lw_all := lw_g (lw_at lw_m5 109 rfl) rfl
theorem q1124 : (Jvm.Cond.castable "KindStreets$Cross" "KindStreets$Plain") ∈ lw_tbl := lw_at lw_m5 111 rfl

/-! KindStreets$Lane -/
set_option maxRecDepth 100000
def RX7 : String := "KindStreets$Lane"
abbrev cX7_init : ByteArray := prog_9_method_1_code
def yX7_init : MethodName := ⟨RX7, "<init>", "()V"⟩
theorem dX7_init_0 : decode cX7_init 0 = .ok (.aload_n 0, 1) := by decide +kernel
theorem dX7_init_1 : decode cX7_init 1 = .ok (.invokespecial 1, 3) := by decide +kernel
theorem dX7_init_4 : decode cX7_init 4 = .ok (.return_, 1) := by decide +kernel
abbrev cX7_mark : ByteArray := prog_9_method_2_code
def yX7_mark : MethodName := ⟨RX7, "mark", "(LKindStreets;I)I"⟩
def dkwX7_mark_1 : List UInt8 := [180, 0, 23, 28, 51, 100, 172]
abbrev dktX7_mark_1 : List UInt8 := dkwX7_mark_1 ++ []
def dkwX7_mark_0 : List UInt8 := [43, 89, 180, 0, 7, 20, 0, 13, 97, 181, 0, 7, 42, 43, 28, 183, 0, 15, 43, 180, 0, 19]
abbrev dktX7_mark_0 : List UInt8 := dkwX7_mark_0 ++ dktX7_mark_1
theorem dksX7_mark_0 : cX7_mark.data.toList.drop 0 = dktX7_mark_0 := by decide +kernel
theorem dksX7_mark_1 : cX7_mark.data.toList.drop 22 = dktX7_mark_1 := dk_seg dksX7_mark_0 22 rfl rfl
theorem dX7_mark_0 : decode cX7_mark 0 = .ok (.aload_n 1, 1) := dk_43 (dk_at dksX7_mark_0 0 rfl rfl)
theorem dX7_mark_1 : decode cX7_mark 1 = .ok (.dup, 1) := dk_89 (dk_at dksX7_mark_0 1 rfl rfl)
theorem dX7_mark_2 : decode cX7_mark 2 = .ok (.getfield 7, 3) := dk_180 0 7 (dk_at dksX7_mark_0 2 rfl rfl)
theorem dX7_mark_5 : decode cX7_mark 5 = .ok (.ldc2_w 13, 3) := dk_20 0 13 (dk_at dksX7_mark_0 5 rfl rfl)
theorem dX7_mark_8 : decode cX7_mark 8 = .ok (.ladd, 1) := dk_97 (dk_at dksX7_mark_0 8 rfl rfl)
theorem dX7_mark_9 : decode cX7_mark 9 = .ok (.putfield 7, 3) := dk_181 0 7 (dk_at dksX7_mark_0 9 rfl rfl)
theorem dX7_mark_12 : decode cX7_mark 12 = .ok (.aload_n 0, 1) := dk_42 (dk_at dksX7_mark_0 12 rfl rfl)
theorem dX7_mark_13 : decode cX7_mark 13 = .ok (.aload_n 1, 1) := dk_43 (dk_at dksX7_mark_0 13 rfl rfl)
theorem dX7_mark_14 : decode cX7_mark 14 = .ok (.iload_n 2, 1) := dk_28 (dk_at dksX7_mark_0 14 rfl rfl)
theorem dX7_mark_15 : decode cX7_mark 15 = .ok (.invokespecial 15, 3) := dk_183 0 15 (dk_at dksX7_mark_0 15 rfl rfl)
theorem dX7_mark_18 : decode cX7_mark 18 = .ok (.aload_n 1, 1) := dk_43 (dk_at dksX7_mark_0 18 rfl rfl)
theorem dX7_mark_19 : decode cX7_mark 19 = .ok (.getfield 19, 3) := dk_180 0 19 (dk_at dksX7_mark_0 19 rfl rfl)
theorem dX7_mark_22 : decode cX7_mark 22 = .ok (.getfield 23, 3) := dk_180 0 23 (dk_at dksX7_mark_1 0 rfl rfl)
theorem dX7_mark_25 : decode cX7_mark 25 = .ok (.iload_n 2, 1) := dk_28 (dk_at dksX7_mark_1 3 rfl rfl)
theorem dX7_mark_26 : decode cX7_mark 26 = .ok (.baload, 1) := dk_51 (dk_at dksX7_mark_1 4 rfl rfl)
theorem dX7_mark_27 : decode cX7_mark 27 = .ok (.isub, 1) := dk_100 (dk_at dksX7_mark_1 5 rfl rfl)
theorem dX7_mark_28 : decode cX7_mark 28 = .ok (.ireturn, 1) := dk_172 (dk_at dksX7_mark_1 6 rfl rfl)
theorem q61 : (Jvm.Cond.initialized "KindStreets$Lane") ∈ lw_all := lw_g (lw_at lw_m1 8 rfl) rfl
theorem q396 : (Jvm.Cond.fieldLinkNest "KindStreets$Lane" (23 : Nat) "KindStreets$Age" "hidden" "[B" "KindStreets") ∈ lw_tbl := lw_at lw_m2 103 rfl
theorem q457 : (Jvm.Cond.instantiable "KindStreets$Lane" (0 : Nat)) ∈ lw_all := lw_g (lw_at lw_m2 164 rfl) rfl
theorem q459 : (Jvm.Cond.instanceMethod ({ cls := "KindStreets$Lane", name := "<init>", desc := "()V" } : Jvm.MethodName)) ∈ lw_all := lw_g (lw_at lw_m2 166 rfl) rfl
theorem q460 : (Jvm.Cond.code ({ cls := "KindStreets$Lane", name := "<init>", desc := "()V" } : Jvm.MethodName) prog_9_method_1_code (1 : Nat) (Option.none : Option Jvm.ClassFile.FieldType)) ∈ lw_all := lw_g (lw_at lw_m2 167 rfl) rfl
theorem q461 : (Jvm.Cond.methodLinkNest "KindStreets$Lane" (1 : Nat) ({ cls := "KindStreets$Plain", name := "<init>", desc := "()V" } : Jvm.MethodName) "KindStreets") ∈ lw_tbl := lw_at lw_m2 168 rfl
theorem q462 : (Jvm.Cond.superclass "KindStreets$Lane" "KindStreets$Plain") ∈ lw_all := lw_g (lw_at lw_m2 169 rfl) rfl
theorem q495 : (Jvm.Cond.fieldLinkNest "KindStreets$Lane" (19 : Nat) "KindStreets" "now" "LKindStreets$Age;" "KindStreets") ∈ lw_tbl := lw_at lw_m2 202 rfl
theorem q514 : (Jvm.Cond.fieldLinkNest "KindStreets$Lane" (7 : Nat) "KindStreets" "trace" "J" "KindStreets") ∈ lw_tbl := lw_at lw_m2 221 rfl
theorem q794 : (Jvm.Cond.instanceMethod ({ cls := "KindStreets$Lane", name := "mark", desc := "(LKindStreets;I)I" } : Jvm.MethodName)) ∈ lw_all := lw_g (lw_at lw_m4 21 rfl) rfl
theorem q795 : (Jvm.Cond.code ({ cls := "KindStreets$Lane", name := "mark", desc := "(LKindStreets;I)I" } : Jvm.MethodName) prog_9_method_2_code (3 : Nat) (Option.some Jvm.ClassFile.FieldType.int)) ∈ lw_all := lw_g (lw_at lw_m4 22 rfl) rfl
theorem q796 : (Jvm.Cond.constantLong "KindStreets$Lane" (13 : Nat) (100 : Int64)) ∈ lw_all := lw_g (lw_at lw_m4 23 rfl) rfl
theorem q797 : (Jvm.Cond.methodLink "KindStreets$Lane" (15 : Nat) ({ cls := "KindStreets$Plain", name := "mark", desc := "(LKindStreets;I)I" } : Jvm.MethodName)) ∈ lw_all := lw_g (lw_at lw_m4 24 rfl) rfl
theorem q799 : (Jvm.Cond.selects "KindStreets$Lane" ({ cls := "KindStreets$Plain", name := "mark", desc := "(LKindStreets;I)I" } : Jvm.MethodName) ({ cls := "KindStreets$Lane", name := "mark", desc := "(LKindStreets;I)I" } : Jvm.MethodName)) ∈ lw_all := lw_g (lw_at lw_m4 26 rfl) rfl
theorem q1123 : (Jvm.Cond.sameMethod "KindStreets$Lane" "KindStreets$Lane" "mark" "(LKindStreets;I)I") ∈ lw_all := lw_g (lw_at lw_m5 110 rfl) rfl
theorem q1125 : (Jvm.Cond.castable "KindStreets$Lane" "KindStreets$Plain") ∈ lw_tbl := lw_at lw_m5 112 rfl

/-! KindStreets$Boulevard -/
set_option maxRecDepth 100000
def RX8 : String := "KindStreets$Boulevard"
abbrev cX8_init : ByteArray := prog_4_method_1_code
def yX8_init : MethodName := ⟨RX8, "<init>", "()V"⟩
theorem dX8_init_0 : decode cX8_init 0 = .ok (.aload_n 0, 1) := by decide +kernel
theorem dX8_init_1 : decode cX8_init 1 = .ok (.invokespecial 1, 3) := by decide +kernel
theorem dX8_init_4 : decode cX8_init 4 = .ok (.return_, 1) := by decide +kernel
abbrev cX8_mark : ByteArray := prog_4_method_2_code
def yX8_mark : MethodName := ⟨RX8, "mark", "(LKindStreets;I)I"⟩
def dkwX8_mark_0 : List UInt8 := [43, 89, 180, 0, 7, 20, 0, 13, 97, 181, 0, 7, 5, 42, 43, 28, 183, 0, 15, 104, 172]
abbrev dktX8_mark_0 : List UInt8 := dkwX8_mark_0 ++ []
theorem dksX8_mark_0 : cX8_mark.data.toList.drop 0 = dktX8_mark_0 := by decide +kernel
theorem dX8_mark_0 : decode cX8_mark 0 = .ok (.aload_n 1, 1) := dk_43 (dk_at dksX8_mark_0 0 rfl rfl)
theorem dX8_mark_1 : decode cX8_mark 1 = .ok (.dup, 1) := dk_89 (dk_at dksX8_mark_0 1 rfl rfl)
theorem dX8_mark_2 : decode cX8_mark 2 = .ok (.getfield 7, 3) := dk_180 0 7 (dk_at dksX8_mark_0 2 rfl rfl)
theorem dX8_mark_5 : decode cX8_mark 5 = .ok (.ldc2_w 13, 3) := dk_20 0 13 (dk_at dksX8_mark_0 5 rfl rfl)
theorem dX8_mark_8 : decode cX8_mark 8 = .ok (.ladd, 1) := dk_97 (dk_at dksX8_mark_0 8 rfl rfl)
theorem dX8_mark_9 : decode cX8_mark 9 = .ok (.putfield 7, 3) := dk_181 0 7 (dk_at dksX8_mark_0 9 rfl rfl)
theorem dX8_mark_12 : decode cX8_mark 12 = .ok (.iconst 2, 1) := dk_5 (dk_at dksX8_mark_0 12 rfl rfl)
theorem dX8_mark_13 : decode cX8_mark 13 = .ok (.aload_n 0, 1) := dk_42 (dk_at dksX8_mark_0 13 rfl rfl)
theorem dX8_mark_14 : decode cX8_mark 14 = .ok (.aload_n 1, 1) := dk_43 (dk_at dksX8_mark_0 14 rfl rfl)
theorem dX8_mark_15 : decode cX8_mark 15 = .ok (.iload_n 2, 1) := dk_28 (dk_at dksX8_mark_0 15 rfl rfl)
theorem dX8_mark_16 : decode cX8_mark 16 = .ok (.invokespecial 15, 3) := dk_183 0 15 (dk_at dksX8_mark_0 16 rfl rfl)
theorem dX8_mark_19 : decode cX8_mark 19 = .ok (.imul, 1) := dk_104 (dk_at dksX8_mark_0 19 rfl rfl)
theorem dX8_mark_20 : decode cX8_mark 20 = .ok (.ireturn, 1) := dk_172 (dk_at dksX8_mark_0 20 rfl rfl)
theorem q62 : (Jvm.Cond.initialized "KindStreets$Boulevard") ∈ lw_all := lw_g (lw_at lw_m1 9 rfl) rfl
theorem q464 : (Jvm.Cond.instantiable "KindStreets$Boulevard" (0 : Nat)) ∈ lw_all := lw_g (lw_at lw_m2 171 rfl) rfl
theorem q466 : (Jvm.Cond.instanceMethod ({ cls := "KindStreets$Boulevard", name := "<init>", desc := "()V" } : Jvm.MethodName)) ∈ lw_all := lw_g (lw_at lw_m2 173 rfl) rfl
theorem q467 : (Jvm.Cond.code ({ cls := "KindStreets$Boulevard", name := "<init>", desc := "()V" } : Jvm.MethodName) prog_4_method_1_code (1 : Nat) (Option.none : Option Jvm.ClassFile.FieldType)) ∈ lw_all := lw_g (lw_at lw_m2 174 rfl) rfl
theorem q468 : (Jvm.Cond.methodLinkNest "KindStreets$Boulevard" (1 : Nat) ({ cls := "KindStreets$Cross", name := "<init>", desc := "()V" } : Jvm.MethodName) "KindStreets") ∈ lw_tbl := lw_at lw_m2 175 rfl
theorem q469 : (Jvm.Cond.superclass "KindStreets$Boulevard" "KindStreets$Cross") ∈ lw_all := lw_g (lw_at lw_m2 176 rfl) rfl
theorem q511 : (Jvm.Cond.fieldLinkNest "KindStreets$Boulevard" (7 : Nat) "KindStreets" "trace" "J" "KindStreets") ∈ lw_tbl := lw_at lw_m2 218 rfl
theorem q778 : (Jvm.Cond.selects "KindStreets$Boulevard" ({ cls := "KindStreets$Plain", name := "mark", desc := "(LKindStreets;I)I" } : Jvm.MethodName) ({ cls := "KindStreets$Boulevard", name := "mark", desc := "(LKindStreets;I)I" } : Jvm.MethodName)) ∈ lw_all := lw_g (lw_at lw_m4 5 rfl) rfl
theorem q779 : (Jvm.Cond.instanceMethod ({ cls := "KindStreets$Boulevard", name := "mark", desc := "(LKindStreets;I)I" } : Jvm.MethodName)) ∈ lw_all := lw_g (lw_at lw_m4 6 rfl) rfl
theorem q780 : (Jvm.Cond.code ({ cls := "KindStreets$Boulevard", name := "mark", desc := "(LKindStreets;I)I" } : Jvm.MethodName) prog_4_method_2_code (3 : Nat) (Option.some Jvm.ClassFile.FieldType.int)) ∈ lw_all := lw_g (lw_at lw_m4 7 rfl) rfl
theorem q781 : (Jvm.Cond.constantLong "KindStreets$Boulevard" (13 : Nat) (1000 : Int64)) ∈ lw_all := lw_g (lw_at lw_m4 8 rfl) rfl
theorem q782 : (Jvm.Cond.methodLink "KindStreets$Boulevard" (15 : Nat) ({ cls := "KindStreets$Cross", name := "mark", desc := "(LKindStreets;I)I" } : Jvm.MethodName)) ∈ lw_all := lw_g (lw_at lw_m4 9 rfl) rfl
theorem q1126 : (Jvm.Cond.castable "KindStreets$Boulevard" "KindStreets$Plain") ∈ lw_tbl := lw_at lw_m5 113 rfl

/-! KindStreets$Court -/
set_option maxRecDepth 100000
def RX9 : String := "KindStreets$Court"
abbrev cX9_init : ByteArray := prog_5_method_1_code
def yX9_init : MethodName := ⟨RX9, "<init>", "()V"⟩
theorem dX9_init_0 : decode cX9_init 0 = .ok (.aload_n 0, 1) := by decide +kernel
theorem dX9_init_1 : decode cX9_init 1 = .ok (.invokespecial 1, 3) := by decide +kernel
theorem dX9_init_4 : decode cX9_init 4 = .ok (.return_, 1) := by decide +kernel
abbrev cX9_mark : ByteArray := prog_5_method_2_code
def yX9_mark : MethodName := ⟨RX9, "mark", "(LKindStreets;I)I"⟩
def dkwX9_mark_0 : List UInt8 := [43, 89, 180, 0, 7, 20, 0, 13, 97, 181, 0, 7, 42, 43, 28, 183, 0, 15, 28, 96, 172]
abbrev dktX9_mark_0 : List UInt8 := dkwX9_mark_0 ++ []
theorem dksX9_mark_0 : cX9_mark.data.toList.drop 0 = dktX9_mark_0 := by decide +kernel
theorem dX9_mark_0 : decode cX9_mark 0 = .ok (.aload_n 1, 1) := dk_43 (dk_at dksX9_mark_0 0 rfl rfl)
theorem dX9_mark_1 : decode cX9_mark 1 = .ok (.dup, 1) := dk_89 (dk_at dksX9_mark_0 1 rfl rfl)
theorem dX9_mark_2 : decode cX9_mark 2 = .ok (.getfield 7, 3) := dk_180 0 7 (dk_at dksX9_mark_0 2 rfl rfl)
theorem dX9_mark_5 : decode cX9_mark 5 = .ok (.ldc2_w 13, 3) := dk_20 0 13 (dk_at dksX9_mark_0 5 rfl rfl)
theorem dX9_mark_8 : decode cX9_mark 8 = .ok (.ladd, 1) := dk_97 (dk_at dksX9_mark_0 8 rfl rfl)
theorem dX9_mark_9 : decode cX9_mark 9 = .ok (.putfield 7, 3) := dk_181 0 7 (dk_at dksX9_mark_0 9 rfl rfl)
theorem dX9_mark_12 : decode cX9_mark 12 = .ok (.aload_n 0, 1) := dk_42 (dk_at dksX9_mark_0 12 rfl rfl)
theorem dX9_mark_13 : decode cX9_mark 13 = .ok (.aload_n 1, 1) := dk_43 (dk_at dksX9_mark_0 13 rfl rfl)
theorem dX9_mark_14 : decode cX9_mark 14 = .ok (.iload_n 2, 1) := dk_28 (dk_at dksX9_mark_0 14 rfl rfl)
theorem dX9_mark_15 : decode cX9_mark 15 = .ok (.invokespecial 15, 3) := dk_183 0 15 (dk_at dksX9_mark_0 15 rfl rfl)
theorem dX9_mark_18 : decode cX9_mark 18 = .ok (.iload_n 2, 1) := dk_28 (dk_at dksX9_mark_0 18 rfl rfl)
theorem dX9_mark_19 : decode cX9_mark 19 = .ok (.iadd, 1) := dk_96 (dk_at dksX9_mark_0 19 rfl rfl)
theorem dX9_mark_20 : decode cX9_mark 20 = .ok (.ireturn, 1) := dk_172 (dk_at dksX9_mark_0 20 rfl rfl)
theorem q63 : (Jvm.Cond.initialized "KindStreets$Court") ∈ lw_all := lw_g (lw_at lw_m1 10 rfl) rfl
theorem q471 : (Jvm.Cond.instantiable "KindStreets$Court" (0 : Nat)) ∈ lw_all := lw_g (lw_at lw_m2 178 rfl) rfl
theorem q473 : (Jvm.Cond.instanceMethod ({ cls := "KindStreets$Court", name := "<init>", desc := "()V" } : Jvm.MethodName)) ∈ lw_all := lw_g (lw_at lw_m2 180 rfl) rfl
theorem q474 : (Jvm.Cond.code ({ cls := "KindStreets$Court", name := "<init>", desc := "()V" } : Jvm.MethodName) prog_5_method_1_code (1 : Nat) (Option.none : Option Jvm.ClassFile.FieldType)) ∈ lw_all := lw_g (lw_at lw_m2 181 rfl) rfl
theorem q475 : (Jvm.Cond.methodLinkNest "KindStreets$Court" (1 : Nat) ({ cls := "KindStreets$Lane", name := "<init>", desc := "()V" } : Jvm.MethodName) "KindStreets") ∈ lw_tbl := lw_at lw_m2 182 rfl
theorem q476 : (Jvm.Cond.superclass "KindStreets$Court" "KindStreets$Lane") ∈ lw_all := lw_g (lw_at lw_m2 183 rfl) rfl
theorem q513 : (Jvm.Cond.fieldLinkNest "KindStreets$Court" (7 : Nat) "KindStreets" "trace" "J" "KindStreets") ∈ lw_tbl := lw_at lw_m2 220 rfl
theorem q789 : (Jvm.Cond.selects "KindStreets$Court" ({ cls := "KindStreets$Plain", name := "mark", desc := "(LKindStreets;I)I" } : Jvm.MethodName) ({ cls := "KindStreets$Court", name := "mark", desc := "(LKindStreets;I)I" } : Jvm.MethodName)) ∈ lw_all := lw_g (lw_at lw_m4 16 rfl) rfl
theorem q790 : (Jvm.Cond.instanceMethod ({ cls := "KindStreets$Court", name := "mark", desc := "(LKindStreets;I)I" } : Jvm.MethodName)) ∈ lw_all := lw_g (lw_at lw_m4 17 rfl) rfl
theorem q791 : (Jvm.Cond.code ({ cls := "KindStreets$Court", name := "mark", desc := "(LKindStreets;I)I" } : Jvm.MethodName) prog_5_method_2_code (3 : Nat) (Option.some Jvm.ClassFile.FieldType.int)) ∈ lw_all := lw_g (lw_at lw_m4 18 rfl) rfl
theorem q792 : (Jvm.Cond.constantLong "KindStreets$Court" (13 : Nat) (10000 : Int64)) ∈ lw_all := lw_g (lw_at lw_m4 19 rfl) rfl
theorem q793 : (Jvm.Cond.methodLink "KindStreets$Court" (15 : Nat) ({ cls := "KindStreets$Lane", name := "mark", desc := "(LKindStreets;I)I" } : Jvm.MethodName)) ∈ lw_all := lw_g (lw_at lw_m4 20 rfl) rfl
theorem q1127 : (Jvm.Cond.castable "KindStreets$Court" "KindStreets$Plain") ∈ lw_tbl := lw_at lw_m5 114 rfl

/-! KindStreets$Alley -/
set_option maxRecDepth 100000
def RX10 : String := "KindStreets$Alley"
abbrev cX10_init : ByteArray := prog_3_method_1_code
def yX10_init : MethodName := ⟨RX10, "<init>", "()V"⟩
theorem dX10_init_0 : decode cX10_init 0 = .ok (.aload_n 0, 1) := by decide +kernel
theorem dX10_init_1 : decode cX10_init 1 = .ok (.invokespecial 1, 3) := by decide +kernel
theorem dX10_init_4 : decode cX10_init 4 = .ok (.return_, 1) := by decide +kernel
abbrev cX10_mark : ByteArray := prog_3_method_2_code
def yX10_mark : MethodName := ⟨RX10, "mark", "(LKindStreets;I)I"⟩
def dkwX10_mark_1 : List UInt8 := [172]
abbrev dktX10_mark_1 : List UInt8 := dkwX10_mark_1 ++ []
def dkwX10_mark_0 : List UInt8 := [43, 89, 180, 0, 7, 20, 0, 13, 97, 181, 0, 7, 42, 43, 28, 183, 0, 15, 43, 28, 182, 0, 19, 96]
abbrev dktX10_mark_0 : List UInt8 := dkwX10_mark_0 ++ dktX10_mark_1
theorem dksX10_mark_0 : cX10_mark.data.toList.drop 0 = dktX10_mark_0 := by decide +kernel
theorem dksX10_mark_1 : cX10_mark.data.toList.drop 24 = dktX10_mark_1 := dk_seg dksX10_mark_0 24 rfl rfl
theorem dX10_mark_0 : decode cX10_mark 0 = .ok (.aload_n 1, 1) := dk_43 (dk_at dksX10_mark_0 0 rfl rfl)
theorem dX10_mark_1 : decode cX10_mark 1 = .ok (.dup, 1) := dk_89 (dk_at dksX10_mark_0 1 rfl rfl)
theorem dX10_mark_2 : decode cX10_mark 2 = .ok (.getfield 7, 3) := dk_180 0 7 (dk_at dksX10_mark_0 2 rfl rfl)
theorem dX10_mark_5 : decode cX10_mark 5 = .ok (.ldc2_w 13, 3) := dk_20 0 13 (dk_at dksX10_mark_0 5 rfl rfl)
theorem dX10_mark_8 : decode cX10_mark 8 = .ok (.ladd, 1) := dk_97 (dk_at dksX10_mark_0 8 rfl rfl)
theorem dX10_mark_9 : decode cX10_mark 9 = .ok (.putfield 7, 3) := dk_181 0 7 (dk_at dksX10_mark_0 9 rfl rfl)
theorem dX10_mark_12 : decode cX10_mark 12 = .ok (.aload_n 0, 1) := dk_42 (dk_at dksX10_mark_0 12 rfl rfl)
theorem dX10_mark_13 : decode cX10_mark 13 = .ok (.aload_n 1, 1) := dk_43 (dk_at dksX10_mark_0 13 rfl rfl)
theorem dX10_mark_14 : decode cX10_mark 14 = .ok (.iload_n 2, 1) := dk_28 (dk_at dksX10_mark_0 14 rfl rfl)
theorem dX10_mark_15 : decode cX10_mark 15 = .ok (.invokespecial 15, 3) := dk_183 0 15 (dk_at dksX10_mark_0 15 rfl rfl)
theorem dX10_mark_18 : decode cX10_mark 18 = .ok (.aload_n 1, 1) := dk_43 (dk_at dksX10_mark_0 18 rfl rfl)
theorem dX10_mark_19 : decode cX10_mark 19 = .ok (.iload_n 2, 1) := dk_28 (dk_at dksX10_mark_0 19 rfl rfl)
theorem dX10_mark_20 : decode cX10_mark 20 = .ok (.invokevirtual 19, 3) := dk_182 0 19 (dk_at dksX10_mark_0 20 rfl rfl)
theorem dX10_mark_23 : decode cX10_mark 23 = .ok (.iadd, 1) := dk_96 (dk_at dksX10_mark_0 23 rfl rfl)
theorem dX10_mark_24 : decode cX10_mark 24 = .ok (.ireturn, 1) := dk_172 (dk_at dksX10_mark_1 0 rfl rfl)
theorem q64 : (Jvm.Cond.initialized "KindStreets$Alley") ∈ lw_all := lw_g (lw_at lw_m1 11 rfl) rfl
theorem q478 : (Jvm.Cond.instantiable "KindStreets$Alley" (0 : Nat)) ∈ lw_all := lw_g (lw_at lw_m2 185 rfl) rfl
theorem q480 : (Jvm.Cond.instanceMethod ({ cls := "KindStreets$Alley", name := "<init>", desc := "()V" } : Jvm.MethodName)) ∈ lw_all := lw_g (lw_at lw_m2 187 rfl) rfl
theorem q481 : (Jvm.Cond.code ({ cls := "KindStreets$Alley", name := "<init>", desc := "()V" } : Jvm.MethodName) prog_3_method_1_code (1 : Nat) (Option.none : Option Jvm.ClassFile.FieldType)) ∈ lw_all := lw_g (lw_at lw_m2 188 rfl) rfl
theorem q482 : (Jvm.Cond.methodLinkNest "KindStreets$Alley" (1 : Nat) ({ cls := "KindStreets$Plain", name := "<init>", desc := "()V" } : Jvm.MethodName) "KindStreets") ∈ lw_tbl := lw_at lw_m2 189 rfl
theorem q483 : (Jvm.Cond.superclass "KindStreets$Alley" "KindStreets$Plain") ∈ lw_all := lw_g (lw_at lw_m2 190 rfl) rfl
theorem q510 : (Jvm.Cond.fieldLinkNest "KindStreets$Alley" (7 : Nat) "KindStreets" "trace" "J" "KindStreets") ∈ lw_tbl := lw_at lw_m2 217 rfl
theorem q768 : (Jvm.Cond.selects "KindStreets$Alley" ({ cls := "KindStreets$Plain", name := "mark", desc := "(LKindStreets;I)I" } : Jvm.MethodName) ({ cls := "KindStreets$Alley", name := "mark", desc := "(LKindStreets;I)I" } : Jvm.MethodName)) ∈ lw_all := lw_g (lw_at lw_m3 235 rfl) rfl
theorem q769 : (Jvm.Cond.instanceMethod ({ cls := "KindStreets$Alley", name := "mark", desc := "(LKindStreets;I)I" } : Jvm.MethodName)) ∈ lw_all := lw_g (lw_at lw_m3 236 rfl) rfl
theorem q770 : (Jvm.Cond.code ({ cls := "KindStreets$Alley", name := "mark", desc := "(LKindStreets;I)I" } : Jvm.MethodName) prog_3_method_2_code (3 : Nat) (Option.some Jvm.ClassFile.FieldType.int)) ∈ lw_all := lw_g (lw_at lw_m3 237 rfl) rfl
theorem q771 : (Jvm.Cond.constantLong "KindStreets$Alley" (13 : Nat) (100000 : Int64)) ∈ lw_all := lw_g (lw_at lw_m3 238 rfl) rfl
theorem q772 : (Jvm.Cond.methodLink "KindStreets$Alley" (15 : Nat) ({ cls := "KindStreets$Plain", name := "mark", desc := "(LKindStreets;I)I" } : Jvm.MethodName)) ∈ lw_all := lw_g (lw_at lw_m3 239 rfl) rfl
theorem q773 : (Jvm.Cond.methodLinkNest "KindStreets$Alley" (19 : Nat) ({ cls := "KindStreets", name := "meeting", desc := "(I)I" } : Jvm.MethodName) "KindStreets") ∈ lw_tbl := lw_at lw_m4 0 rfl
theorem q1128 : (Jvm.Cond.castable "KindStreets$Alley" "KindStreets$Plain") ∈ lw_tbl := lw_at lw_m5 115 rfl

/-! KindStreets$Fault -/
set_option maxRecDepth 100000
def RX12 : String := "KindStreets$Fault"
def TX12 : u_T := fun k => match k with
  | 0 => ("java/lang/Throwable", "cause", "Ljava/lang/Throwable;", false)
  | 1 => ("java/lang/Throwable", "stackTrace", "[Ljava/lang/StackTraceElement;", false)
  | 2 => ("java/lang/Throwable", "suppressedExceptions", "Ljava/util/List;", false)
  | 3 => ("java/lang/Throwable", "detailMessage", "Ljava/lang/String;", false)
  | 4 => ("java/lang/Throwable", "backtrace", "Ljava/lang/Object;", false)
  | 5 => ("java/lang/Throwable", "depth", "I", false)
  | _ => ("KindStreets$Fault", "at", "I", true)
def tyX12 : Nat → FieldType := fun k => match k with
  | 0 => .object "java/lang/Throwable"
  | 1 => .array (.object "java/lang/StackTraceElement")
  | 2 => .object "java/util/List"
  | 3 => .object "java/lang/String"
  | 4 => .object "java/lang/Object"
  | 5 => .int
  | _ => .int
abbrev wsX120 : List Cond := u_ws RX12 TX12 7
theorem nmX12 : ∀ a, a < 7 → ∀ b, b < 7 → a ≠ b → (TX12 a).2.1 ≠ (TX12 b).2.1 := by decide +kernel
theorem tyX12_ok : ∀ k, k < 7 → parseFieldDescriptor (TX12 k).2.2.1 = some (tyX12 k) := by decide +kernel
abbrev cX12_init : ByteArray := prog_7_method_1_code
def yX12_init : MethodName := ⟨RX12, "<init>", "(I)V"⟩
def dkwX12_init_0 : List UInt8 := [42, 1, 1, 3, 3, 183, 0, 1, 42, 27, 181, 0, 7, 177]
abbrev dktX12_init_0 : List UInt8 := dkwX12_init_0 ++ []
theorem dksX12_init_0 : cX12_init.data.toList.drop 0 = dktX12_init_0 := by decide +kernel
theorem dX12_init_0 : decode cX12_init 0 = .ok (.aload_n 0, 1) := dk_42 (dk_at dksX12_init_0 0 rfl rfl)
theorem dX12_init_1 : decode cX12_init 1 = .ok (.aconst_null, 1) := dk_1 (dk_at dksX12_init_0 1 rfl rfl)
theorem dX12_init_2 : decode cX12_init 2 = .ok (.aconst_null, 1) := dk_1 (dk_at dksX12_init_0 2 rfl rfl)
theorem dX12_init_3 : decode cX12_init 3 = .ok (.iconst 0, 1) := dk_3 (dk_at dksX12_init_0 3 rfl rfl)
theorem dX12_init_4 : decode cX12_init 4 = .ok (.iconst 0, 1) := dk_3 (dk_at dksX12_init_0 4 rfl rfl)
theorem dX12_init_5 : decode cX12_init 5 = .ok (.invokespecial 1, 3) := dk_183 0 1 (dk_at dksX12_init_0 5 rfl rfl)
theorem dX12_init_8 : decode cX12_init 8 = .ok (.aload_n 0, 1) := dk_42 (dk_at dksX12_init_0 8 rfl rfl)
theorem dX12_init_9 : decode cX12_init 9 = .ok (.iload_n 1, 1) := dk_27 (dk_at dksX12_init_0 9 rfl rfl)
theorem dX12_init_10 : decode cX12_init 10 = .ok (.putfield 7, 3) := dk_181 0 7 (dk_at dksX12_init_0 10 rfl rfl)
theorem dX12_init_13 : decode cX12_init 13 = .ok (.return_, 1) := dk_177 (dk_at dksX12_init_0 13 rfl rfl)
theorem q74 : (Jvm.Cond.initialized "KindStreets$Fault") ∈ lw_all := lw_g (lw_at lw_m1 21 rfl) rfl
theorem q203 : (Jvm.Cond.instantiable "KindStreets$Fault" (7 : Nat)) ∈ lw_all := lw_g (lw_at lw_m1 150 rfl) rfl
theorem q204 : (Jvm.Cond.castable "KindStreets$Fault" "KindStreets$Fault") ∈ lw_tbl := lw_at lw_m1 151 rfl
theorem q209 : (Jvm.Cond.selects "KindStreets$Fault" ({ cls := "java/lang/Throwable", name := "fillInStackTrace", desc := "(I)Ljava/lang/Throwable;" } : Jvm.MethodName) ({ cls := "java/lang/Throwable", name := "fillInStackTrace", desc := "(I)Ljava/lang/Throwable;" } : Jvm.MethodName)) ∈ lw_all := lw_g (lw_at lw_m1 156 rfl) rfl
theorem q210 : (Jvm.Cond.selects "KindStreets$Fault" ({ cls := "java/lang/Throwable", name := "fillInStackTrace", desc := "()Ljava/lang/Throwable;" } : Jvm.MethodName) ({ cls := "java/lang/Throwable", name := "fillInStackTrace", desc := "()Ljava/lang/Throwable;" } : Jvm.MethodName)) ∈ lw_all := lw_g (lw_at lw_m1 157 rfl) rfl
theorem q211 : (Jvm.Cond.lays "KindStreets$Fault" "java/lang/Throwable" "cause" "Ljava/lang/Throwable;") ∈ lw_all := lw_g (lw_at lw_m1 158 rfl) rfl
theorem q213 : (Jvm.Cond.lays "KindStreets$Fault" "java/lang/Throwable" "stackTrace" "[Ljava/lang/StackTraceElement;") ∈ lw_all := lw_g (lw_at lw_m1 160 rfl) rfl
theorem q215 : (Jvm.Cond.lays "KindStreets$Fault" "java/lang/Throwable" "suppressedExceptions" "Ljava/util/List;") ∈ lw_all := lw_g (lw_at lw_m1 162 rfl) rfl
theorem q217 : (Jvm.Cond.lays "KindStreets$Fault" "java/lang/Throwable" "detailMessage" "Ljava/lang/String;") ∈ lw_all := lw_g (lw_at lw_m1 164 rfl) rfl
theorem q219 : (Jvm.Cond.lays "KindStreets$Fault" "java/lang/Throwable" "backtrace" "Ljava/lang/Object;") ∈ lw_all := lw_g (lw_at lw_m1 166 rfl) rfl
theorem q242 : (Jvm.Cond.instanceMethod ({ cls := "KindStreets$Fault", name := "<init>", desc := "(I)V" } : Jvm.MethodName)) ∈ lw_all := lw_g (lw_at lw_m1 189 rfl) rfl
theorem q243 : (Jvm.Cond.code ({ cls := "KindStreets$Fault", name := "<init>", desc := "(I)V" } : Jvm.MethodName) prog_7_method_1_code (2 : Nat) (Option.none : Option Jvm.ClassFile.FieldType)) ∈ lw_all := lw_g (lw_at lw_m1 190 rfl) rfl
theorem q244 : (Jvm.Cond.methodLink "KindStreets$Fault" (1 : Nat) ({ cls := "java/lang/Exception", name := "<init>", desc := "(Ljava/lang/String;Ljava/lang/Throwable;ZZ)V" } : Jvm.MethodName)) ∈ lw_all := lw_g (lw_at lw_m1 191 rfl) rfl
theorem q250 : (Jvm.Cond.fieldLink "KindStreets$Fault" (7 : Nat) "KindStreets$Fault" "at" "I") ∈ lw_all := lw_g (lw_at lw_m1 197 rfl) rfl
theorem q257 : (Jvm.Cond.laysFinal "KindStreets$Fault" "KindStreets$Fault" "at" "I") ∈ lw_all := lw_g (lw_at lw_m1 204 rfl) rfl
theorem q258 : (Jvm.Cond.soleField "KindStreets$Fault" "at") ∈ lw_all := lw_g (lw_at lw_m1 205 rfl) rfl
theorem q263 : (Jvm.Cond.lays "KindStreets$Fault" "java/lang/Throwable" "depth" "I") ∈ lw_all := lw_g (lw_at lw_m1 210 rfl) rfl
theorem q266 : (Jvm.Cond.superclass "KindStreets$Fault" "java/lang/Exception") ∈ lw_all := lw_g (lw_at lw_m1 213 rfl) rfl
theorem in_X12 : ∀ w ∈ wsX120, w ∈ lw_all := lw_in wsX120 [211, 213, 215, 217, 219, 263, 257] (by decide +kernel) (by decide +kernel)
