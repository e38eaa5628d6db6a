/-! java/lang/String -/
set_option maxRecDepth 100000
def RJ0 : String := "java/lang/String"
abbrev cJ0_indexOf : ByteArray := prog_19_method_79_code
def yJ0_indexOf : MethodName := ⟨RJ0, "indexOf", "(I)I"⟩
def dkwJ0_indexOf_0 : List UInt8 := [42, 27, 3, 182, 2, 121, 172]
abbrev dktJ0_indexOf_0 : List UInt8 := dkwJ0_indexOf_0 ++ []
theorem dksJ0_indexOf_0 : cJ0_indexOf.data.toList.drop 0 = dktJ0_indexOf_0 := by decide +kernel
theorem dJ0_indexOf_0 : decode cJ0_indexOf 0 = .ok (.aload_n 0, 1) := dk_42 (dk_at dksJ0_indexOf_0 0 rfl rfl)
theorem dJ0_indexOf_1 : decode cJ0_indexOf 1 = .ok (.iload_n 1, 1) := dk_27 (dk_at dksJ0_indexOf_0 1 rfl rfl)
theorem dJ0_indexOf_2 : decode cJ0_indexOf 2 = .ok (.iconst 0, 1) := dk_3 (dk_at dksJ0_indexOf_0 2 rfl rfl)
theorem dJ0_indexOf_3 : decode cJ0_indexOf 3 = .ok (.invokevirtual 633, 3) := dk_182 2 121 (dk_at dksJ0_indexOf_0 3 rfl rfl)
theorem dJ0_indexOf_6 : decode cJ0_indexOf 6 = .ok (.ireturn, 1) := dk_172 (dk_at dksJ0_indexOf_0 6 rfl rfl)
abbrev cJ0_indexOf_2 : ByteArray := prog_19_method_80_code
def yJ0_indexOf_2 : MethodName := ⟨RJ0, "indexOf", "(II)I"⟩
def dkwJ0_indexOf_2_1 : List UInt8 := [180, 0, 9, 27, 28, 42, 182, 1, 249, 184, 2, 128, 172]
abbrev dktJ0_indexOf_2_1 : List UInt8 := dkwJ0_indexOf_2_1 ++ []
def dkwJ0_indexOf_2_0 : List UInt8 := [42, 182, 1, 236, 153, 0, 19, 42, 180, 0, 9, 27, 28, 42, 182, 1, 249, 184, 2, 125, 167, 0, 16, 42]
abbrev dktJ0_indexOf_2_0 : List UInt8 := dkwJ0_indexOf_2_0 ++ dktJ0_indexOf_2_1
theorem dksJ0_indexOf_2_0 : cJ0_indexOf_2.data.toList.drop 0 = dktJ0_indexOf_2_0 := by decide +kernel
theorem dksJ0_indexOf_2_1 : cJ0_indexOf_2.data.toList.drop 24 = dktJ0_indexOf_2_1 := dk_seg dksJ0_indexOf_2_0 24 rfl rfl
theorem dJ0_indexOf_2_0 : decode cJ0_indexOf_2 0 = .ok (.aload_n 0, 1) := dk_42 (dk_at dksJ0_indexOf_2_0 0 rfl rfl)
theorem dJ0_indexOf_2_1 : decode cJ0_indexOf_2 1 = .ok (.invokevirtual 492, 3) := dk_182 1 236 (dk_at dksJ0_indexOf_2_0 1 rfl rfl)
theorem dJ0_indexOf_2_4 : decode cJ0_indexOf_2 4 = .ok (.ifCond .eq 19, 3) := dk_153 0 19 (dk_at dksJ0_indexOf_2_0 4 rfl rfl)
theorem dJ0_indexOf_2_7 : decode cJ0_indexOf_2 7 = .ok (.aload_n 0, 1) := dk_42 (dk_at dksJ0_indexOf_2_0 7 rfl rfl)
theorem dJ0_indexOf_2_8 : decode cJ0_indexOf_2 8 = .ok (.getfield 9, 3) := dk_180 0 9 (dk_at dksJ0_indexOf_2_0 8 rfl rfl)
theorem dJ0_indexOf_2_11 : decode cJ0_indexOf_2 11 = .ok (.iload_n 1, 1) := dk_27 (dk_at dksJ0_indexOf_2_0 11 rfl rfl)
theorem dJ0_indexOf_2_12 : decode cJ0_indexOf_2 12 = .ok (.iload_n 2, 1) := dk_28 (dk_at dksJ0_indexOf_2_0 12 rfl rfl)
theorem dJ0_indexOf_2_13 : decode cJ0_indexOf_2 13 = .ok (.aload_n 0, 1) := dk_42 (dk_at dksJ0_indexOf_2_0 13 rfl rfl)
theorem dJ0_indexOf_2_14 : decode cJ0_indexOf_2 14 = .ok (.invokevirtual 505, 3) := dk_182 1 249 (dk_at dksJ0_indexOf_2_0 14 rfl rfl)
theorem dJ0_indexOf_2_17 : decode cJ0_indexOf_2 17 = .ok (.invokestatic 637, 3) := dk_184 2 125 (dk_at dksJ0_indexOf_2_0 17 rfl rfl)
theorem dJ0_indexOf_2_20 : decode cJ0_indexOf_2 20 = .ok (.goto 16, 3) := dk_167 0 16 (dk_at dksJ0_indexOf_2_0 20 rfl rfl)
theorem dJ0_indexOf_2_23 : decode cJ0_indexOf_2 23 = .ok (.aload_n 0, 1) := dk_42 (dk_at dksJ0_indexOf_2_0 23 rfl rfl)
theorem dJ0_indexOf_2_24 : decode cJ0_indexOf_2 24 = .ok (.getfield 9, 3) := dk_180 0 9 (dk_at dksJ0_indexOf_2_1 0 rfl rfl)
theorem dJ0_indexOf_2_27 : decode cJ0_indexOf_2 27 = .ok (.iload_n 1, 1) := dk_27 (dk_at dksJ0_indexOf_2_1 3 rfl rfl)
theorem dJ0_indexOf_2_28 : decode cJ0_indexOf_2 28 = .ok (.iload_n 2, 1) := dk_28 (dk_at dksJ0_indexOf_2_1 4 rfl rfl)
theorem dJ0_indexOf_2_29 : decode cJ0_indexOf_2 29 = .ok (.aload_n 0, 1) := dk_42 (dk_at dksJ0_indexOf_2_1 5 rfl rfl)
theorem dJ0_indexOf_2_30 : decode cJ0_indexOf_2 30 = .ok (.invokevirtual 505, 3) := dk_182 1 249 (dk_at dksJ0_indexOf_2_1 6 rfl rfl)
theorem dJ0_indexOf_2_33 : decode cJ0_indexOf_2 33 = .ok (.invokestatic 640, 3) := dk_184 2 128 (dk_at dksJ0_indexOf_2_1 9 rfl rfl)
theorem dJ0_indexOf_2_36 : decode cJ0_indexOf_2 36 = .ok (.ireturn, 1) := dk_172 (dk_at dksJ0_indexOf_2_1 12 rfl rfl)
abbrev cJ0_isLatin1 : ByteArray := prog_19_method_154_code
def yJ0_isLatin1 : MethodName := ⟨RJ0, "isLatin1", "()Z"⟩
def dkwJ0_isLatin1_0 : List UInt8 := [178, 0, 38, 153, 0, 14, 42, 180, 0, 15, 154, 0, 7, 4, 167, 0, 4, 3, 172]
abbrev dktJ0_isLatin1_0 : List UInt8 := dkwJ0_isLatin1_0 ++ []
theorem dksJ0_isLatin1_0 : cJ0_isLatin1.data.toList.drop 0 = dktJ0_isLatin1_0 := by decide +kernel
theorem dJ0_isLatin1_0 : decode cJ0_isLatin1 0 = .ok (.getstatic 38, 3) := dk_178 0 38 (dk_at dksJ0_isLatin1_0 0 rfl rfl)
theorem dJ0_isLatin1_3 : decode cJ0_isLatin1 3 = .ok (.ifCond .eq 14, 3) := dk_153 0 14 (dk_at dksJ0_isLatin1_0 3 rfl rfl)
theorem dJ0_isLatin1_6 : decode cJ0_isLatin1 6 = .ok (.aload_n 0, 1) := dk_42 (dk_at dksJ0_isLatin1_0 6 rfl rfl)
theorem dJ0_isLatin1_7 : decode cJ0_isLatin1 7 = .ok (.getfield 15, 3) := dk_180 0 15 (dk_at dksJ0_isLatin1_0 7 rfl rfl)
theorem dJ0_isLatin1_10 : decode cJ0_isLatin1 10 = .ok (.ifCond .ne 7, 3) := dk_154 0 7 (dk_at dksJ0_isLatin1_0 10 rfl rfl)
theorem dJ0_isLatin1_13 : decode cJ0_isLatin1 13 = .ok (.iconst 1, 1) := dk_4 (dk_at dksJ0_isLatin1_0 13 rfl rfl)
theorem dJ0_isLatin1_14 : decode cJ0_isLatin1 14 = .ok (.goto 4, 3) := dk_167 0 4 (dk_at dksJ0_isLatin1_0 14 rfl rfl)
theorem dJ0_isLatin1_17 : decode cJ0_isLatin1 17 = .ok (.iconst 0, 1) := dk_3 (dk_at dksJ0_isLatin1_0 17 rfl rfl)
theorem dJ0_isLatin1_18 : decode cJ0_isLatin1 18 = .ok (.ireturn, 1) := dk_172 (dk_at dksJ0_isLatin1_0 18 rfl rfl)
abbrev cJ0_length : ByteArray := prog_19_method_54_code
def yJ0_length : MethodName := ⟨RJ0, "length", "()I"⟩
def dkwJ0_length_0 : List UInt8 := [42, 180, 0, 9, 190, 42, 182, 1, 79, 122, 172]
abbrev dktJ0_length_0 : List UInt8 := dkwJ0_length_0 ++ []
theorem dksJ0_length_0 : cJ0_length.data.toList.drop 0 = dktJ0_length_0 := by decide +kernel
theorem dJ0_length_0 : decode cJ0_length 0 = .ok (.aload_n 0, 1) := dk_42 (dk_at dksJ0_length_0 0 rfl rfl)
theorem dJ0_length_1 : decode cJ0_length 1 = .ok (.getfield 9, 3) := dk_180 0 9 (dk_at dksJ0_length_0 1 rfl rfl)
theorem dJ0_length_4 : decode cJ0_length 4 = .ok (.arraylength, 1) := dk_190 (dk_at dksJ0_length_0 4 rfl rfl)
theorem dJ0_length_5 : decode cJ0_length 5 = .ok (.aload_n 0, 1) := dk_42 (dk_at dksJ0_length_0 5 rfl rfl)
theorem dJ0_length_6 : decode cJ0_length 6 = .ok (.invokevirtual 335, 3) := dk_182 1 79 (dk_at dksJ0_length_0 6 rfl rfl)
theorem dJ0_length_9 : decode cJ0_length 9 = .ok (.ishr, 1) := dk_122 (dk_at dksJ0_length_0 9 rfl rfl)
theorem dJ0_length_10 : decode cJ0_length 10 = .ok (.ireturn, 1) := dk_172 (dk_at dksJ0_length_0 10 rfl rfl)
abbrev cJ0_coder : ByteArray := prog_19_method_152_code
def yJ0_coder : MethodName := ⟨RJ0, "coder", "()B"⟩
def dkwJ0_coder_0 : List UInt8 := [178, 0, 38, 153, 0, 10, 42, 180, 0, 15, 167, 0, 4, 4, 172]
abbrev dktJ0_coder_0 : List UInt8 := dkwJ0_coder_0 ++ []
theorem dksJ0_coder_0 : cJ0_coder.data.toList.drop 0 = dktJ0_coder_0 := by decide +kernel
theorem dJ0_coder_0 : decode cJ0_coder 0 = .ok (.getstatic 38, 3) := dk_178 0 38 (dk_at dksJ0_coder_0 0 rfl rfl)
theorem dJ0_coder_3 : decode cJ0_coder 3 = .ok (.ifCond .eq 10, 3) := dk_153 0 10 (dk_at dksJ0_coder_0 3 rfl rfl)
theorem dJ0_coder_6 : decode cJ0_coder 6 = .ok (.aload_n 0, 1) := dk_42 (dk_at dksJ0_coder_0 6 rfl rfl)
theorem dJ0_coder_7 : decode cJ0_coder 7 = .ok (.getfield 15, 3) := dk_180 0 15 (dk_at dksJ0_coder_0 7 rfl rfl)
theorem dJ0_coder_10 : decode cJ0_coder 10 = .ok (.goto 4, 3) := dk_167 0 4 (dk_at dksJ0_coder_0 10 rfl rfl)
theorem dJ0_coder_13 : decode cJ0_coder 13 = .ok (.iconst 1, 1) := dk_4 (dk_at dksJ0_coder_0 13 rfl rfl)
theorem dJ0_coder_14 : decode cJ0_coder 14 = .ok (.ireturn, 1) := dk_172 (dk_at dksJ0_coder_0 14 rfl rfl)
abbrev cJ0_checkBoundsBeginEnd : ByteArray := prog_19_method_158_code
def yJ0_checkBoundsBeginEnd : MethodName := ⟨RJ0, "checkBoundsBeginEnd", "(III)V"⟩
def dkwJ0_checkBoundsBeginEnd_0 : List UInt8 := [26, 27, 28, 178, 4, 29, 184, 4, 38, 87, 177]
abbrev dktJ0_checkBoundsBeginEnd_0 : List UInt8 := dkwJ0_checkBoundsBeginEnd_0 ++ []
theorem dksJ0_checkBoundsBeginEnd_0 : cJ0_checkBoundsBeginEnd.data.toList.drop 0 = dktJ0_checkBoundsBeginEnd_0 := by decide +kernel
theorem dJ0_checkBoundsBeginEnd_0 : decode cJ0_checkBoundsBeginEnd 0 = .ok (.iload_n 0, 1) := dk_26 (dk_at dksJ0_checkBoundsBeginEnd_0 0 rfl rfl)
theorem dJ0_checkBoundsBeginEnd_1 : decode cJ0_checkBoundsBeginEnd 1 = .ok (.iload_n 1, 1) := dk_27 (dk_at dksJ0_checkBoundsBeginEnd_0 1 rfl rfl)
theorem dJ0_checkBoundsBeginEnd_2 : decode cJ0_checkBoundsBeginEnd 2 = .ok (.iload_n 2, 1) := dk_28 (dk_at dksJ0_checkBoundsBeginEnd_0 2 rfl rfl)
theorem dJ0_checkBoundsBeginEnd_3 : decode cJ0_checkBoundsBeginEnd 3 = .ok (.getstatic 1053, 3) := dk_178 4 29 (dk_at dksJ0_checkBoundsBeginEnd_0 3 rfl rfl)
theorem dJ0_checkBoundsBeginEnd_6 : decode cJ0_checkBoundsBeginEnd 6 = .ok (.invokestatic 1062, 3) := dk_184 4 38 (dk_at dksJ0_checkBoundsBeginEnd_0 6 rfl rfl)
theorem dJ0_checkBoundsBeginEnd_9 : decode cJ0_checkBoundsBeginEnd 9 = .ok (.pop, 1) := dk_87 (dk_at dksJ0_checkBoundsBeginEnd_0 9 rfl rfl)
theorem dJ0_checkBoundsBeginEnd_10 : decode cJ0_checkBoundsBeginEnd 10 = .ok (.return_, 1) := dk_177 (dk_at dksJ0_checkBoundsBeginEnd_0 10 rfl rfl)
theorem q66 : (Jvm.Cond.initialized "java/lang/String") ∈ lw_all := lw_g (lw_at lw_m1 13 rfl) rfl
theorem q113 : (Jvm.Cond.instanceMethod ({ cls := "java/lang/String", name := "indexOf", desc := "(I)I" } : Jvm.MethodName)) ∈ lw_all := lw_g (lw_at lw_m1 60 rfl) rfl
theorem q114 : (Jvm.Cond.selects "java/lang/String" ({ cls := "java/lang/String", name := "indexOf", desc := "(I)I" } : Jvm.MethodName) ({ cls := "java/lang/String", name := "indexOf", desc := "(I)I" } : Jvm.MethodName)) ∈ lw_all := lw_g (lw_at lw_m1 61 rfl) rfl
theorem q115 : (Jvm.Cond.code ({ cls := "java/lang/String", name := "indexOf", desc := "(I)I" } : Jvm.MethodName) prog_19_method_79_code (2 : Nat) (Option.some Jvm.ClassFile.FieldType.int)) ∈ lw_all := lw_g (lw_at lw_m1 62 rfl) rfl
theorem q116 : (Jvm.Cond.methodLink "java/lang/String" (633 : Nat) ({ cls := "java/lang/String", name := "indexOf", desc := "(II)I" } : Jvm.MethodName)) ∈ lw_all := lw_g (lw_at lw_m1 63 rfl) rfl
theorem q117 : (Jvm.Cond.instanceMethod ({ cls := "java/lang/String", name := "indexOf", desc := "(II)I" } : Jvm.MethodName)) ∈ lw_all := lw_g (lw_at lw_m1 64 rfl) rfl
theorem q118 : (Jvm.Cond.selects "java/lang/String" ({ cls := "java/lang/String", name := "indexOf", desc := "(II)I" } : Jvm.MethodName) ({ cls := "java/lang/String", name := "indexOf", desc := "(II)I" } : Jvm.MethodName)) ∈ lw_all := lw_g (lw_at lw_m1 65 rfl) rfl
theorem q119 : (Jvm.Cond.code ({ cls := "java/lang/String", name := "indexOf", desc := "(II)I" } : Jvm.MethodName) prog_19_method_80_code (3 : Nat) (Option.some Jvm.ClassFile.FieldType.int)) ∈ lw_all := lw_g (lw_at lw_m1 66 rfl) rfl
theorem q120 : (Jvm.Cond.methodLink "java/lang/String" (492 : Nat) ({ cls := "java/lang/String", name := "isLatin1", desc := "()Z" } : Jvm.MethodName)) ∈ lw_all := lw_g (lw_at lw_m1 67 rfl) rfl
theorem q121 : (Jvm.Cond.instanceMethod ({ cls := "java/lang/String", name := "isLatin1", desc := "()Z" } : Jvm.MethodName)) ∈ lw_all := lw_g (lw_at lw_m1 68 rfl) rfl
theorem q122 : (Jvm.Cond.selects "java/lang/String" ({ cls := "java/lang/String", name := "isLatin1", desc := "()Z" } : Jvm.MethodName) ({ cls := "java/lang/String", name := "isLatin1", desc := "()Z" } : Jvm.MethodName)) ∈ lw_all := lw_g (lw_at lw_m1 69 rfl) rfl
theorem q123 : (Jvm.Cond.code ({ cls := "java/lang/String", name := "isLatin1", desc := "()Z" } : Jvm.MethodName) prog_19_method_154_code (1 : Nat) (Option.some Jvm.ClassFile.FieldType.boolean)) ∈ lw_all := lw_g (lw_at lw_m1 70 rfl) rfl
theorem q124 : (Jvm.Cond.fieldLink "java/lang/String" (38 : Nat) "java/lang/String" "COMPACT_STRINGS" "Z") ∈ lw_all := lw_g (lw_at lw_m1 71 rfl) rfl
theorem q125 : (Jvm.Cond.laysStatic "java/lang/String" "COMPACT_STRINGS" "Z") ∈ lw_tbl := lw_at lw_m1 72 rfl
theorem q126 : (Jvm.Cond.methodLink "java/lang/String" (505 : Nat) ({ cls := "java/lang/String", name := "length", desc := "()I" } : Jvm.MethodName)) ∈ lw_all := lw_g (lw_at lw_m1 73 rfl) rfl
theorem q127 : (Jvm.Cond.instanceMethod ({ cls := "java/lang/String", name := "length", desc := "()I" } : Jvm.MethodName)) ∈ lw_all := lw_g (lw_at lw_m1 74 rfl) rfl
theorem q128 : (Jvm.Cond.selects "java/lang/String" ({ cls := "java/lang/String", name := "length", desc := "()I" } : Jvm.MethodName) ({ cls := "java/lang/String", name := "length", desc := "()I" } : Jvm.MethodName)) ∈ lw_all := lw_g (lw_at lw_m1 75 rfl) rfl
theorem q129 : (Jvm.Cond.code ({ cls := "java/lang/String", name := "length", desc := "()I" } : Jvm.MethodName) prog_19_method_54_code (1 : Nat) (Option.some Jvm.ClassFile.FieldType.int)) ∈ lw_all := lw_g (lw_at lw_m1 76 rfl) rfl
theorem q130 : (Jvm.Cond.methodLink "java/lang/String" (335 : Nat) ({ cls := "java/lang/String", name := "coder", desc := "()B" } : Jvm.MethodName)) ∈ lw_all := lw_g (lw_at lw_m1 77 rfl) rfl
theorem q131 : (Jvm.Cond.instanceMethod ({ cls := "java/lang/String", name := "coder", desc := "()B" } : Jvm.MethodName)) ∈ lw_all := lw_g (lw_at lw_m1 78 rfl) rfl
theorem q132 : (Jvm.Cond.selects "java/lang/String" ({ cls := "java/lang/String", name := "coder", desc := "()B" } : Jvm.MethodName) ({ cls := "java/lang/String", name := "coder", desc := "()B" } : Jvm.MethodName)) ∈ lw_all := lw_g (lw_at lw_m1 79 rfl) rfl
theorem q133 : (Jvm.Cond.code ({ cls := "java/lang/String", name := "coder", desc := "()B" } : Jvm.MethodName) prog_19_method_152_code (1 : Nat) (Option.some Jvm.ClassFile.FieldType.byte)) ∈ lw_all := lw_g (lw_at lw_m1 80 rfl) rfl
theorem q134 : (Jvm.Cond.methodLink "java/lang/String" (637 : Nat) ({ cls := "java/lang/StringLatin1", name := "indexOf", desc := "([BIII)I" } : Jvm.MethodName)) ∈ lw_all := lw_g (lw_at lw_m1 81 rfl) rfl
theorem q149 : (Jvm.Cond.methodLink "java/lang/String" (640 : Nat) ({ cls := "java/lang/StringUTF16", name := "indexOf", desc := "([BIII)I" } : Jvm.MethodName)) ∈ lw_all := lw_g (lw_at lw_m1 96 rfl) rfl
theorem q165 : (Jvm.Cond.static ({ cls := "java/lang/String", name := "checkBoundsBeginEnd", desc := "(III)V" } : Jvm.MethodName)) ∈ lw_all := lw_g (lw_at lw_m1 112 rfl) rfl
theorem q166 : (Jvm.Cond.code ({ cls := "java/lang/String", name := "checkBoundsBeginEnd", desc := "(III)V" } : Jvm.MethodName) prog_19_method_158_code (3 : Nat) (Option.none : Option Jvm.ClassFile.FieldType)) ∈ lw_all := lw_g (lw_at lw_m1 113 rfl) rfl
theorem q167 : (Jvm.Cond.fieldLink "java/lang/String" (1053 : Nat) "jdk/internal/util/Preconditions" "SIOOBE_FORMATTER" "Ljava/util/function/BiFunction;") ∈ lw_all := lw_g (lw_at lw_m1 114 rfl) rfl
theorem q169 : (Jvm.Cond.methodLink "java/lang/String" (1062 : Nat) ({ cls := "jdk/internal/util/Preconditions", name := "checkFromToIndex", desc := "(IIILjava/util/function/BiFunction;)I" } : Jvm.MethodName)) ∈ lw_all := lw_g (lw_at lw_m1 116 rfl) rfl
theorem q1129 : (Jvm.Cond.fieldLink "java/lang/String" (15 : Nat) "java/lang/String" "coder" "B") ∈ lw_all := lw_g (lw_at lw_m5 116 rfl) rfl
theorem q1130 : (Jvm.Cond.fieldLink "java/lang/String" (9 : Nat) "java/lang/String" "value" "[B") ∈ lw_all := lw_g (lw_at lw_m5 117 rfl) rfl

/-! java/lang/StringLatin1 -/
set_option maxRecDepth 100000
def RJ1 : String := "java/lang/StringLatin1"
abbrev cJ1_indexOf : ByteArray := prog_20_method_22_code
def yJ1_indexOf : MethodName := ⟨RJ1, "indexOf", "([BIII)I"⟩
def dkwJ1_indexOf_1 : List UInt8 := [161, 0, 5, 2, 172, 42, 27, 28, 29, 184, 0, 95, 172]
abbrev dktJ1_indexOf_1 : List UInt8 := dkwJ1_indexOf_1 ++ []
def dkwJ1_indexOf_0 : List UInt8 := [27, 184, 0, 88, 154, 0, 5, 2, 172, 28, 3, 184, 0, 92, 61, 29, 42, 190, 184, 0, 38, 62, 28, 29]
abbrev dktJ1_indexOf_0 : List UInt8 := dkwJ1_indexOf_0 ++ dktJ1_indexOf_1
theorem dksJ1_indexOf_0 : cJ1_indexOf.data.toList.drop 0 = dktJ1_indexOf_0 := by decide +kernel
theorem dksJ1_indexOf_1 : cJ1_indexOf.data.toList.drop 24 = dktJ1_indexOf_1 := dk_seg dksJ1_indexOf_0 24 rfl rfl
theorem dJ1_indexOf_0 : decode cJ1_indexOf 0 = .ok (.iload_n 1, 1) := dk_27 (dk_at dksJ1_indexOf_0 0 rfl rfl)
theorem dJ1_indexOf_1 : decode cJ1_indexOf 1 = .ok (.invokestatic 88, 3) := dk_184 0 88 (dk_at dksJ1_indexOf_0 1 rfl rfl)
theorem dJ1_indexOf_4 : decode cJ1_indexOf 4 = .ok (.ifCond .ne 5, 3) := dk_154 0 5 (dk_at dksJ1_indexOf_0 4 rfl rfl)
theorem dJ1_indexOf_7 : decode cJ1_indexOf 7 = .ok (.iconst (-1), 1) := dk_2 (dk_at dksJ1_indexOf_0 7 rfl rfl)
theorem dJ1_indexOf_8 : decode cJ1_indexOf 8 = .ok (.ireturn, 1) := dk_172 (dk_at dksJ1_indexOf_0 8 rfl rfl)
theorem dJ1_indexOf_9 : decode cJ1_indexOf 9 = .ok (.iload_n 2, 1) := dk_28 (dk_at dksJ1_indexOf_0 9 rfl rfl)
theorem dJ1_indexOf_10 : decode cJ1_indexOf 10 = .ok (.iconst 0, 1) := dk_3 (dk_at dksJ1_indexOf_0 10 rfl rfl)
theorem dJ1_indexOf_11 : decode cJ1_indexOf 11 = .ok (.invokestatic 92, 3) := dk_184 0 92 (dk_at dksJ1_indexOf_0 11 rfl rfl)
theorem dJ1_indexOf_14 : decode cJ1_indexOf 14 = .ok (.istore_n 2, 1) := dk_61 (dk_at dksJ1_indexOf_0 14 rfl rfl)
theorem dJ1_indexOf_15 : decode cJ1_indexOf 15 = .ok (.iload_n 3, 1) := dk_29 (dk_at dksJ1_indexOf_0 15 rfl rfl)
theorem dJ1_indexOf_16 : decode cJ1_indexOf 16 = .ok (.aload_n 0, 1) := dk_42 (dk_at dksJ1_indexOf_0 16 rfl rfl)
theorem dJ1_indexOf_17 : decode cJ1_indexOf 17 = .ok (.arraylength, 1) := dk_190 (dk_at dksJ1_indexOf_0 17 rfl rfl)
theorem dJ1_indexOf_18 : decode cJ1_indexOf 18 = .ok (.invokestatic 38, 3) := dk_184 0 38 (dk_at dksJ1_indexOf_0 18 rfl rfl)
theorem dJ1_indexOf_21 : decode cJ1_indexOf 21 = .ok (.istore_n 3, 1) := dk_62 (dk_at dksJ1_indexOf_0 21 rfl rfl)
theorem dJ1_indexOf_22 : decode cJ1_indexOf 22 = .ok (.iload_n 2, 1) := dk_28 (dk_at dksJ1_indexOf_0 22 rfl rfl)
theorem dJ1_indexOf_23 : decode cJ1_indexOf 23 = .ok (.iload_n 3, 1) := dk_29 (dk_at dksJ1_indexOf_0 23 rfl rfl)
theorem dJ1_indexOf_24 : decode cJ1_indexOf 24 = .ok (.if_icmp .lt 5, 3) := dk_161 0 5 (dk_at dksJ1_indexOf_1 0 rfl rfl)
theorem dJ1_indexOf_27 : decode cJ1_indexOf 27 = .ok (.iconst (-1), 1) := dk_2 (dk_at dksJ1_indexOf_1 3 rfl rfl)
theorem dJ1_indexOf_28 : decode cJ1_indexOf 28 = .ok (.ireturn, 1) := dk_172 (dk_at dksJ1_indexOf_1 4 rfl rfl)
theorem dJ1_indexOf_29 : decode cJ1_indexOf 29 = .ok (.aload_n 0, 1) := dk_42 (dk_at dksJ1_indexOf_1 5 rfl rfl)
theorem dJ1_indexOf_30 : decode cJ1_indexOf 30 = .ok (.iload_n 1, 1) := dk_27 (dk_at dksJ1_indexOf_1 6 rfl rfl)
theorem dJ1_indexOf_31 : decode cJ1_indexOf 31 = .ok (.iload_n 2, 1) := dk_28 (dk_at dksJ1_indexOf_1 7 rfl rfl)
theorem dJ1_indexOf_32 : decode cJ1_indexOf 32 = .ok (.iload_n 3, 1) := dk_29 (dk_at dksJ1_indexOf_1 8 rfl rfl)
theorem dJ1_indexOf_33 : decode cJ1_indexOf 33 = .ok (.invokestatic 95, 3) := dk_184 0 95 (dk_at dksJ1_indexOf_1 9 rfl rfl)
theorem dJ1_indexOf_36 : decode cJ1_indexOf 36 = .ok (.ireturn, 1) := dk_172 (dk_at dksJ1_indexOf_1 12 rfl rfl)
abbrev cJ1_canEncode : ByteArray := prog_20_method_4_code
def yJ1_canEncode : MethodName := ⟨RJ1, "canEncode", "(I)Z"⟩
def dkwJ1_canEncode_0 : List UInt8 := [26, 155, 0, 14, 26, 17, 0, 255, 163, 0, 7, 4, 167, 0, 4, 3, 172]
abbrev dktJ1_canEncode_0 : List UInt8 := dkwJ1_canEncode_0 ++ []
theorem dksJ1_canEncode_0 : cJ1_canEncode.data.toList.drop 0 = dktJ1_canEncode_0 := by decide +kernel
theorem dJ1_canEncode_0 : decode cJ1_canEncode 0 = .ok (.iload_n 0, 1) := dk_26 (dk_at dksJ1_canEncode_0 0 rfl rfl)
theorem dJ1_canEncode_1 : decode cJ1_canEncode 1 = .ok (.ifCond .lt 14, 3) := dk_155 0 14 (dk_at dksJ1_canEncode_0 1 rfl rfl)
theorem dJ1_canEncode_4 : decode cJ1_canEncode 4 = .ok (.iload_n 0, 1) := dk_26 (dk_at dksJ1_canEncode_0 4 rfl rfl)
theorem dJ1_canEncode_5 : decode cJ1_canEncode 5 = .ok (.sipush 255, 3) := dk_17 0 255 (dk_at dksJ1_canEncode_0 5 rfl rfl)
theorem dJ1_canEncode_8 : decode cJ1_canEncode 8 = .ok (.if_icmp .gt 7, 3) := dk_163 0 7 (dk_at dksJ1_canEncode_0 8 rfl rfl)
theorem dJ1_canEncode_11 : decode cJ1_canEncode 11 = .ok (.iconst 1, 1) := dk_4 (dk_at dksJ1_canEncode_0 11 rfl rfl)
theorem dJ1_canEncode_12 : decode cJ1_canEncode 12 = .ok (.goto 4, 3) := dk_167 0 4 (dk_at dksJ1_canEncode_0 12 rfl rfl)
theorem dJ1_canEncode_15 : decode cJ1_canEncode 15 = .ok (.iconst 0, 1) := dk_3 (dk_at dksJ1_canEncode_0 15 rfl rfl)
theorem dJ1_canEncode_16 : decode cJ1_canEncode 16 = .ok (.ireturn, 1) := dk_172 (dk_at dksJ1_canEncode_0 16 rfl rfl)
abbrev cJ1_indexOfChar : ByteArray := prog_20_method_23_code
def yJ1_indexOfChar : MethodName := ⟨RJ1, "indexOfChar", "([BIII)I"⟩
def dkwJ1_indexOfChar_1 : List UInt8 := [172, 132, 5, 1, 167, 255, 235, 2, 172]
abbrev dktJ1_indexOfChar_1 : List UInt8 := dkwJ1_indexOfChar_1 ++ []
def dkwJ1_indexOfChar_0 : List UInt8 := [27, 145, 54, 4, 28, 54, 5, 21, 5, 29, 162, 0, 21, 42, 21, 5, 51, 21, 4, 160, 0, 6, 21, 5]
abbrev dktJ1_indexOfChar_0 : List UInt8 := dkwJ1_indexOfChar_0 ++ dktJ1_indexOfChar_1
theorem dksJ1_indexOfChar_0 : cJ1_indexOfChar.data.toList.drop 0 = dktJ1_indexOfChar_0 := by decide +kernel
theorem dksJ1_indexOfChar_1 : cJ1_indexOfChar.data.toList.drop 24 = dktJ1_indexOfChar_1 := dk_seg dksJ1_indexOfChar_0 24 rfl rfl
theorem dJ1_indexOfChar_0 : decode cJ1_indexOfChar 0 = .ok (.iload_n 1, 1) := dk_27 (dk_at dksJ1_indexOfChar_0 0 rfl rfl)
theorem dJ1_indexOfChar_1 : decode cJ1_indexOfChar 1 = .ok (.i2b, 1) := dk_145 (dk_at dksJ1_indexOfChar_0 1 rfl rfl)
theorem dJ1_indexOfChar_2 : decode cJ1_indexOfChar 2 = .ok (.istore 4, 2) := dk_54 4 (dk_at dksJ1_indexOfChar_0 2 rfl rfl)
theorem dJ1_indexOfChar_4 : decode cJ1_indexOfChar 4 = .ok (.iload_n 2, 1) := dk_28 (dk_at dksJ1_indexOfChar_0 4 rfl rfl)
theorem dJ1_indexOfChar_5 : decode cJ1_indexOfChar 5 = .ok (.istore 5, 2) := dk_54 5 (dk_at dksJ1_indexOfChar_0 5 rfl rfl)
theorem dJ1_indexOfChar_7 : decode cJ1_indexOfChar 7 = .ok (.iload 5, 2) := dk_21 5 (dk_at dksJ1_indexOfChar_0 7 rfl rfl)
theorem dJ1_indexOfChar_9 : decode cJ1_indexOfChar 9 = .ok (.iload_n 3, 1) := dk_29 (dk_at dksJ1_indexOfChar_0 9 rfl rfl)
theorem dJ1_indexOfChar_10 : decode cJ1_indexOfChar 10 = .ok (.if_icmp .ge 21, 3) := dk_162 0 21 (dk_at dksJ1_indexOfChar_0 10 rfl rfl)
theorem dJ1_indexOfChar_13 : decode cJ1_indexOfChar 13 = .ok (.aload_n 0, 1) := dk_42 (dk_at dksJ1_indexOfChar_0 13 rfl rfl)
theorem dJ1_indexOfChar_14 : decode cJ1_indexOfChar 14 = .ok (.iload 5, 2) := dk_21 5 (dk_at dksJ1_indexOfChar_0 14 rfl rfl)
theorem dJ1_indexOfChar_16 : decode cJ1_indexOfChar 16 = .ok (.baload, 1) := dk_51 (dk_at dksJ1_indexOfChar_0 16 rfl rfl)
theorem dJ1_indexOfChar_17 : decode cJ1_indexOfChar 17 = .ok (.iload 4, 2) := dk_21 4 (dk_at dksJ1_indexOfChar_0 17 rfl rfl)
theorem dJ1_indexOfChar_19 : decode cJ1_indexOfChar 19 = .ok (.if_icmp .ne 6, 3) := dk_160 0 6 (dk_at dksJ1_indexOfChar_0 19 rfl rfl)
theorem dJ1_indexOfChar_22 : decode cJ1_indexOfChar 22 = .ok (.iload 5, 2) := dk_21 5 (dk_at dksJ1_indexOfChar_0 22 rfl rfl)
theorem dJ1_indexOfChar_24 : decode cJ1_indexOfChar 24 = .ok (.ireturn, 1) := dk_172 (dk_at dksJ1_indexOfChar_1 0 rfl rfl)
theorem dJ1_indexOfChar_25 : decode cJ1_indexOfChar 25 = .ok (.iinc 5 1, 3) := dk_132 5 1 (dk_at dksJ1_indexOfChar_1 1 rfl rfl)
theorem dJ1_indexOfChar_28 : decode cJ1_indexOfChar 28 = .ok (.goto (-21), 3) := dk_167 255 235 (dk_at dksJ1_indexOfChar_1 4 rfl rfl)
theorem dJ1_indexOfChar_31 : decode cJ1_indexOfChar 31 = .ok (.iconst (-1), 1) := dk_2 (dk_at dksJ1_indexOfChar_1 7 rfl rfl)
theorem dJ1_indexOfChar_32 : decode cJ1_indexOfChar 32 = .ok (.ireturn, 1) := dk_172 (dk_at dksJ1_indexOfChar_1 8 rfl rfl)
theorem q67 : (Jvm.Cond.initialized "java/lang/StringLatin1") ∈ lw_all := lw_g (lw_at lw_m1 14 rfl) rfl
theorem q135 : (Jvm.Cond.static ({ cls := "java/lang/StringLatin1", name := "indexOf", desc := "([BIII)I" } : Jvm.MethodName)) ∈ lw_all := lw_g (lw_at lw_m1 82 rfl) rfl
theorem q136 : (Jvm.Cond.code ({ cls := "java/lang/StringLatin1", name := "indexOf", desc := "([BIII)I" } : Jvm.MethodName) prog_20_method_22_code (4 : Nat) (Option.some Jvm.ClassFile.FieldType.int)) ∈ lw_all := lw_g (lw_at lw_m1 83 rfl) rfl
theorem q137 : (Jvm.Cond.methodLink "java/lang/StringLatin1" (88 : Nat) ({ cls := "java/lang/StringLatin1", name := "canEncode", desc := "(I)Z" } : Jvm.MethodName)) ∈ lw_all := lw_g (lw_at lw_m1 84 rfl) rfl
theorem q138 : (Jvm.Cond.static ({ cls := "java/lang/StringLatin1", name := "canEncode", desc := "(I)Z" } : Jvm.MethodName)) ∈ lw_all := lw_g (lw_at lw_m1 85 rfl) rfl
theorem q139 : (Jvm.Cond.code ({ cls := "java/lang/StringLatin1", name := "canEncode", desc := "(I)Z" } : Jvm.MethodName) prog_20_method_4_code (1 : Nat) (Option.some Jvm.ClassFile.FieldType.boolean)) ∈ lw_all := lw_g (lw_at lw_m1 86 rfl) rfl
theorem q140 : (Jvm.Cond.methodLink "java/lang/StringLatin1" (92 : Nat) ({ cls := "java/lang/Math", name := "max", desc := "(II)I" } : Jvm.MethodName)) ∈ lw_all := lw_g (lw_at lw_m1 87 rfl) rfl
theorem q143 : (Jvm.Cond.methodLink "java/lang/StringLatin1" (38 : Nat) ({ cls := "java/lang/Math", name := "min", desc := "(II)I" } : Jvm.MethodName)) ∈ lw_all := lw_g (lw_at lw_m1 90 rfl) rfl
theorem q146 : (Jvm.Cond.methodLink "java/lang/StringLatin1" (95 : Nat) ({ cls := "java/lang/StringLatin1", name := "indexOfChar", desc := "([BIII)I" } : Jvm.MethodName)) ∈ lw_all := lw_g (lw_at lw_m1 93 rfl) rfl
theorem q147 : (Jvm.Cond.static ({ cls := "java/lang/StringLatin1", name := "indexOfChar", desc := "([BIII)I" } : Jvm.MethodName)) ∈ lw_all := lw_g (lw_at lw_m1 94 rfl) rfl
theorem q148 : (Jvm.Cond.code ({ cls := "java/lang/StringLatin1", name := "indexOfChar", desc := "([BIII)I" } : Jvm.MethodName) prog_20_method_23_code (6 : Nat) (Option.some Jvm.ClassFile.FieldType.int)) ∈ lw_all := lw_g (lw_at lw_m1 95 rfl) rfl

/-! java/lang/Math -/
set_option maxRecDepth 100000
def RJ2 : String := "java/lang/Math"
abbrev cJ2_max : ByteArray := prog_18_method_65_code
def yJ2_max : MethodName := ⟨RJ2, "max", "(II)I"⟩
def dkwJ2_max_0 : List UInt8 := [26, 27, 161, 0, 7, 26, 167, 0, 4, 27, 172]
abbrev dktJ2_max_0 : List UInt8 := dkwJ2_max_0 ++ []
theorem dksJ2_max_0 : cJ2_max.data.toList.drop 0 = dktJ2_max_0 := by decide +kernel
theorem dJ2_max_0 : decode cJ2_max 0 = .ok (.iload_n 0, 1) := dk_26 (dk_at dksJ2_max_0 0 rfl rfl)
theorem dJ2_max_1 : decode cJ2_max 1 = .ok (.iload_n 1, 1) := dk_27 (dk_at dksJ2_max_0 1 rfl rfl)
theorem dJ2_max_2 : decode cJ2_max 2 = .ok (.if_icmp .lt 7, 3) := dk_161 0 7 (dk_at dksJ2_max_0 2 rfl rfl)
theorem dJ2_max_5 : decode cJ2_max 5 = .ok (.iload_n 0, 1) := dk_26 (dk_at dksJ2_max_0 5 rfl rfl)
theorem dJ2_max_6 : decode cJ2_max 6 = .ok (.goto 4, 3) := dk_167 0 4 (dk_at dksJ2_max_0 6 rfl rfl)
theorem dJ2_max_9 : decode cJ2_max 9 = .ok (.iload_n 1, 1) := dk_27 (dk_at dksJ2_max_0 9 rfl rfl)
theorem dJ2_max_10 : decode cJ2_max 10 = .ok (.ireturn, 1) := dk_172 (dk_at dksJ2_max_0 10 rfl rfl)
abbrev cJ2_min : ByteArray := prog_18_method_69_code
def yJ2_min : MethodName := ⟨RJ2, "min", "(II)I"⟩
def dkwJ2_min_0 : List UInt8 := [26, 27, 163, 0, 7, 26, 167, 0, 4, 27, 172]
abbrev dktJ2_min_0 : List UInt8 := dkwJ2_min_0 ++ []
theorem dksJ2_min_0 : cJ2_min.data.toList.drop 0 = dktJ2_min_0 := by decide +kernel
theorem dJ2_min_0 : decode cJ2_min 0 = .ok (.iload_n 0, 1) := dk_26 (dk_at dksJ2_min_0 0 rfl rfl)
theorem dJ2_min_1 : decode cJ2_min 1 = .ok (.iload_n 1, 1) := dk_27 (dk_at dksJ2_min_0 1 rfl rfl)
theorem dJ2_min_2 : decode cJ2_min 2 = .ok (.if_icmp .gt 7, 3) := dk_163 0 7 (dk_at dksJ2_min_0 2 rfl rfl)
theorem dJ2_min_5 : decode cJ2_min 5 = .ok (.iload_n 0, 1) := dk_26 (dk_at dksJ2_min_0 5 rfl rfl)
theorem dJ2_min_6 : decode cJ2_min 6 = .ok (.goto 4, 3) := dk_167 0 4 (dk_at dksJ2_min_0 6 rfl rfl)
theorem dJ2_min_9 : decode cJ2_min 9 = .ok (.iload_n 1, 1) := dk_27 (dk_at dksJ2_min_0 9 rfl rfl)
theorem dJ2_min_10 : decode cJ2_min 10 = .ok (.ireturn, 1) := dk_172 (dk_at dksJ2_min_0 10 rfl rfl)
theorem q68 : (Jvm.Cond.initialized "java/lang/Math") ∈ lw_all := lw_g (lw_at lw_m1 15 rfl) rfl
theorem q141 : (Jvm.Cond.static ({ cls := "java/lang/Math", name := "max", desc := "(II)I" } : Jvm.MethodName)) ∈ lw_all := lw_g (lw_at lw_m1 88 rfl) rfl
theorem q142 : (Jvm.Cond.code ({ cls := "java/lang/Math", name := "max", desc := "(II)I" } : Jvm.MethodName) prog_18_method_65_code (2 : Nat) (Option.some Jvm.ClassFile.FieldType.int)) ∈ lw_all := lw_g (lw_at lw_m1 89 rfl) rfl
theorem q144 : (Jvm.Cond.static ({ cls := "java/lang/Math", name := "min", desc := "(II)I" } : Jvm.MethodName)) ∈ lw_all := lw_g (lw_at lw_m1 91 rfl) rfl
theorem q145 : (Jvm.Cond.code ({ cls := "java/lang/Math", name := "min", desc := "(II)I" } : Jvm.MethodName) prog_18_method_69_code (2 : Nat) (Option.some Jvm.ClassFile.FieldType.int)) ∈ lw_all := lw_g (lw_at lw_m1 92 rfl) rfl

/-! java/lang/StringUTF16 -/
set_option maxRecDepth 100000
def RJ3 : String := "java/lang/StringUTF16"
abbrev cJ3_indexOf : ByteArray := prog_21_method_40_code
def yJ3_indexOf : MethodName := ⟨RJ3, "indexOf", "([BIII)I"⟩
def dkwJ3_indexOf_1 : List UInt8 := [18, 227, 162, 0, 11, 42, 27, 28, 29, 184, 0, 228, 172, 42, 27, 28, 29, 184, 0, 232, 172]
abbrev dktJ3_indexOf_1 : List UInt8 := dkwJ3_indexOf_1 ++ []
def dkwJ3_indexOf_0 : List UInt8 := [28, 3, 184, 0, 224, 61, 29, 42, 190, 4, 122, 184, 0, 183, 62, 28, 29, 161, 0, 5, 2, 172, 27]
abbrev dktJ3_indexOf_0 : List UInt8 := dkwJ3_indexOf_0 ++ dktJ3_indexOf_1
theorem dksJ3_indexOf_0 : cJ3_indexOf.data.toList.drop 0 = dktJ3_indexOf_0 := by decide +kernel
theorem dksJ3_indexOf_1 : cJ3_indexOf.data.toList.drop 23 = dktJ3_indexOf_1 := dk_seg dksJ3_indexOf_0 23 rfl rfl
theorem dJ3_indexOf_0 : decode cJ3_indexOf 0 = .ok (.iload_n 2, 1) := dk_28 (dk_at dksJ3_indexOf_0 0 rfl rfl)
theorem dJ3_indexOf_1 : decode cJ3_indexOf 1 = .ok (.iconst 0, 1) := dk_3 (dk_at dksJ3_indexOf_0 1 rfl rfl)
theorem dJ3_indexOf_2 : decode cJ3_indexOf 2 = .ok (.invokestatic 224, 3) := dk_184 0 224 (dk_at dksJ3_indexOf_0 2 rfl rfl)
theorem dJ3_indexOf_5 : decode cJ3_indexOf 5 = .ok (.istore_n 2, 1) := dk_61 (dk_at dksJ3_indexOf_0 5 rfl rfl)
theorem dJ3_indexOf_6 : decode cJ3_indexOf 6 = .ok (.iload_n 3, 1) := dk_29 (dk_at dksJ3_indexOf_0 6 rfl rfl)
theorem dJ3_indexOf_7 : decode cJ3_indexOf 7 = .ok (.aload_n 0, 1) := dk_42 (dk_at dksJ3_indexOf_0 7 rfl rfl)
theorem dJ3_indexOf_8 : decode cJ3_indexOf 8 = .ok (.arraylength, 1) := dk_190 (dk_at dksJ3_indexOf_0 8 rfl rfl)
theorem dJ3_indexOf_9 : decode cJ3_indexOf 9 = .ok (.iconst 1, 1) := dk_4 (dk_at dksJ3_indexOf_0 9 rfl rfl)
theorem dJ3_indexOf_10 : decode cJ3_indexOf 10 = .ok (.ishr, 1) := dk_122 (dk_at dksJ3_indexOf_0 10 rfl rfl)
theorem dJ3_indexOf_11 : decode cJ3_indexOf 11 = .ok (.invokestatic 183, 3) := dk_184 0 183 (dk_at dksJ3_indexOf_0 11 rfl rfl)
theorem dJ3_indexOf_14 : decode cJ3_indexOf 14 = .ok (.istore_n 3, 1) := dk_62 (dk_at dksJ3_indexOf_0 14 rfl rfl)
theorem dJ3_indexOf_15 : decode cJ3_indexOf 15 = .ok (.iload_n 2, 1) := dk_28 (dk_at dksJ3_indexOf_0 15 rfl rfl)
theorem dJ3_indexOf_16 : decode cJ3_indexOf 16 = .ok (.iload_n 3, 1) := dk_29 (dk_at dksJ3_indexOf_0 16 rfl rfl)
theorem dJ3_indexOf_17 : decode cJ3_indexOf 17 = .ok (.if_icmp .lt 5, 3) := dk_161 0 5 (dk_at dksJ3_indexOf_0 17 rfl rfl)
theorem dJ3_indexOf_20 : decode cJ3_indexOf 20 = .ok (.iconst (-1), 1) := dk_2 (dk_at dksJ3_indexOf_0 20 rfl rfl)
theorem dJ3_indexOf_21 : decode cJ3_indexOf 21 = .ok (.ireturn, 1) := dk_172 (dk_at dksJ3_indexOf_0 21 rfl rfl)
theorem dJ3_indexOf_22 : decode cJ3_indexOf 22 = .ok (.iload_n 1, 1) := dk_27 (dk_at dksJ3_indexOf_0 22 rfl rfl)
theorem dJ3_indexOf_23 : decode cJ3_indexOf 23 = .ok (.ldc 227, 2) := dk_18 227 (dk_at dksJ3_indexOf_1 0 rfl rfl)
theorem dJ3_indexOf_25 : decode cJ3_indexOf 25 = .ok (.if_icmp .ge 11, 3) := dk_162 0 11 (dk_at dksJ3_indexOf_1 2 rfl rfl)
theorem dJ3_indexOf_28 : decode cJ3_indexOf 28 = .ok (.aload_n 0, 1) := dk_42 (dk_at dksJ3_indexOf_1 5 rfl rfl)
theorem dJ3_indexOf_29 : decode cJ3_indexOf 29 = .ok (.iload_n 1, 1) := dk_27 (dk_at dksJ3_indexOf_1 6 rfl rfl)
theorem dJ3_indexOf_30 : decode cJ3_indexOf 30 = .ok (.iload_n 2, 1) := dk_28 (dk_at dksJ3_indexOf_1 7 rfl rfl)
theorem dJ3_indexOf_31 : decode cJ3_indexOf 31 = .ok (.iload_n 3, 1) := dk_29 (dk_at dksJ3_indexOf_1 8 rfl rfl)
theorem dJ3_indexOf_32 : decode cJ3_indexOf 32 = .ok (.invokestatic 228, 3) := dk_184 0 228 (dk_at dksJ3_indexOf_1 9 rfl rfl)
theorem dJ3_indexOf_35 : decode cJ3_indexOf 35 = .ok (.ireturn, 1) := dk_172 (dk_at dksJ3_indexOf_1 12 rfl rfl)
theorem dJ3_indexOf_36 : decode cJ3_indexOf 36 = .ok (.aload_n 0, 1) := dk_42 (dk_at dksJ3_indexOf_1 13 rfl rfl)
theorem dJ3_indexOf_37 : decode cJ3_indexOf 37 = .ok (.iload_n 1, 1) := dk_27 (dk_at dksJ3_indexOf_1 14 rfl rfl)
theorem dJ3_indexOf_38 : decode cJ3_indexOf 38 = .ok (.iload_n 2, 1) := dk_28 (dk_at dksJ3_indexOf_1 15 rfl rfl)
theorem dJ3_indexOf_39 : decode cJ3_indexOf 39 = .ok (.iload_n 3, 1) := dk_29 (dk_at dksJ3_indexOf_1 16 rfl rfl)
theorem dJ3_indexOf_40 : decode cJ3_indexOf 40 = .ok (.invokestatic 232, 3) := dk_184 0 232 (dk_at dksJ3_indexOf_1 17 rfl rfl)
theorem dJ3_indexOf_43 : decode cJ3_indexOf 43 = .ok (.ireturn, 1) := dk_172 (dk_at dksJ3_indexOf_1 20 rfl rfl)
abbrev cJ3_indexOfChar : ByteArray := prog_21_method_47_code
def yJ3_indexOfChar : MethodName := ⟨RJ3, "indexOfChar", "([BIII)I"⟩
def dkwJ3_indexOfChar_0 : List UInt8 := [28, 29, 42, 184, 0, 96, 42, 27, 28, 29, 184, 0, 244, 172]
abbrev dktJ3_indexOfChar_0 : List UInt8 := dkwJ3_indexOfChar_0 ++ []
theorem dksJ3_indexOfChar_0 : cJ3_indexOfChar.data.toList.drop 0 = dktJ3_indexOfChar_0 := by decide +kernel
theorem dJ3_indexOfChar_0 : decode cJ3_indexOfChar 0 = .ok (.iload_n 2, 1) := dk_28 (dk_at dksJ3_indexOfChar_0 0 rfl rfl)
theorem dJ3_indexOfChar_1 : decode cJ3_indexOfChar 1 = .ok (.iload_n 3, 1) := dk_29 (dk_at dksJ3_indexOfChar_0 1 rfl rfl)
theorem dJ3_indexOfChar_2 : decode cJ3_indexOfChar 2 = .ok (.aload_n 0, 1) := dk_42 (dk_at dksJ3_indexOfChar_0 2 rfl rfl)
theorem dJ3_indexOfChar_3 : decode cJ3_indexOfChar 3 = .ok (.invokestatic 96, 3) := dk_184 0 96 (dk_at dksJ3_indexOfChar_0 3 rfl rfl)
theorem dJ3_indexOfChar_6 : decode cJ3_indexOfChar 6 = .ok (.aload_n 0, 1) := dk_42 (dk_at dksJ3_indexOfChar_0 6 rfl rfl)
theorem dJ3_indexOfChar_7 : decode cJ3_indexOfChar 7 = .ok (.iload_n 1, 1) := dk_27 (dk_at dksJ3_indexOfChar_0 7 rfl rfl)
theorem dJ3_indexOfChar_8 : decode cJ3_indexOfChar 8 = .ok (.iload_n 2, 1) := dk_28 (dk_at dksJ3_indexOfChar_0 8 rfl rfl)
theorem dJ3_indexOfChar_9 : decode cJ3_indexOfChar 9 = .ok (.iload_n 3, 1) := dk_29 (dk_at dksJ3_indexOfChar_0 9 rfl rfl)
theorem dJ3_indexOfChar_10 : decode cJ3_indexOfChar 10 = .ok (.invokestatic 244, 3) := dk_184 0 244 (dk_at dksJ3_indexOfChar_0 10 rfl rfl)
theorem dJ3_indexOfChar_13 : decode cJ3_indexOfChar 13 = .ok (.ireturn, 1) := dk_172 (dk_at dksJ3_indexOfChar_0 13 rfl rfl)
abbrev cJ3_checkBoundsBeginEnd : ByteArray := prog_21_method_93_code
def yJ3_checkBoundsBeginEnd : MethodName := ⟨RJ3, "checkBoundsBeginEnd", "(II[B)V"⟩
def dkwJ3_checkBoundsBeginEnd_0 : List UInt8 := [26, 27, 44, 184, 0, 48, 184, 0, 241, 177]
abbrev dktJ3_checkBoundsBeginEnd_0 : List UInt8 := dkwJ3_checkBoundsBeginEnd_0 ++ []
theorem dksJ3_checkBoundsBeginEnd_0 : cJ3_checkBoundsBeginEnd.data.toList.drop 0 = dktJ3_checkBoundsBeginEnd_0 := by decide +kernel
theorem dJ3_checkBoundsBeginEnd_0 : decode cJ3_checkBoundsBeginEnd 0 = .ok (.iload_n 0, 1) := dk_26 (dk_at dksJ3_checkBoundsBeginEnd_0 0 rfl rfl)
theorem dJ3_checkBoundsBeginEnd_1 : decode cJ3_checkBoundsBeginEnd 1 = .ok (.iload_n 1, 1) := dk_27 (dk_at dksJ3_checkBoundsBeginEnd_0 1 rfl rfl)
theorem dJ3_checkBoundsBeginEnd_2 : decode cJ3_checkBoundsBeginEnd 2 = .ok (.aload_n 2, 1) := dk_44 (dk_at dksJ3_checkBoundsBeginEnd_0 2 rfl rfl)
theorem dJ3_checkBoundsBeginEnd_3 : decode cJ3_checkBoundsBeginEnd 3 = .ok (.invokestatic 48, 3) := dk_184 0 48 (dk_at dksJ3_checkBoundsBeginEnd_0 3 rfl rfl)
theorem dJ3_checkBoundsBeginEnd_6 : decode cJ3_checkBoundsBeginEnd 6 = .ok (.invokestatic 241, 3) := dk_184 0 241 (dk_at dksJ3_checkBoundsBeginEnd_0 6 rfl rfl)
theorem dJ3_checkBoundsBeginEnd_9 : decode cJ3_checkBoundsBeginEnd 9 = .ok (.return_, 1) := dk_177 (dk_at dksJ3_checkBoundsBeginEnd_0 9 rfl rfl)
abbrev cJ3_length : ByteArray := prog_21_method_6_code
def yJ3_length : MethodName := ⟨RJ3, "length", "([B)I"⟩
def dkwJ3_length_0 : List UInt8 := [42, 190, 4, 122, 172]
abbrev dktJ3_length_0 : List UInt8 := dkwJ3_length_0 ++ []
theorem dksJ3_length_0 : cJ3_length.data.toList.drop 0 = dktJ3_length_0 := by decide +kernel
theorem dJ3_length_0 : decode cJ3_length 0 = .ok (.aload_n 0, 1) := dk_42 (dk_at dksJ3_length_0 0 rfl rfl)
theorem dJ3_length_1 : decode cJ3_length 1 = .ok (.arraylength, 1) := dk_190 (dk_at dksJ3_length_0 1 rfl rfl)
theorem dJ3_length_2 : decode cJ3_length 2 = .ok (.iconst 1, 1) := dk_4 (dk_at dksJ3_length_0 2 rfl rfl)
theorem dJ3_length_3 : decode cJ3_length 3 = .ok (.ishr, 1) := dk_122 (dk_at dksJ3_length_0 3 rfl rfl)
theorem dJ3_length_4 : decode cJ3_length 4 = .ok (.ireturn, 1) := dk_172 (dk_at dksJ3_length_0 4 rfl rfl)
abbrev cJ3_indexOfCharUnsafe : ByteArray := prog_21_method_48_code
def yJ3_indexOfCharUnsafe : MethodName := ⟨RJ3, "indexOfCharUnsafe", "([BIII)I"⟩
def dkwJ3_indexOfCharUnsafe_1 : List UInt8 := [132, 4, 1, 167, 255, 234, 2, 172]
abbrev dktJ3_indexOfCharUnsafe_1 : List UInt8 := dkwJ3_indexOfCharUnsafe_1 ++ []
def dkwJ3_indexOfCharUnsafe_0 : List UInt8 := [28, 54, 4, 21, 4, 29, 162, 0, 22, 42, 21, 4, 184, 0, 71, 27, 160, 0, 6, 21, 4, 172]
abbrev dktJ3_indexOfCharUnsafe_0 : List UInt8 := dkwJ3_indexOfCharUnsafe_0 ++ dktJ3_indexOfCharUnsafe_1
theorem dksJ3_indexOfCharUnsafe_0 : cJ3_indexOfCharUnsafe.data.toList.drop 0 = dktJ3_indexOfCharUnsafe_0 := by decide +kernel
theorem dksJ3_indexOfCharUnsafe_1 : cJ3_indexOfCharUnsafe.data.toList.drop 22 = dktJ3_indexOfCharUnsafe_1 := dk_seg dksJ3_indexOfCharUnsafe_0 22 rfl rfl
theorem dJ3_indexOfCharUnsafe_0 : decode cJ3_indexOfCharUnsafe 0 = .ok (.iload_n 2, 1) := dk_28 (dk_at dksJ3_indexOfCharUnsafe_0 0 rfl rfl)
theorem dJ3_indexOfCharUnsafe_1 : decode cJ3_indexOfCharUnsafe 1 = .ok (.istore 4, 2) := dk_54 4 (dk_at dksJ3_indexOfCharUnsafe_0 1 rfl rfl)
theorem dJ3_indexOfCharUnsafe_3 : decode cJ3_indexOfCharUnsafe 3 = .ok (.iload 4, 2) := dk_21 4 (dk_at dksJ3_indexOfCharUnsafe_0 3 rfl rfl)
theorem dJ3_indexOfCharUnsafe_5 : decode cJ3_indexOfCharUnsafe 5 = .ok (.iload_n 3, 1) := dk_29 (dk_at dksJ3_indexOfCharUnsafe_0 5 rfl rfl)
theorem dJ3_indexOfCharUnsafe_6 : decode cJ3_indexOfCharUnsafe 6 = .ok (.if_icmp .ge 22, 3) := dk_162 0 22 (dk_at dksJ3_indexOfCharUnsafe_0 6 rfl rfl)
theorem dJ3_indexOfCharUnsafe_9 : decode cJ3_indexOfCharUnsafe 9 = .ok (.aload_n 0, 1) := dk_42 (dk_at dksJ3_indexOfCharUnsafe_0 9 rfl rfl)
theorem dJ3_indexOfCharUnsafe_10 : decode cJ3_indexOfCharUnsafe 10 = .ok (.iload 4, 2) := dk_21 4 (dk_at dksJ3_indexOfCharUnsafe_0 10 rfl rfl)
theorem dJ3_indexOfCharUnsafe_12 : decode cJ3_indexOfCharUnsafe 12 = .ok (.invokestatic 71, 3) := dk_184 0 71 (dk_at dksJ3_indexOfCharUnsafe_0 12 rfl rfl)
theorem dJ3_indexOfCharUnsafe_15 : decode cJ3_indexOfCharUnsafe 15 = .ok (.iload_n 1, 1) := dk_27 (dk_at dksJ3_indexOfCharUnsafe_0 15 rfl rfl)
theorem dJ3_indexOfCharUnsafe_16 : decode cJ3_indexOfCharUnsafe 16 = .ok (.if_icmp .ne 6, 3) := dk_160 0 6 (dk_at dksJ3_indexOfCharUnsafe_0 16 rfl rfl)
theorem dJ3_indexOfCharUnsafe_19 : decode cJ3_indexOfCharUnsafe 19 = .ok (.iload 4, 2) := dk_21 4 (dk_at dksJ3_indexOfCharUnsafe_0 19 rfl rfl)
theorem dJ3_indexOfCharUnsafe_21 : decode cJ3_indexOfCharUnsafe 21 = .ok (.ireturn, 1) := dk_172 (dk_at dksJ3_indexOfCharUnsafe_0 21 rfl rfl)
theorem dJ3_indexOfCharUnsafe_22 : decode cJ3_indexOfCharUnsafe 22 = .ok (.iinc 4 1, 3) := dk_132 4 1 (dk_at dksJ3_indexOfCharUnsafe_1 0 rfl rfl)
theorem dJ3_indexOfCharUnsafe_25 : decode cJ3_indexOfCharUnsafe 25 = .ok (.goto (-22), 3) := dk_167 255 234 (dk_at dksJ3_indexOfCharUnsafe_1 3 rfl rfl)
theorem dJ3_indexOfCharUnsafe_28 : decode cJ3_indexOfCharUnsafe 28 = .ok (.iconst (-1), 1) := dk_2 (dk_at dksJ3_indexOfCharUnsafe_1 6 rfl rfl)
theorem dJ3_indexOfCharUnsafe_29 : decode cJ3_indexOfCharUnsafe 29 = .ok (.ireturn, 1) := dk_172 (dk_at dksJ3_indexOfCharUnsafe_1 7 rfl rfl)
abbrev cJ3_getChar : ByteArray := prog_21_method_5_code
def yJ3_getChar : MethodName := ⟨RJ3, "getChar", "([BI)C"⟩
def dkwJ3_getChar_2 : List UInt8 := [51, 17, 0, 255, 126, 178, 0, 63, 120, 128, 146, 172]
abbrev dktJ3_getChar_2 : List UInt8 := dkwJ3_getChar_2 ++ []
def dkwJ3_getChar_1 : List UInt8 := [183, 0, 56, 191, 27, 4, 120, 60, 42, 27, 132, 1, 1, 51, 17, 0, 255, 126, 178, 0, 59, 120, 42, 27]
abbrev dktJ3_getChar_1 : List UInt8 := dkwJ3_getChar_1 ++ dktJ3_getChar_2
def dkwJ3_getChar_0 : List UInt8 := [178, 0, 44, 154, 0, 25, 27, 155, 0, 11, 27, 42, 184, 0, 48, 161, 0, 13, 187, 0, 52, 89, 18, 54]
abbrev dktJ3_getChar_0 : List UInt8 := dkwJ3_getChar_0 ++ dktJ3_getChar_1
theorem dksJ3_getChar_0 : cJ3_getChar.data.toList.drop 0 = dktJ3_getChar_0 := by decide +kernel
theorem dksJ3_getChar_1 : cJ3_getChar.data.toList.drop 24 = dktJ3_getChar_1 := dk_seg dksJ3_getChar_0 24 rfl rfl
theorem dksJ3_getChar_2 : cJ3_getChar.data.toList.drop 48 = dktJ3_getChar_2 := dk_seg dksJ3_getChar_1 24 rfl rfl
theorem dJ3_getChar_0 : decode cJ3_getChar 0 = .ok (.getstatic 44, 3) := dk_178 0 44 (dk_at dksJ3_getChar_0 0 rfl rfl)
theorem dJ3_getChar_3 : decode cJ3_getChar 3 = .ok (.ifCond .ne 25, 3) := dk_154 0 25 (dk_at dksJ3_getChar_0 3 rfl rfl)
theorem dJ3_getChar_6 : decode cJ3_getChar 6 = .ok (.iload_n 1, 1) := dk_27 (dk_at dksJ3_getChar_0 6 rfl rfl)
theorem dJ3_getChar_7 : decode cJ3_getChar 7 = .ok (.ifCond .lt 11, 3) := dk_155 0 11 (dk_at dksJ3_getChar_0 7 rfl rfl)
theorem dJ3_getChar_10 : decode cJ3_getChar 10 = .ok (.iload_n 1, 1) := dk_27 (dk_at dksJ3_getChar_0 10 rfl rfl)
theorem dJ3_getChar_11 : decode cJ3_getChar 11 = .ok (.aload_n 0, 1) := dk_42 (dk_at dksJ3_getChar_0 11 rfl rfl)
theorem dJ3_getChar_12 : decode cJ3_getChar 12 = .ok (.invokestatic 48, 3) := dk_184 0 48 (dk_at dksJ3_getChar_0 12 rfl rfl)
theorem dJ3_getChar_15 : decode cJ3_getChar 15 = .ok (.if_icmp .lt 13, 3) := dk_161 0 13 (dk_at dksJ3_getChar_0 15 rfl rfl)
theorem dJ3_getChar_18 : decode cJ3_getChar 18 = .ok (.new 52, 3) := dk_187 0 52 (dk_at dksJ3_getChar_0 18 rfl rfl)
theorem dJ3_getChar_21 : decode cJ3_getChar 21 = .ok (.dup, 1) := dk_89 (dk_at dksJ3_getChar_0 21 rfl rfl)
theorem dJ3_getChar_22 : decode cJ3_getChar 22 = .ok (.ldc 54, 2) := dk_18 54 (dk_at dksJ3_getChar_0 22 rfl rfl)
theorem dJ3_getChar_24 : decode cJ3_getChar 24 = .ok (.invokespecial 56, 3) := dk_183 0 56 (dk_at dksJ3_getChar_1 0 rfl rfl)
theorem dJ3_getChar_27 : decode cJ3_getChar 27 = .ok (.athrow, 1) := dk_191 (dk_at dksJ3_getChar_1 3 rfl rfl)
theorem dJ3_getChar_28 : decode cJ3_getChar 28 = .ok (.iload_n 1, 1) := dk_27 (dk_at dksJ3_getChar_1 4 rfl rfl)
theorem dJ3_getChar_29 : decode cJ3_getChar 29 = .ok (.iconst 1, 1) := dk_4 (dk_at dksJ3_getChar_1 5 rfl rfl)
theorem dJ3_getChar_30 : decode cJ3_getChar 30 = .ok (.ishl, 1) := dk_120 (dk_at dksJ3_getChar_1 6 rfl rfl)
theorem dJ3_getChar_31 : decode cJ3_getChar 31 = .ok (.istore_n 1, 1) := dk_60 (dk_at dksJ3_getChar_1 7 rfl rfl)
theorem dJ3_getChar_32 : decode cJ3_getChar 32 = .ok (.aload_n 0, 1) := dk_42 (dk_at dksJ3_getChar_1 8 rfl rfl)
theorem dJ3_getChar_33 : decode cJ3_getChar 33 = .ok (.iload_n 1, 1) := dk_27 (dk_at dksJ3_getChar_1 9 rfl rfl)
theorem dJ3_getChar_34 : decode cJ3_getChar 34 = .ok (.iinc 1 1, 3) := dk_132 1 1 (dk_at dksJ3_getChar_1 10 rfl rfl)
theorem dJ3_getChar_37 : decode cJ3_getChar 37 = .ok (.baload, 1) := dk_51 (dk_at dksJ3_getChar_1 13 rfl rfl)
theorem dJ3_getChar_38 : decode cJ3_getChar 38 = .ok (.sipush 255, 3) := dk_17 0 255 (dk_at dksJ3_getChar_1 14 rfl rfl)
theorem dJ3_getChar_41 : decode cJ3_getChar 41 = .ok (.iand, 1) := dk_126 (dk_at dksJ3_getChar_1 17 rfl rfl)
theorem dJ3_getChar_42 : decode cJ3_getChar 42 = .ok (.getstatic 59, 3) := dk_178 0 59 (dk_at dksJ3_getChar_1 18 rfl rfl)
theorem dJ3_getChar_45 : decode cJ3_getChar 45 = .ok (.ishl, 1) := dk_120 (dk_at dksJ3_getChar_1 21 rfl rfl)
theorem dJ3_getChar_46 : decode cJ3_getChar 46 = .ok (.aload_n 0, 1) := dk_42 (dk_at dksJ3_getChar_1 22 rfl rfl)
theorem dJ3_getChar_47 : decode cJ3_getChar 47 = .ok (.iload_n 1, 1) := dk_27 (dk_at dksJ3_getChar_1 23 rfl rfl)
theorem dJ3_getChar_48 : decode cJ3_getChar 48 = .ok (.baload, 1) := dk_51 (dk_at dksJ3_getChar_2 0 rfl rfl)
theorem dJ3_getChar_49 : decode cJ3_getChar 49 = .ok (.sipush 255, 3) := dk_17 0 255 (dk_at dksJ3_getChar_2 1 rfl rfl)
theorem dJ3_getChar_52 : decode cJ3_getChar 52 = .ok (.iand, 1) := dk_126 (dk_at dksJ3_getChar_2 4 rfl rfl)
theorem dJ3_getChar_53 : decode cJ3_getChar 53 = .ok (.getstatic 63, 3) := dk_178 0 63 (dk_at dksJ3_getChar_2 5 rfl rfl)
theorem dJ3_getChar_56 : decode cJ3_getChar 56 = .ok (.ishl, 1) := dk_120 (dk_at dksJ3_getChar_2 8 rfl rfl)
theorem dJ3_getChar_57 : decode cJ3_getChar 57 = .ok (.ior, 1) := dk_128 (dk_at dksJ3_getChar_2 9 rfl rfl)
theorem dJ3_getChar_58 : decode cJ3_getChar 58 = .ok (.i2c, 1) := dk_146 (dk_at dksJ3_getChar_2 10 rfl rfl)
theorem dJ3_getChar_59 : decode cJ3_getChar 59 = .ok (.ireturn, 1) := dk_172 (dk_at dksJ3_getChar_2 11 rfl rfl)
abbrev cJ3_indexOfSupplementary : ByteArray := prog_21_method_49_code
def yJ3_indexOfSupplementary : MethodName := ⟨RJ3, "indexOfSupplementary", "([BIII)I"⟩
def dkwJ3_indexOfSupplementary_3 : List UInt8 := [167, 255, 218, 2, 172]
abbrev dktJ3_indexOfSupplementary_3 : List UInt8 := dkwJ3_indexOfSupplementary_3 ++ []
def dkwJ3_indexOfSupplementary_2 : List UInt8 := [160, 0, 19, 42, 21, 6, 4, 96, 184, 0, 71, 21, 5, 160, 0, 6, 21, 6, 172, 132, 6, 1]
abbrev dktJ3_indexOfSupplementary_2 : List UInt8 := dkwJ3_indexOfSupplementary_2 ++ dktJ3_indexOfSupplementary_3
def dkwJ3_indexOfSupplementary_1 : List UInt8 := [184, 0, 96, 28, 54, 6, 21, 6, 29, 4, 100, 162, 0, 36, 42, 21, 6, 184, 0, 71, 21, 4]
abbrev dktJ3_indexOfSupplementary_1 : List UInt8 := dkwJ3_indexOfSupplementary_1 ++ dktJ3_indexOfSupplementary_2
def dkwJ3_indexOfSupplementary_0 : List UInt8 := [27, 184, 0, 164, 153, 0, 65, 27, 184, 0, 157, 54, 4, 27, 184, 0, 161, 54, 5, 28, 29, 42]
abbrev dktJ3_indexOfSupplementary_0 : List UInt8 := dkwJ3_indexOfSupplementary_0 ++ dktJ3_indexOfSupplementary_1
theorem dksJ3_indexOfSupplementary_0 : cJ3_indexOfSupplementary.data.toList.drop 0 = dktJ3_indexOfSupplementary_0 := by decide +kernel
theorem dksJ3_indexOfSupplementary_1 : cJ3_indexOfSupplementary.data.toList.drop 22 = dktJ3_indexOfSupplementary_1 := dk_seg dksJ3_indexOfSupplementary_0 22 rfl rfl
theorem dksJ3_indexOfSupplementary_2 : cJ3_indexOfSupplementary.data.toList.drop 44 = dktJ3_indexOfSupplementary_2 := dk_seg dksJ3_indexOfSupplementary_1 22 rfl rfl
theorem dksJ3_indexOfSupplementary_3 : cJ3_indexOfSupplementary.data.toList.drop 66 = dktJ3_indexOfSupplementary_3 := dk_seg dksJ3_indexOfSupplementary_2 22 rfl rfl
theorem dJ3_indexOfSupplementary_0 : decode cJ3_indexOfSupplementary 0 = .ok (.iload_n 1, 1) := dk_27 (dk_at dksJ3_indexOfSupplementary_0 0 rfl rfl)
theorem dJ3_indexOfSupplementary_1 : decode cJ3_indexOfSupplementary 1 = .ok (.invokestatic 164, 3) := dk_184 0 164 (dk_at dksJ3_indexOfSupplementary_0 1 rfl rfl)
theorem dJ3_indexOfSupplementary_4 : decode cJ3_indexOfSupplementary 4 = .ok (.ifCond .eq 65, 3) := dk_153 0 65 (dk_at dksJ3_indexOfSupplementary_0 4 rfl rfl)
theorem dJ3_indexOfSupplementary_7 : decode cJ3_indexOfSupplementary 7 = .ok (.iload_n 1, 1) := dk_27 (dk_at dksJ3_indexOfSupplementary_0 7 rfl rfl)
theorem dJ3_indexOfSupplementary_8 : decode cJ3_indexOfSupplementary 8 = .ok (.invokestatic 157, 3) := dk_184 0 157 (dk_at dksJ3_indexOfSupplementary_0 8 rfl rfl)
theorem dJ3_indexOfSupplementary_11 : decode cJ3_indexOfSupplementary 11 = .ok (.istore 4, 2) := dk_54 4 (dk_at dksJ3_indexOfSupplementary_0 11 rfl rfl)
theorem dJ3_indexOfSupplementary_13 : decode cJ3_indexOfSupplementary 13 = .ok (.iload_n 1, 1) := dk_27 (dk_at dksJ3_indexOfSupplementary_0 13 rfl rfl)
theorem dJ3_indexOfSupplementary_14 : decode cJ3_indexOfSupplementary 14 = .ok (.invokestatic 161, 3) := dk_184 0 161 (dk_at dksJ3_indexOfSupplementary_0 14 rfl rfl)
theorem dJ3_indexOfSupplementary_17 : decode cJ3_indexOfSupplementary 17 = .ok (.istore 5, 2) := dk_54 5 (dk_at dksJ3_indexOfSupplementary_0 17 rfl rfl)
theorem dJ3_indexOfSupplementary_19 : decode cJ3_indexOfSupplementary 19 = .ok (.iload_n 2, 1) := dk_28 (dk_at dksJ3_indexOfSupplementary_0 19 rfl rfl)
theorem dJ3_indexOfSupplementary_20 : decode cJ3_indexOfSupplementary 20 = .ok (.iload_n 3, 1) := dk_29 (dk_at dksJ3_indexOfSupplementary_0 20 rfl rfl)
theorem dJ3_indexOfSupplementary_21 : decode cJ3_indexOfSupplementary 21 = .ok (.aload_n 0, 1) := dk_42 (dk_at dksJ3_indexOfSupplementary_0 21 rfl rfl)
theorem dJ3_indexOfSupplementary_22 : decode cJ3_indexOfSupplementary 22 = .ok (.invokestatic 96, 3) := dk_184 0 96 (dk_at dksJ3_indexOfSupplementary_1 0 rfl rfl)
theorem dJ3_indexOfSupplementary_25 : decode cJ3_indexOfSupplementary 25 = .ok (.iload_n 2, 1) := dk_28 (dk_at dksJ3_indexOfSupplementary_1 3 rfl rfl)
theorem dJ3_indexOfSupplementary_26 : decode cJ3_indexOfSupplementary 26 = .ok (.istore 6, 2) := dk_54 6 (dk_at dksJ3_indexOfSupplementary_1 4 rfl rfl)
theorem dJ3_indexOfSupplementary_28 : decode cJ3_indexOfSupplementary 28 = .ok (.iload 6, 2) := dk_21 6 (dk_at dksJ3_indexOfSupplementary_1 6 rfl rfl)
theorem dJ3_indexOfSupplementary_30 : decode cJ3_indexOfSupplementary 30 = .ok (.iload_n 3, 1) := dk_29 (dk_at dksJ3_indexOfSupplementary_1 8 rfl rfl)
theorem dJ3_indexOfSupplementary_31 : decode cJ3_indexOfSupplementary 31 = .ok (.iconst 1, 1) := dk_4 (dk_at dksJ3_indexOfSupplementary_1 9 rfl rfl)
theorem dJ3_indexOfSupplementary_32 : decode cJ3_indexOfSupplementary 32 = .ok (.isub, 1) := dk_100 (dk_at dksJ3_indexOfSupplementary_1 10 rfl rfl)
theorem dJ3_indexOfSupplementary_33 : decode cJ3_indexOfSupplementary 33 = .ok (.if_icmp .ge 36, 3) := dk_162 0 36 (dk_at dksJ3_indexOfSupplementary_1 11 rfl rfl)
theorem dJ3_indexOfSupplementary_36 : decode cJ3_indexOfSupplementary 36 = .ok (.aload_n 0, 1) := dk_42 (dk_at dksJ3_indexOfSupplementary_1 14 rfl rfl)
theorem dJ3_indexOfSupplementary_37 : decode cJ3_indexOfSupplementary 37 = .ok (.iload 6, 2) := dk_21 6 (dk_at dksJ3_indexOfSupplementary_1 15 rfl rfl)
theorem dJ3_indexOfSupplementary_39 : decode cJ3_indexOfSupplementary 39 = .ok (.invokestatic 71, 3) := dk_184 0 71 (dk_at dksJ3_indexOfSupplementary_1 17 rfl rfl)
theorem dJ3_indexOfSupplementary_42 : decode cJ3_indexOfSupplementary 42 = .ok (.iload 4, 2) := dk_21 4 (dk_at dksJ3_indexOfSupplementary_1 20 rfl rfl)
theorem dJ3_indexOfSupplementary_44 : decode cJ3_indexOfSupplementary 44 = .ok (.if_icmp .ne 19, 3) := dk_160 0 19 (dk_at dksJ3_indexOfSupplementary_2 0 rfl rfl)
theorem dJ3_indexOfSupplementary_47 : decode cJ3_indexOfSupplementary 47 = .ok (.aload_n 0, 1) := dk_42 (dk_at dksJ3_indexOfSupplementary_2 3 rfl rfl)
theorem dJ3_indexOfSupplementary_48 : decode cJ3_indexOfSupplementary 48 = .ok (.iload 6, 2) := dk_21 6 (dk_at dksJ3_indexOfSupplementary_2 4 rfl rfl)
theorem dJ3_indexOfSupplementary_50 : decode cJ3_indexOfSupplementary 50 = .ok (.iconst 1, 1) := dk_4 (dk_at dksJ3_indexOfSupplementary_2 6 rfl rfl)
theorem dJ3_indexOfSupplementary_51 : decode cJ3_indexOfSupplementary 51 = .ok (.iadd, 1) := dk_96 (dk_at dksJ3_indexOfSupplementary_2 7 rfl rfl)
theorem dJ3_indexOfSupplementary_52 : decode cJ3_indexOfSupplementary 52 = .ok (.invokestatic 71, 3) := dk_184 0 71 (dk_at dksJ3_indexOfSupplementary_2 8 rfl rfl)
theorem dJ3_indexOfSupplementary_55 : decode cJ3_indexOfSupplementary 55 = .ok (.iload 5, 2) := dk_21 5 (dk_at dksJ3_indexOfSupplementary_2 11 rfl rfl)
theorem dJ3_indexOfSupplementary_57 : decode cJ3_indexOfSupplementary 57 = .ok (.if_icmp .ne 6, 3) := dk_160 0 6 (dk_at dksJ3_indexOfSupplementary_2 13 rfl rfl)
theorem dJ3_indexOfSupplementary_60 : decode cJ3_indexOfSupplementary 60 = .ok (.iload 6, 2) := dk_21 6 (dk_at dksJ3_indexOfSupplementary_2 16 rfl rfl)
theorem dJ3_indexOfSupplementary_62 : decode cJ3_indexOfSupplementary 62 = .ok (.ireturn, 1) := dk_172 (dk_at dksJ3_indexOfSupplementary_2 18 rfl rfl)
theorem dJ3_indexOfSupplementary_63 : decode cJ3_indexOfSupplementary 63 = .ok (.iinc 6 1, 3) := dk_132 6 1 (dk_at dksJ3_indexOfSupplementary_2 19 rfl rfl)
theorem dJ3_indexOfSupplementary_66 : decode cJ3_indexOfSupplementary 66 = .ok (.goto (-38), 3) := dk_167 255 218 (dk_at dksJ3_indexOfSupplementary_3 0 rfl rfl)
theorem dJ3_indexOfSupplementary_69 : decode cJ3_indexOfSupplementary 69 = .ok (.iconst (-1), 1) := dk_2 (dk_at dksJ3_indexOfSupplementary_3 3 rfl rfl)
theorem dJ3_indexOfSupplementary_70 : decode cJ3_indexOfSupplementary 70 = .ok (.ireturn, 1) := dk_172 (dk_at dksJ3_indexOfSupplementary_3 4 rfl rfl)
theorem q69 : (Jvm.Cond.initialized "java/lang/StringUTF16") ∈ lw_all := lw_g (lw_at lw_m1 16 rfl) rfl
theorem q150 : (Jvm.Cond.static ({ cls := "java/lang/StringUTF16", name := "indexOf", desc := "([BIII)I" } : Jvm.MethodName)) ∈ lw_all := lw_g (lw_at lw_m1 97 rfl) rfl
theorem q151 : (Jvm.Cond.code ({ cls := "java/lang/StringUTF16", name := "indexOf", desc := "([BIII)I" } : Jvm.MethodName) prog_21_method_40_code (4 : Nat) (Option.some Jvm.ClassFile.FieldType.int)) ∈ lw_all := lw_g (lw_at lw_m1 98 rfl) rfl
theorem q152 : (Jvm.Cond.methodLink "java/lang/StringUTF16" (224 : Nat) ({ cls := "java/lang/Math", name := "max", desc := "(II)I" } : Jvm.MethodName)) ∈ lw_all := lw_g (lw_at lw_m1 99 rfl) rfl
theorem q153 : (Jvm.Cond.methodLink "java/lang/StringUTF16" (183 : Nat) ({ cls := "java/lang/Math", name := "min", desc := "(II)I" } : Jvm.MethodName)) ∈ lw_all := lw_g (lw_at lw_m1 100 rfl) rfl
theorem q154 : (Jvm.Cond.constant "java/lang/StringUTF16" (227 : Nat) (65536 : Int32)) ∈ lw_all := lw_g (lw_at lw_m1 101 rfl) rfl
theorem q155 : (Jvm.Cond.methodLink "java/lang/StringUTF16" (228 : Nat) ({ cls := "java/lang/StringUTF16", name := "indexOfChar", desc := "([BIII)I" } : Jvm.MethodName)) ∈ lw_all := lw_g (lw_at lw_m1 102 rfl) rfl
theorem q156 : (Jvm.Cond.static ({ cls := "java/lang/StringUTF16", name := "indexOfChar", desc := "([BIII)I" } : Jvm.MethodName)) ∈ lw_all := lw_g (lw_at lw_m1 103 rfl) rfl
theorem q157 : (Jvm.Cond.code ({ cls := "java/lang/StringUTF16", name := "indexOfChar", desc := "([BIII)I" } : Jvm.MethodName) prog_21_method_47_code (4 : Nat) (Option.some Jvm.ClassFile.FieldType.int)) ∈ lw_all := lw_g (lw_at lw_m1 104 rfl) rfl
theorem q158 : (Jvm.Cond.methodLink "java/lang/StringUTF16" (96 : Nat) ({ cls := "java/lang/StringUTF16", name := "checkBoundsBeginEnd", desc := "(II[B)V" } : Jvm.MethodName)) ∈ lw_all := lw_g (lw_at lw_m1 105 rfl) rfl
theorem q159 : (Jvm.Cond.static ({ cls := "java/lang/StringUTF16", name := "checkBoundsBeginEnd", desc := "(II[B)V" } : Jvm.MethodName)) ∈ lw_all := lw_g (lw_at lw_m1 106 rfl) rfl
theorem q160 : (Jvm.Cond.code ({ cls := "java/lang/StringUTF16", name := "checkBoundsBeginEnd", desc := "(II[B)V" } : Jvm.MethodName) prog_21_method_93_code (3 : Nat) (Option.none : Option Jvm.ClassFile.FieldType)) ∈ lw_all := lw_g (lw_at lw_m1 107 rfl) rfl
theorem q161 : (Jvm.Cond.methodLink "java/lang/StringUTF16" (48 : Nat) ({ cls := "java/lang/StringUTF16", name := "length", desc := "([B)I" } : Jvm.MethodName)) ∈ lw_all := lw_g (lw_at lw_m1 108 rfl) rfl
theorem q162 : (Jvm.Cond.static ({ cls := "java/lang/StringUTF16", name := "length", desc := "([B)I" } : Jvm.MethodName)) ∈ lw_all := lw_g (lw_at lw_m1 109 rfl) rfl
theorem q163 : (Jvm.Cond.code ({ cls := "java/lang/StringUTF16", name := "length", desc := "([B)I" } : Jvm.MethodName) prog_21_method_6_code (1 : Nat) (Option.some Jvm.ClassFile.FieldType.int)) ∈ lw_all := lw_g (lw_at lw_m1 110 rfl) rfl
theorem q164 : (Jvm.Cond.methodLink "java/lang/StringUTF16" (241 : Nat) ({ cls := "java/lang/String", name := "checkBoundsBeginEnd", desc := "(III)V" } : Jvm.MethodName)) ∈ lw_all := lw_g (lw_at lw_m1 111 rfl) rfl
theorem q172 : (Jvm.Cond.methodLink "java/lang/StringUTF16" (244 : Nat) ({ cls := "java/lang/StringUTF16", name := "indexOfCharUnsafe", desc := "([BIII)I" } : Jvm.MethodName)) ∈ lw_all := lw_g (lw_at lw_m1 119 rfl) rfl
theorem q173 : (Jvm.Cond.static ({ cls := "java/lang/StringUTF16", name := "indexOfCharUnsafe", desc := "([BIII)I" } : Jvm.MethodName)) ∈ lw_all := lw_g (lw_at lw_m1 120 rfl) rfl
theorem q174 : (Jvm.Cond.code ({ cls := "java/lang/StringUTF16", name := "indexOfCharUnsafe", desc := "([BIII)I" } : Jvm.MethodName) prog_21_method_48_code (5 : Nat) (Option.some Jvm.ClassFile.FieldType.int)) ∈ lw_all := lw_g (lw_at lw_m1 121 rfl) rfl
theorem q175 : (Jvm.Cond.methodLink "java/lang/StringUTF16" (71 : Nat) ({ cls := "java/lang/StringUTF16", name := "getChar", desc := "([BI)C" } : Jvm.MethodName)) ∈ lw_all := lw_g (lw_at lw_m1 122 rfl) rfl
theorem q176 : (Jvm.Cond.static ({ cls := "java/lang/StringUTF16", name := "getChar", desc := "([BI)C" } : Jvm.MethodName)) ∈ lw_all := lw_g (lw_at lw_m1 123 rfl) rfl
theorem q177 : (Jvm.Cond.code ({ cls := "java/lang/StringUTF16", name := "getChar", desc := "([BI)C" } : Jvm.MethodName) prog_21_method_5_code (2 : Nat) (Option.some Jvm.ClassFile.FieldType.char)) ∈ lw_all := lw_g (lw_at lw_m1 124 rfl) rfl
theorem q178 : (Jvm.Cond.fieldLink "java/lang/StringUTF16" (44 : Nat) "java/lang/StringUTF16" "$assertionsDisabled" "Z") ∈ lw_all := lw_g (lw_at lw_m1 125 rfl) rfl
theorem q179 : (Jvm.Cond.laysStatic "java/lang/StringUTF16" "$assertionsDisabled" "Z") ∈ lw_tbl := lw_at lw_m1 126 rfl
theorem q180 : (Jvm.Cond.fieldLink "java/lang/StringUTF16" (59 : Nat) "java/lang/StringUTF16" "HI_BYTE_SHIFT" "I") ∈ lw_all := lw_g (lw_at lw_m1 127 rfl) rfl
theorem q181 : (Jvm.Cond.laysStatic "java/lang/StringUTF16" "HI_BYTE_SHIFT" "I") ∈ lw_tbl := lw_at lw_m1 128 rfl
theorem q182 : (Jvm.Cond.fieldLink "java/lang/StringUTF16" (63 : Nat) "java/lang/StringUTF16" "LO_BYTE_SHIFT" "I") ∈ lw_all := lw_g (lw_at lw_m1 129 rfl) rfl
theorem q183 : (Jvm.Cond.laysStatic "java/lang/StringUTF16" "LO_BYTE_SHIFT" "I") ∈ lw_tbl := lw_at lw_m1 130 rfl
theorem q184 : (Jvm.Cond.methodLink "java/lang/StringUTF16" (232 : Nat) ({ cls := "java/lang/StringUTF16", name := "indexOfSupplementary", desc := "([BIII)I" } : Jvm.MethodName)) ∈ lw_all := lw_g (lw_at lw_m1 131 rfl) rfl
theorem q185 : (Jvm.Cond.static ({ cls := "java/lang/StringUTF16", name := "indexOfSupplementary", desc := "([BIII)I" } : Jvm.MethodName)) ∈ lw_all := lw_g (lw_at lw_m1 132 rfl) rfl
theorem q186 : (Jvm.Cond.code ({ cls := "java/lang/StringUTF16", name := "indexOfSupplementary", desc := "([BIII)I" } : Jvm.MethodName) prog_21_method_49_code (7 : Nat) (Option.some Jvm.ClassFile.FieldType.int)) ∈ lw_all := lw_g (lw_at lw_m1 133 rfl) rfl
theorem q187 : (Jvm.Cond.methodLink "java/lang/StringUTF16" (164 : Nat) ({ cls := "java/lang/Character", name := "isValidCodePoint", desc := "(I)Z" } : Jvm.MethodName)) ∈ lw_all := lw_g (lw_at lw_m1 134 rfl) rfl
theorem q190 : (Jvm.Cond.methodLink "java/lang/StringUTF16" (157 : Nat) ({ cls := "java/lang/Character", name := "highSurrogate", desc := "(I)C" } : Jvm.MethodName)) ∈ lw_all := lw_g (lw_at lw_m1 137 rfl) rfl
theorem q194 : (Jvm.Cond.methodLink "java/lang/StringUTF16" (161 : Nat) ({ cls := "java/lang/Character", name := "lowSurrogate", desc := "(I)C" } : Jvm.MethodName)) ∈ lw_all := lw_g (lw_at lw_m1 141 rfl) rfl

/-! jdk/internal/util/Preconditions -/
set_option maxRecDepth 100000
def RJ4 : String := "jdk/internal/util/Preconditions"
abbrev cJ4_checkFromToIndex : ByteArray := prog_24_method_12_code
def yJ4_checkFromToIndex : MethodName := ⟨RJ4, "checkFromToIndex", "(IIILjava/util/function/BiFunction;)I"⟩
def dkwJ4_checkFromToIndex_0 : List UInt8 := [26, 155, 0, 13, 26, 27, 163, 0, 8, 27, 28, 164, 0, 11, 45, 26, 27, 28, 184, 0, 99, 191, 26, 172]
abbrev dktJ4_checkFromToIndex_0 : List UInt8 := dkwJ4_checkFromToIndex_0 ++ []
theorem dksJ4_checkFromToIndex_0 : cJ4_checkFromToIndex.data.toList.drop 0 = dktJ4_checkFromToIndex_0 := by decide +kernel
theorem dJ4_checkFromToIndex_0 : decode cJ4_checkFromToIndex 0 = .ok (.iload_n 0, 1) := dk_26 (dk_at dksJ4_checkFromToIndex_0 0 rfl rfl)
theorem dJ4_checkFromToIndex_1 : decode cJ4_checkFromToIndex 1 = .ok (.ifCond .lt 13, 3) := dk_155 0 13 (dk_at dksJ4_checkFromToIndex_0 1 rfl rfl)
theorem dJ4_checkFromToIndex_4 : decode cJ4_checkFromToIndex 4 = .ok (.iload_n 0, 1) := dk_26 (dk_at dksJ4_checkFromToIndex_0 4 rfl rfl)
theorem dJ4_checkFromToIndex_5 : decode cJ4_checkFromToIndex 5 = .ok (.iload_n 1, 1) := dk_27 (dk_at dksJ4_checkFromToIndex_0 5 rfl rfl)
theorem dJ4_checkFromToIndex_6 : decode cJ4_checkFromToIndex 6 = .ok (.if_icmp .gt 8, 3) := dk_163 0 8 (dk_at dksJ4_checkFromToIndex_0 6 rfl rfl)
theorem dJ4_checkFromToIndex_9 : decode cJ4_checkFromToIndex 9 = .ok (.iload_n 1, 1) := dk_27 (dk_at dksJ4_checkFromToIndex_0 9 rfl rfl)
theorem dJ4_checkFromToIndex_10 : decode cJ4_checkFromToIndex 10 = .ok (.iload_n 2, 1) := dk_28 (dk_at dksJ4_checkFromToIndex_0 10 rfl rfl)
theorem dJ4_checkFromToIndex_11 : decode cJ4_checkFromToIndex 11 = .ok (.if_icmp .le 11, 3) := dk_164 0 11 (dk_at dksJ4_checkFromToIndex_0 11 rfl rfl)
theorem dJ4_checkFromToIndex_14 : decode cJ4_checkFromToIndex 14 = .ok (.aload_n 3, 1) := dk_45 (dk_at dksJ4_checkFromToIndex_0 14 rfl rfl)
theorem dJ4_checkFromToIndex_15 : decode cJ4_checkFromToIndex 15 = .ok (.iload_n 0, 1) := dk_26 (dk_at dksJ4_checkFromToIndex_0 15 rfl rfl)
theorem dJ4_checkFromToIndex_16 : decode cJ4_checkFromToIndex 16 = .ok (.iload_n 1, 1) := dk_27 (dk_at dksJ4_checkFromToIndex_0 16 rfl rfl)
theorem dJ4_checkFromToIndex_17 : decode cJ4_checkFromToIndex 17 = .ok (.iload_n 2, 1) := dk_28 (dk_at dksJ4_checkFromToIndex_0 17 rfl rfl)
theorem dJ4_checkFromToIndex_18 : decode cJ4_checkFromToIndex 18 = .ok (.invokestatic 99, 3) := dk_184 0 99 (dk_at dksJ4_checkFromToIndex_0 18 rfl rfl)
theorem dJ4_checkFromToIndex_21 : decode cJ4_checkFromToIndex 21 = .ok (.athrow, 1) := dk_191 (dk_at dksJ4_checkFromToIndex_0 21 rfl rfl)
theorem dJ4_checkFromToIndex_22 : decode cJ4_checkFromToIndex 22 = .ok (.iload_n 0, 1) := dk_26 (dk_at dksJ4_checkFromToIndex_0 22 rfl rfl)
theorem dJ4_checkFromToIndex_23 : decode cJ4_checkFromToIndex 23 = .ok (.ireturn, 1) := dk_172 (dk_at dksJ4_checkFromToIndex_0 23 rfl rfl)
theorem q70 : (Jvm.Cond.initialized "jdk/internal/util/Preconditions") ∈ lw_all := lw_g (lw_at lw_m1 17 rfl) rfl
theorem q168 : (Jvm.Cond.laysStatic "jdk/internal/util/Preconditions" "SIOOBE_FORMATTER" "Ljava/util/function/BiFunction;") ∈ lw_tbl := lw_at lw_m1 115 rfl
theorem q170 : (Jvm.Cond.static ({ cls := "jdk/internal/util/Preconditions", name := "checkFromToIndex", desc := "(IIILjava/util/function/BiFunction;)I" } : Jvm.MethodName)) ∈ lw_all := lw_g (lw_at lw_m1 117 rfl) rfl
theorem q171 : (Jvm.Cond.code ({ cls := "jdk/internal/util/Preconditions", name := "checkFromToIndex", desc := "(IIILjava/util/function/BiFunction;)I" } : Jvm.MethodName) prog_24_method_12_code (4 : Nat) (Option.some Jvm.ClassFile.FieldType.int)) ∈ lw_all := lw_g (lw_at lw_m1 118 rfl) rfl

/-! java/lang/Character -/
set_option maxRecDepth 100000
def RJ5 : String := "java/lang/Character"
abbrev cJ5_isValidCodePoint : ByteArray := prog_15_method_11_code
def yJ5_isValidCodePoint : MethodName := ⟨RJ5, "isValidCodePoint", "(I)Z"⟩
def dkwJ5_isValidCodePoint_0 : List UInt8 := [26, 16, 16, 124, 60, 27, 16, 17, 162, 0, 7, 4, 167, 0, 4, 3, 172]
abbrev dktJ5_isValidCodePoint_0 : List UInt8 := dkwJ5_isValidCodePoint_0 ++ []
theorem dksJ5_isValidCodePoint_0 : cJ5_isValidCodePoint.data.toList.drop 0 = dktJ5_isValidCodePoint_0 := by decide +kernel
theorem dJ5_isValidCodePoint_0 : decode cJ5_isValidCodePoint 0 = .ok (.iload_n 0, 1) := dk_26 (dk_at dksJ5_isValidCodePoint_0 0 rfl rfl)
theorem dJ5_isValidCodePoint_1 : decode cJ5_isValidCodePoint 1 = .ok (.bipush 16, 2) := dk_16 16 (dk_at dksJ5_isValidCodePoint_0 1 rfl rfl)
theorem dJ5_isValidCodePoint_3 : decode cJ5_isValidCodePoint 3 = .ok (.iushr, 1) := dk_124 (dk_at dksJ5_isValidCodePoint_0 3 rfl rfl)
theorem dJ5_isValidCodePoint_4 : decode cJ5_isValidCodePoint 4 = .ok (.istore_n 1, 1) := dk_60 (dk_at dksJ5_isValidCodePoint_0 4 rfl rfl)
theorem dJ5_isValidCodePoint_5 : decode cJ5_isValidCodePoint 5 = .ok (.iload_n 1, 1) := dk_27 (dk_at dksJ5_isValidCodePoint_0 5 rfl rfl)
theorem dJ5_isValidCodePoint_6 : decode cJ5_isValidCodePoint 6 = .ok (.bipush 17, 2) := dk_16 17 (dk_at dksJ5_isValidCodePoint_0 6 rfl rfl)
theorem dJ5_isValidCodePoint_8 : decode cJ5_isValidCodePoint 8 = .ok (.if_icmp .ge 7, 3) := dk_162 0 7 (dk_at dksJ5_isValidCodePoint_0 8 rfl rfl)
theorem dJ5_isValidCodePoint_11 : decode cJ5_isValidCodePoint 11 = .ok (.iconst 1, 1) := dk_4 (dk_at dksJ5_isValidCodePoint_0 11 rfl rfl)
theorem dJ5_isValidCodePoint_12 : decode cJ5_isValidCodePoint 12 = .ok (.goto 4, 3) := dk_167 0 4 (dk_at dksJ5_isValidCodePoint_0 12 rfl rfl)
theorem dJ5_isValidCodePoint_15 : decode cJ5_isValidCodePoint 15 = .ok (.iconst 0, 1) := dk_3 (dk_at dksJ5_isValidCodePoint_0 15 rfl rfl)
theorem dJ5_isValidCodePoint_16 : decode cJ5_isValidCodePoint 16 = .ok (.ireturn, 1) := dk_172 (dk_at dksJ5_isValidCodePoint_0 16 rfl rfl)
abbrev cJ5_highSurrogate : ByteArray := prog_15_method_28_code
def yJ5_highSurrogate : MethodName := ⟨RJ5, "highSurrogate", "(I)C"⟩
def dkwJ5_highSurrogate_0 : List UInt8 := [26, 16, 10, 124, 18, 110, 96, 146, 172]
abbrev dktJ5_highSurrogate_0 : List UInt8 := dkwJ5_highSurrogate_0 ++ []
theorem dksJ5_highSurrogate_0 : cJ5_highSurrogate.data.toList.drop 0 = dktJ5_highSurrogate_0 := by decide +kernel
theorem dJ5_highSurrogate_0 : decode cJ5_highSurrogate 0 = .ok (.iload_n 0, 1) := dk_26 (dk_at dksJ5_highSurrogate_0 0 rfl rfl)
theorem dJ5_highSurrogate_1 : decode cJ5_highSurrogate 1 = .ok (.bipush 10, 2) := dk_16 10 (dk_at dksJ5_highSurrogate_0 1 rfl rfl)
theorem dJ5_highSurrogate_3 : decode cJ5_highSurrogate 3 = .ok (.iushr, 1) := dk_124 (dk_at dksJ5_highSurrogate_0 3 rfl rfl)
theorem dJ5_highSurrogate_4 : decode cJ5_highSurrogate 4 = .ok (.ldc 110, 2) := dk_18 110 (dk_at dksJ5_highSurrogate_0 4 rfl rfl)
theorem dJ5_highSurrogate_6 : decode cJ5_highSurrogate 6 = .ok (.iadd, 1) := dk_96 (dk_at dksJ5_highSurrogate_0 6 rfl rfl)
theorem dJ5_highSurrogate_7 : decode cJ5_highSurrogate 7 = .ok (.i2c, 1) := dk_146 (dk_at dksJ5_highSurrogate_0 7 rfl rfl)
theorem dJ5_highSurrogate_8 : decode cJ5_highSurrogate 8 = .ok (.ireturn, 1) := dk_172 (dk_at dksJ5_highSurrogate_0 8 rfl rfl)
abbrev cJ5_lowSurrogate : ByteArray := prog_15_method_29_code
def yJ5_lowSurrogate : MethodName := ⟨RJ5, "lowSurrogate", "(I)C"⟩
def dkwJ5_lowSurrogate_0 : List UInt8 := [26, 17, 3, 255, 126, 18, 76, 96, 146, 172]
abbrev dktJ5_lowSurrogate_0 : List UInt8 := dkwJ5_lowSurrogate_0 ++ []
theorem dksJ5_lowSurrogate_0 : cJ5_lowSurrogate.data.toList.drop 0 = dktJ5_lowSurrogate_0 := by decide +kernel
theorem dJ5_lowSurrogate_0 : decode cJ5_lowSurrogate 0 = .ok (.iload_n 0, 1) := dk_26 (dk_at dksJ5_lowSurrogate_0 0 rfl rfl)
theorem dJ5_lowSurrogate_1 : decode cJ5_lowSurrogate 1 = .ok (.sipush 1023, 3) := dk_17 3 255 (dk_at dksJ5_lowSurrogate_0 1 rfl rfl)
theorem dJ5_lowSurrogate_4 : decode cJ5_lowSurrogate 4 = .ok (.iand, 1) := dk_126 (dk_at dksJ5_lowSurrogate_0 4 rfl rfl)
theorem dJ5_lowSurrogate_5 : decode cJ5_lowSurrogate 5 = .ok (.ldc 76, 2) := dk_18 76 (dk_at dksJ5_lowSurrogate_0 5 rfl rfl)
theorem dJ5_lowSurrogate_7 : decode cJ5_lowSurrogate 7 = .ok (.iadd, 1) := dk_96 (dk_at dksJ5_lowSurrogate_0 7 rfl rfl)
theorem dJ5_lowSurrogate_8 : decode cJ5_lowSurrogate 8 = .ok (.i2c, 1) := dk_146 (dk_at dksJ5_lowSurrogate_0 8 rfl rfl)
theorem dJ5_lowSurrogate_9 : decode cJ5_lowSurrogate 9 = .ok (.ireturn, 1) := dk_172 (dk_at dksJ5_lowSurrogate_0 9 rfl rfl)
theorem q71 : (Jvm.Cond.initialized "java/lang/Character") ∈ lw_all := lw_g (lw_at lw_m1 18 rfl) rfl
theorem q188 : (Jvm.Cond.static ({ cls := "java/lang/Character", name := "isValidCodePoint", desc := "(I)Z" } : Jvm.MethodName)) ∈ lw_all := lw_g (lw_at lw_m1 135 rfl) rfl
theorem q189 : (Jvm.Cond.code ({ cls := "java/lang/Character", name := "isValidCodePoint", desc := "(I)Z" } : Jvm.MethodName) prog_15_method_11_code (2 : Nat) (Option.some Jvm.ClassFile.FieldType.boolean)) ∈ lw_all := lw_g (lw_at lw_m1 136 rfl) rfl
theorem q191 : (Jvm.Cond.static ({ cls := "java/lang/Character", name := "highSurrogate", desc := "(I)C" } : Jvm.MethodName)) ∈ lw_all := lw_g (lw_at lw_m1 138 rfl) rfl
theorem q192 : (Jvm.Cond.code ({ cls := "java/lang/Character", name := "highSurrogate", desc := "(I)C" } : Jvm.MethodName) prog_15_method_28_code (1 : Nat) (Option.some Jvm.ClassFile.FieldType.char)) ∈ lw_all := lw_g (lw_at lw_m1 139 rfl) rfl
theorem q193 : (Jvm.Cond.constant "java/lang/Character" (110 : Nat) (55232 : Int32)) ∈ lw_all := lw_g (lw_at lw_m1 140 rfl) rfl
theorem q195 : (Jvm.Cond.static ({ cls := "java/lang/Character", name := "lowSurrogate", desc := "(I)C" } : Jvm.MethodName)) ∈ lw_all := lw_g (lw_at lw_m1 142 rfl) rfl
theorem q196 : (Jvm.Cond.code ({ cls := "java/lang/Character", name := "lowSurrogate", desc := "(I)C" } : Jvm.MethodName) prog_15_method_29_code (1 : Nat) (Option.some Jvm.ClassFile.FieldType.char)) ∈ lw_all := lw_g (lw_at lw_m1 143 rfl) rfl
theorem q197 : (Jvm.Cond.constant "java/lang/Character" (76 : Nat) (56320 : Int32)) ∈ lw_all := lw_g (lw_at lw_m1 144 rfl) rfl

/-! java/lang/Throwable -/
set_option maxRecDepth 100000
def RJ6 : String := "java/lang/Throwable"
def TJ6 : u_T := fun k => match k with
  | 0 => ("java/lang/Throwable", "cause", "Ljava/lang/Throwable;", false)
  | 1 => ("java/lang/Throwable", "stackTrace", "[Ljava/lang/StackTraceElement;", false)
  | 2 => ("java/lang/Throwable", "suppressedExceptions", "Ljava/util/List;", false)
  | 3 => ("java/lang/Throwable", "detailMessage", "Ljava/lang/String;", false)
  | _ => ("java/lang/Throwable", "backtrace", "Ljava/lang/Object;", false)
def tyJ6 : Nat → FieldType := fun k => match k with
  | 0 => .object "java/lang/Throwable"
  | 1 => .array (.object "java/lang/StackTraceElement")
  | 2 => .object "java/util/List"
  | 3 => .object "java/lang/String"
  | _ => .object "java/lang/Object"
abbrev wsJ60 : List Cond := u_ws RJ6 TJ6 5
theorem nmJ6 : ∀ a, a < 5 → ∀ b, b < 5 → a ≠ b → (TJ6 a).2.1 ≠ (TJ6 b).2.1 := by decide +kernel
theorem tyJ6_ok : ∀ k, k < 5 → parseFieldDescriptor (TJ6 k).2.2.1 = some (tyJ6 k) := by decide +kernel
abbrev cJ6_init : ByteArray := prog_23_method_1_code
def yJ6_init : MethodName := ⟨RJ6, "<init>", "()V"⟩
def dkwJ6_init_1 : List UInt8 := [182, 0, 27, 87, 177]
abbrev dktJ6_init_1 : List UInt8 := dkwJ6_init_1 ++ []
def dkwJ6_init_0 : List UInt8 := [42, 183, 0, 1, 42, 42, 181, 0, 7, 42, 178, 0, 13, 181, 0, 17, 42, 178, 0, 20, 181, 0, 24, 42]
abbrev dktJ6_init_0 : List UInt8 := dkwJ6_init_0 ++ dktJ6_init_1
theorem dksJ6_init_0 : cJ6_init.data.toList.drop 0 = dktJ6_init_0 := by decide +kernel
theorem dksJ6_init_1 : cJ6_init.data.toList.drop 24 = dktJ6_init_1 := dk_seg dksJ6_init_0 24 rfl rfl
theorem dJ6_init_0 : decode cJ6_init 0 = .ok (.aload_n 0, 1) := dk_42 (dk_at dksJ6_init_0 0 rfl rfl)
theorem dJ6_init_1 : decode cJ6_init 1 = .ok (.invokespecial 1, 3) := dk_183 0 1 (dk_at dksJ6_init_0 1 rfl rfl)
theorem dJ6_init_4 : decode cJ6_init 4 = .ok (.aload_n 0, 1) := dk_42 (dk_at dksJ6_init_0 4 rfl rfl)
theorem dJ6_init_5 : decode cJ6_init 5 = .ok (.aload_n 0, 1) := dk_42 (dk_at dksJ6_init_0 5 rfl rfl)
theorem dJ6_init_6 : decode cJ6_init 6 = .ok (.putfield 7, 3) := dk_181 0 7 (dk_at dksJ6_init_0 6 rfl rfl)
theorem dJ6_init_9 : decode cJ6_init 9 = .ok (.aload_n 0, 1) := dk_42 (dk_at dksJ6_init_0 9 rfl rfl)
theorem dJ6_init_10 : decode cJ6_init 10 = .ok (.getstatic 13, 3) := dk_178 0 13 (dk_at dksJ6_init_0 10 rfl rfl)
theorem dJ6_init_13 : decode cJ6_init 13 = .ok (.putfield 17, 3) := dk_181 0 17 (dk_at dksJ6_init_0 13 rfl rfl)
theorem dJ6_init_16 : decode cJ6_init 16 = .ok (.aload_n 0, 1) := dk_42 (dk_at dksJ6_init_0 16 rfl rfl)
theorem dJ6_init_17 : decode cJ6_init 17 = .ok (.getstatic 20, 3) := dk_178 0 20 (dk_at dksJ6_init_0 17 rfl rfl)
theorem dJ6_init_20 : decode cJ6_init 20 = .ok (.putfield 24, 3) := dk_181 0 24 (dk_at dksJ6_init_0 20 rfl rfl)
theorem dJ6_init_23 : decode cJ6_init 23 = .ok (.aload_n 0, 1) := dk_42 (dk_at dksJ6_init_0 23 rfl rfl)
theorem dJ6_init_24 : decode cJ6_init 24 = .ok (.invokevirtual 27, 3) := dk_182 0 27 (dk_at dksJ6_init_1 0 rfl rfl)
theorem dJ6_init_27 : decode cJ6_init 27 = .ok (.pop, 1) := dk_87 (dk_at dksJ6_init_1 3 rfl rfl)
theorem dJ6_init_28 : decode cJ6_init 28 = .ok (.return_, 1) := dk_177 (dk_at dksJ6_init_1 4 rfl rfl)
abbrev cJ6_init_2 : ByteArray := prog_23_method_5_code
def yJ6_init_2 : MethodName := ⟨RJ6, "<init>", "(Ljava/lang/String;Ljava/lang/Throwable;ZZ)V"⟩
def dkwJ6_init_2_2 : List UInt8 := [44, 181, 0, 7, 29, 154, 0, 8, 42, 1, 181, 0, 24, 177]
abbrev dktJ6_init_2_2 : List UInt8 := dkwJ6_init_2_2 ++ []
def dkwJ6_init_2_1 : List UInt8 := [21, 4, 153, 0, 11, 42, 182, 0, 27, 87, 167, 0, 8, 42, 1, 181, 0, 17, 42, 43, 181, 0, 31, 42]
abbrev dktJ6_init_2_1 : List UInt8 := dkwJ6_init_2_1 ++ dktJ6_init_2_2
def dkwJ6_init_2_0 : List UInt8 := [42, 183, 0, 1, 42, 42, 181, 0, 7, 42, 178, 0, 13, 181, 0, 17, 42, 178, 0, 20, 181, 0, 24]
abbrev dktJ6_init_2_0 : List UInt8 := dkwJ6_init_2_0 ++ dktJ6_init_2_1
theorem dksJ6_init_2_0 : cJ6_init_2.data.toList.drop 0 = dktJ6_init_2_0 := by decide +kernel
theorem dksJ6_init_2_1 : cJ6_init_2.data.toList.drop 23 = dktJ6_init_2_1 := dk_seg dksJ6_init_2_0 23 rfl rfl
theorem dksJ6_init_2_2 : cJ6_init_2.data.toList.drop 47 = dktJ6_init_2_2 := dk_seg dksJ6_init_2_1 24 rfl rfl
theorem dJ6_init_2_0 : decode cJ6_init_2 0 = .ok (.aload_n 0, 1) := dk_42 (dk_at dksJ6_init_2_0 0 rfl rfl)
theorem dJ6_init_2_1 : decode cJ6_init_2 1 = .ok (.invokespecial 1, 3) := dk_183 0 1 (dk_at dksJ6_init_2_0 1 rfl rfl)
theorem dJ6_init_2_4 : decode cJ6_init_2 4 = .ok (.aload_n 0, 1) := dk_42 (dk_at dksJ6_init_2_0 4 rfl rfl)
theorem dJ6_init_2_5 : decode cJ6_init_2 5 = .ok (.aload_n 0, 1) := dk_42 (dk_at dksJ6_init_2_0 5 rfl rfl)
theorem dJ6_init_2_6 : decode cJ6_init_2 6 = .ok (.putfield 7, 3) := dk_181 0 7 (dk_at dksJ6_init_2_0 6 rfl rfl)
theorem dJ6_init_2_9 : decode cJ6_init_2 9 = .ok (.aload_n 0, 1) := dk_42 (dk_at dksJ6_init_2_0 9 rfl rfl)
theorem dJ6_init_2_10 : decode cJ6_init_2 10 = .ok (.getstatic 13, 3) := dk_178 0 13 (dk_at dksJ6_init_2_0 10 rfl rfl)
theorem dJ6_init_2_13 : decode cJ6_init_2 13 = .ok (.putfield 17, 3) := dk_181 0 17 (dk_at dksJ6_init_2_0 13 rfl rfl)
theorem dJ6_init_2_16 : decode cJ6_init_2 16 = .ok (.aload_n 0, 1) := dk_42 (dk_at dksJ6_init_2_0 16 rfl rfl)
theorem dJ6_init_2_17 : decode cJ6_init_2 17 = .ok (.getstatic 20, 3) := dk_178 0 20 (dk_at dksJ6_init_2_0 17 rfl rfl)
theorem dJ6_init_2_20 : decode cJ6_init_2 20 = .ok (.putfield 24, 3) := dk_181 0 24 (dk_at dksJ6_init_2_0 20 rfl rfl)
theorem dJ6_init_2_23 : decode cJ6_init_2 23 = .ok (.iload 4, 2) := dk_21 4 (dk_at dksJ6_init_2_1 0 rfl rfl)
theorem dJ6_init_2_25 : decode cJ6_init_2 25 = .ok (.ifCond .eq 11, 3) := dk_153 0 11 (dk_at dksJ6_init_2_1 2 rfl rfl)
theorem dJ6_init_2_28 : decode cJ6_init_2 28 = .ok (.aload_n 0, 1) := dk_42 (dk_at dksJ6_init_2_1 5 rfl rfl)
theorem dJ6_init_2_29 : decode cJ6_init_2 29 = .ok (.invokevirtual 27, 3) := dk_182 0 27 (dk_at dksJ6_init_2_1 6 rfl rfl)
theorem dJ6_init_2_32 : decode cJ6_init_2 32 = .ok (.pop, 1) := dk_87 (dk_at dksJ6_init_2_1 9 rfl rfl)
theorem dJ6_init_2_33 : decode cJ6_init_2 33 = .ok (.goto 8, 3) := dk_167 0 8 (dk_at dksJ6_init_2_1 10 rfl rfl)
theorem dJ6_init_2_36 : decode cJ6_init_2 36 = .ok (.aload_n 0, 1) := dk_42 (dk_at dksJ6_init_2_1 13 rfl rfl)
theorem dJ6_init_2_37 : decode cJ6_init_2 37 = .ok (.aconst_null, 1) := dk_1 (dk_at dksJ6_init_2_1 14 rfl rfl)
theorem dJ6_init_2_38 : decode cJ6_init_2 38 = .ok (.putfield 17, 3) := dk_181 0 17 (dk_at dksJ6_init_2_1 15 rfl rfl)
theorem dJ6_init_2_41 : decode cJ6_init_2 41 = .ok (.aload_n 0, 1) := dk_42 (dk_at dksJ6_init_2_1 18 rfl rfl)
theorem dJ6_init_2_42 : decode cJ6_init_2 42 = .ok (.aload_n 1, 1) := dk_43 (dk_at dksJ6_init_2_1 19 rfl rfl)
theorem dJ6_init_2_43 : decode cJ6_init_2 43 = .ok (.putfield 31, 3) := dk_181 0 31 (dk_at dksJ6_init_2_1 20 rfl rfl)
theorem dJ6_init_2_46 : decode cJ6_init_2 46 = .ok (.aload_n 0, 1) := dk_42 (dk_at dksJ6_init_2_1 23 rfl rfl)
theorem dJ6_init_2_47 : decode cJ6_init_2 47 = .ok (.aload_n 2, 1) := dk_44 (dk_at dksJ6_init_2_2 0 rfl rfl)
theorem dJ6_init_2_48 : decode cJ6_init_2 48 = .ok (.putfield 7, 3) := dk_181 0 7 (dk_at dksJ6_init_2_2 1 rfl rfl)
theorem dJ6_init_2_51 : decode cJ6_init_2 51 = .ok (.iload_n 3, 1) := dk_29 (dk_at dksJ6_init_2_2 4 rfl rfl)
theorem dJ6_init_2_52 : decode cJ6_init_2 52 = .ok (.ifCond .ne 8, 3) := dk_154 0 8 (dk_at dksJ6_init_2_2 5 rfl rfl)
theorem dJ6_init_2_55 : decode cJ6_init_2 55 = .ok (.aload_n 0, 1) := dk_42 (dk_at dksJ6_init_2_2 8 rfl rfl)
theorem dJ6_init_2_56 : decode cJ6_init_2 56 = .ok (.aconst_null, 1) := dk_1 (dk_at dksJ6_init_2_2 9 rfl rfl)
theorem dJ6_init_2_57 : decode cJ6_init_2 57 = .ok (.putfield 24, 3) := dk_181 0 24 (dk_at dksJ6_init_2_2 10 rfl rfl)
theorem dJ6_init_2_60 : decode cJ6_init_2 60 = .ok (.return_, 1) := dk_177 (dk_at dksJ6_init_2_2 13 rfl rfl)
theorem q72 : (Jvm.Cond.initialized "java/lang/Throwable") ∈ lw_all := lw_g (lw_at lw_m1 19 rfl) rfl
theorem q207 : (Jvm.Cond.declares ({ cls := "java/lang/Throwable", name := "<init>", desc := "()V" } : Jvm.MethodName)) ∈ lw_tbl := lw_at lw_m1 154 rfl
theorem q208 : (Jvm.Cond.declares ({ cls := "java/lang/Throwable", name := "<init>", desc := "(Ljava/lang/String;)V" } : Jvm.MethodName)) ∈ lw_tbl := lw_at lw_m1 155 rfl
theorem q212 : (Jvm.Cond.lays "java/lang/Throwable" "java/lang/Throwable" "cause" "Ljava/lang/Throwable;") ∈ lw_all := lw_g (lw_at lw_m1 159 rfl) rfl
theorem q214 : (Jvm.Cond.lays "java/lang/Throwable" "java/lang/Throwable" "stackTrace" "[Ljava/lang/StackTraceElement;") ∈ lw_all := lw_g (lw_at lw_m1 161 rfl) rfl
theorem q216 : (Jvm.Cond.lays "java/lang/Throwable" "java/lang/Throwable" "suppressedExceptions" "Ljava/util/List;") ∈ lw_all := lw_g (lw_at lw_m1 163 rfl) rfl
theorem q218 : (Jvm.Cond.lays "java/lang/Throwable" "java/lang/Throwable" "detailMessage" "Ljava/lang/String;") ∈ lw_all := lw_g (lw_at lw_m1 165 rfl) rfl
theorem q220 : (Jvm.Cond.lays "java/lang/Throwable" "java/lang/Throwable" "backtrace" "Ljava/lang/Object;") ∈ lw_all := lw_g (lw_at lw_m1 167 rfl) rfl
theorem q221 : (Jvm.Cond.fieldLink "java/lang/Throwable" (198 : Nat) "java/lang/Throwable" "backtrace" "Ljava/lang/Object;") ∈ lw_all := lw_g (lw_at lw_m1 168 rfl) rfl
theorem q222 : (Jvm.Cond.superclass "java/lang/Throwable" "java/lang/Object") ∈ lw_all := lw_g (lw_at lw_m1 169 rfl) rfl
theorem q223 : (Jvm.Cond.instanceMethod ({ cls := "java/lang/Throwable", name := "<init>", desc := "()V" } : Jvm.MethodName)) ∈ lw_all := lw_g (lw_at lw_m1 170 rfl) rfl
theorem q224 : (Jvm.Cond.code ({ cls := "java/lang/Throwable", name := "<init>", desc := "()V" } : Jvm.MethodName) prog_23_method_1_code (1 : Nat) (Option.none : Option Jvm.ClassFile.FieldType)) ∈ lw_all := lw_g (lw_at lw_m1 171 rfl) rfl
theorem q225 : (Jvm.Cond.methodLink "java/lang/Throwable" (1 : Nat) ({ cls := "java/lang/Object", name := "<init>", desc := "()V" } : Jvm.MethodName)) ∈ lw_all := lw_g (lw_at lw_m1 172 rfl) rfl
theorem q228 : (Jvm.Cond.fieldLink "java/lang/Throwable" (13 : Nat) "java/lang/Throwable" "UNASSIGNED_STACK" "[Ljava/lang/StackTraceElement;") ∈ lw_all := lw_g (lw_at lw_m1 175 rfl) rfl
theorem q229 : (Jvm.Cond.laysStatic "java/lang/Throwable" "UNASSIGNED_STACK" "[Ljava/lang/StackTraceElement;") ∈ lw_tbl := lw_at lw_m1 176 rfl
theorem q230 : (Jvm.Cond.fieldLink "java/lang/Throwable" (20 : Nat) "java/lang/Throwable" "SUPPRESSED_SENTINEL" "Ljava/util/List;") ∈ lw_all := lw_g (lw_at lw_m1 177 rfl) rfl
theorem q231 : (Jvm.Cond.laysStatic "java/lang/Throwable" "SUPPRESSED_SENTINEL" "Ljava/util/List;") ∈ lw_tbl := lw_at lw_m1 178 rfl
theorem q232 : (Jvm.Cond.methodLink "java/lang/Throwable" (27 : Nat) ({ cls := "java/lang/Throwable", name := "fillInStackTrace", desc := "()Ljava/lang/Throwable;" } : Jvm.MethodName)) ∈ lw_all := lw_g (lw_at lw_m1 179 rfl) rfl
theorem q233 : (Jvm.Cond.instanceMethod ({ cls := "java/lang/Throwable", name := "fillInStackTrace", desc := "()Ljava/lang/Throwable;" } : Jvm.MethodName)) ∈ lw_all := lw_g (lw_at lw_m1 180 rfl) rfl
theorem q234 : (Jvm.Cond.sameMethod "java/lang/Throwable" "java/lang/Throwable" "fillInStackTrace" "()Ljava/lang/Throwable;") ∈ lw_all := lw_g (lw_at lw_m1 181 rfl) rfl
theorem q235 : (Jvm.Cond.codeSync ({ cls := "java/lang/Throwable", name := "fillInStackTrace", desc := "()Ljava/lang/Throwable;" } : Jvm.MethodName) prog_23_method_18_code (1 : Nat) (Option.some (Jvm.ClassFile.FieldType.object "java/lang/Throwable"))) ∈ lw_all := lw_g (lw_at lw_m1 182 rfl) rfl
theorem q236 : (Jvm.Cond.methodLink "java/lang/Throwable" (202 : Nat) ({ cls := "java/lang/Throwable", name := "fillInStackTrace", desc := "(I)Ljava/lang/Throwable;" } : Jvm.MethodName)) ∈ lw_all := lw_g (lw_at lw_m1 183 rfl) rfl
theorem q237 : (Jvm.Cond.privateMethod ({ cls := "java/lang/Throwable", name := "fillInStackTrace", desc := "(I)Ljava/lang/Throwable;" } : Jvm.MethodName)) ∈ lw_tbl := lw_at lw_m1 184 rfl
theorem q238 : (Jvm.Cond.instanceMethod ({ cls := "java/lang/Throwable", name := "fillInStackTrace", desc := "(I)Ljava/lang/Throwable;" } : Jvm.MethodName)) ∈ lw_all := lw_g (lw_at lw_m1 185 rfl) rfl
theorem q239 : (Jvm.Cond.instantiable "java/lang/Throwable" (6 : Nat)) ∈ lw_all := lw_g (lw_at lw_m1 186 rfl) rfl
theorem q240 : (Jvm.Cond.native ({ cls := "java/lang/Throwable", name := "fillInStackTrace", desc := "(I)Ljava/lang/Throwable;" } : Jvm.MethodName)) ∈ lw_all := lw_g (lw_at lw_m1 187 rfl) rfl
theorem q248 : (Jvm.Cond.instanceMethod ({ cls := "java/lang/Throwable", name := "<init>", desc := "(Ljava/lang/String;Ljava/lang/Throwable;ZZ)V" } : Jvm.MethodName)) ∈ lw_all := lw_g (lw_at lw_m1 195 rfl) rfl
theorem q249 : (Jvm.Cond.code ({ cls := "java/lang/Throwable", name := "<init>", desc := "(Ljava/lang/String;Ljava/lang/Throwable;ZZ)V" } : Jvm.MethodName) prog_23_method_5_code (5 : Nat) (Option.none : Option Jvm.ClassFile.FieldType)) ∈ lw_all := lw_g (lw_at lw_m1 196 rfl) rfl
theorem q252 : (Jvm.Cond.fieldLink "java/lang/Throwable" (198 : Nat) "java/lang/Throwable" "backtrace" "Ljava/lang/Object;") ∈ lw_all := lw_g (lw_at lw_m1 199 rfl) rfl
theorem q253 : (Jvm.Cond.fieldLink "java/lang/Throwable" (31 : Nat) "java/lang/Throwable" "detailMessage" "Ljava/lang/String;") ∈ lw_all := lw_g (lw_at lw_m1 200 rfl) rfl
theorem q254 : (Jvm.Cond.fieldLink "java/lang/Throwable" (7 : Nat) "java/lang/Throwable" "cause" "Ljava/lang/Throwable;") ∈ lw_all := lw_g (lw_at lw_m1 201 rfl) rfl
theorem q255 : (Jvm.Cond.fieldLink "java/lang/Throwable" (17 : Nat) "java/lang/Throwable" "stackTrace" "[Ljava/lang/StackTraceElement;") ∈ lw_all := lw_g (lw_at lw_m1 202 rfl) rfl
theorem q256 : (Jvm.Cond.fieldLink "java/lang/Throwable" (24 : Nat) "java/lang/Throwable" "suppressedExceptions" "Ljava/util/List;") ∈ lw_all := lw_g (lw_at lw_m1 203 rfl) rfl
theorem q259 : (Jvm.Cond.soleField "java/lang/Throwable" "backtrace") ∈ lw_all := lw_g (lw_at lw_m1 206 rfl) rfl
theorem q260 : (Jvm.Cond.soleField "java/lang/Throwable" "detailMessage") ∈ lw_all := lw_g (lw_at lw_m1 207 rfl) rfl
theorem q261 : (Jvm.Cond.soleField "java/lang/Throwable" "cause") ∈ lw_all := lw_g (lw_at lw_m1 208 rfl) rfl
theorem q262 : (Jvm.Cond.soleField "java/lang/Throwable" "stackTrace") ∈ lw_all := lw_g (lw_at lw_m1 209 rfl) rfl
theorem q264 : (Jvm.Cond.soleField "java/lang/Throwable" "depth") ∈ lw_all := lw_g (lw_at lw_m1 211 rfl) rfl
theorem q265 : (Jvm.Cond.soleField "java/lang/Throwable" "suppressedExceptions") ∈ lw_all := lw_g (lw_at lw_m1 212 rfl) rfl
theorem q1121 : (Jvm.Cond.sameMethod "java/lang/Throwable" "java/lang/Throwable" "fillInStackTrace" "(I)Ljava/lang/Throwable;") ∈ lw_all := lw_g (lw_at lw_m5 108 rfl) rfl
theorem in_J6 : ∀ w ∈ wsJ60, w ∈ lw_all := lw_in wsJ60 [212, 214, 216, 218, 220] (by decide +kernel) (by decide +kernel)

/-! java/lang/Exception -/
set_option maxRecDepth 100000
def RJ7 : String := "java/lang/Exception"
abbrev cJ7_init : ByteArray := prog_16_method_5_code
def yJ7_init : MethodName := ⟨RJ7, "<init>", "(Ljava/lang/String;Ljava/lang/Throwable;ZZ)V"⟩
def dkwJ7_init_0 : List UInt8 := [42, 43, 44, 29, 21, 4, 183, 0, 16, 177]
abbrev dktJ7_init_0 : List UInt8 := dkwJ7_init_0 ++ []
theorem dksJ7_init_0 : cJ7_init.data.toList.drop 0 = dktJ7_init_0 := by decide +kernel
theorem dJ7_init_0 : decode cJ7_init 0 = .ok (.aload_n 0, 1) := dk_42 (dk_at dksJ7_init_0 0 rfl rfl)
theorem dJ7_init_1 : decode cJ7_init 1 = .ok (.aload_n 1, 1) := dk_43 (dk_at dksJ7_init_0 1 rfl rfl)
theorem dJ7_init_2 : decode cJ7_init 2 = .ok (.aload_n 2, 1) := dk_44 (dk_at dksJ7_init_0 2 rfl rfl)
theorem dJ7_init_3 : decode cJ7_init 3 = .ok (.iload_n 3, 1) := dk_29 (dk_at dksJ7_init_0 3 rfl rfl)
theorem dJ7_init_4 : decode cJ7_init 4 = .ok (.iload 4, 2) := dk_21 4 (dk_at dksJ7_init_0 4 rfl rfl)
theorem dJ7_init_6 : decode cJ7_init 6 = .ok (.invokespecial 16, 3) := dk_183 0 16 (dk_at dksJ7_init_0 6 rfl rfl)
theorem dJ7_init_9 : decode cJ7_init 9 = .ok (.return_, 1) := dk_177 (dk_at dksJ7_init_0 9 rfl rfl)
theorem q73 : (Jvm.Cond.initialized "java/lang/Exception") ∈ lw_all := lw_g (lw_at lw_m1 20 rfl) rfl
theorem q205 : (Jvm.Cond.declares ({ cls := "java/lang/Exception", name := "<init>", desc := "()V" } : Jvm.MethodName)) ∈ lw_tbl := lw_at lw_m1 152 rfl
theorem q206 : (Jvm.Cond.declares ({ cls := "java/lang/Exception", name := "<init>", desc := "(Ljava/lang/String;)V" } : Jvm.MethodName)) ∈ lw_tbl := lw_at lw_m1 153 rfl
theorem q245 : (Jvm.Cond.instanceMethod ({ cls := "java/lang/Exception", name := "<init>", desc := "(Ljava/lang/String;Ljava/lang/Throwable;ZZ)V" } : Jvm.MethodName)) ∈ lw_all := lw_g (lw_at lw_m1 192 rfl) rfl
theorem q246 : (Jvm.Cond.code ({ cls := "java/lang/Exception", name := "<init>", desc := "(Ljava/lang/String;Ljava/lang/Throwable;ZZ)V" } : Jvm.MethodName) prog_16_method_5_code (5 : Nat) (Option.none : Option Jvm.ClassFile.FieldType)) ∈ lw_all := lw_g (lw_at lw_m1 193 rfl) rfl
theorem q247 : (Jvm.Cond.methodLink "java/lang/Exception" (16 : Nat) ({ cls := "java/lang/Throwable", name := "<init>", desc := "(Ljava/lang/String;Ljava/lang/Throwable;ZZ)V" } : Jvm.MethodName)) ∈ lw_all := lw_g (lw_at lw_m1 194 rfl) rfl

/-! java/lang/Integer -/
set_option maxRecDepth 100000
def RJ8 : String := "java/lang/Integer"
abbrev cJ8_bitCount : ByteArray := prog_17_method_49_code
def yJ8_bitCount : MethodName := ⟨RJ8, "bitCount", "(I)I"⟩
def dkwJ8_bitCount_2 : List UInt8 := [26, 16, 63, 126, 172]
abbrev dktJ8_bitCount_2 : List UInt8 := dkwJ8_bitCount_2 ++ []
def dkwJ8_bitCount_1 : List UInt8 := [26, 26, 7, 124, 96, 19, 1, 11, 126, 59, 26, 26, 16, 8, 124, 96, 59, 26, 26, 16, 16, 124, 96, 59]
abbrev dktJ8_bitCount_1 : List UInt8 := dkwJ8_bitCount_1 ++ dktJ8_bitCount_2
def dkwJ8_bitCount_0 : List UInt8 := [26, 26, 4, 124, 19, 1, 9, 126, 100, 59, 26, 19, 1, 10, 126, 26, 5, 124, 19, 1, 10, 126, 96, 59]
abbrev dktJ8_bitCount_0 : List UInt8 := dkwJ8_bitCount_0 ++ dktJ8_bitCount_1
theorem dksJ8_bitCount_0 : cJ8_bitCount.data.toList.drop 0 = dktJ8_bitCount_0 := by decide +kernel
theorem dksJ8_bitCount_1 : cJ8_bitCount.data.toList.drop 24 = dktJ8_bitCount_1 := dk_seg dksJ8_bitCount_0 24 rfl rfl
theorem dksJ8_bitCount_2 : cJ8_bitCount.data.toList.drop 48 = dktJ8_bitCount_2 := dk_seg dksJ8_bitCount_1 24 rfl rfl
theorem dJ8_bitCount_0 : decode cJ8_bitCount 0 = .ok (.iload_n 0, 1) := dk_26 (dk_at dksJ8_bitCount_0 0 rfl rfl)
theorem dJ8_bitCount_1 : decode cJ8_bitCount 1 = .ok (.iload_n 0, 1) := dk_26 (dk_at dksJ8_bitCount_0 1 rfl rfl)
theorem dJ8_bitCount_2 : decode cJ8_bitCount 2 = .ok (.iconst 1, 1) := dk_4 (dk_at dksJ8_bitCount_0 2 rfl rfl)
theorem dJ8_bitCount_3 : decode cJ8_bitCount 3 = .ok (.iushr, 1) := dk_124 (dk_at dksJ8_bitCount_0 3 rfl rfl)
theorem dJ8_bitCount_4 : decode cJ8_bitCount 4 = .ok (.ldc_w 265, 3) := dk_19 1 9 (dk_at dksJ8_bitCount_0 4 rfl rfl)
theorem dJ8_bitCount_7 : decode cJ8_bitCount 7 = .ok (.iand, 1) := dk_126 (dk_at dksJ8_bitCount_0 7 rfl rfl)
theorem dJ8_bitCount_8 : decode cJ8_bitCount 8 = .ok (.isub, 1) := dk_100 (dk_at dksJ8_bitCount_0 8 rfl rfl)
theorem dJ8_bitCount_9 : decode cJ8_bitCount 9 = .ok (.istore_n 0, 1) := dk_59 (dk_at dksJ8_bitCount_0 9 rfl rfl)
theorem dJ8_bitCount_10 : decode cJ8_bitCount 10 = .ok (.iload_n 0, 1) := dk_26 (dk_at dksJ8_bitCount_0 10 rfl rfl)
theorem dJ8_bitCount_11 : decode cJ8_bitCount 11 = .ok (.ldc_w 266, 3) := dk_19 1 10 (dk_at dksJ8_bitCount_0 11 rfl rfl)
theorem dJ8_bitCount_14 : decode cJ8_bitCount 14 = .ok (.iand, 1) := dk_126 (dk_at dksJ8_bitCount_0 14 rfl rfl)
theorem dJ8_bitCount_15 : decode cJ8_bitCount 15 = .ok (.iload_n 0, 1) := dk_26 (dk_at dksJ8_bitCount_0 15 rfl rfl)
theorem dJ8_bitCount_16 : decode cJ8_bitCount 16 = .ok (.iconst 2, 1) := dk_5 (dk_at dksJ8_bitCount_0 16 rfl rfl)
theorem dJ8_bitCount_17 : decode cJ8_bitCount 17 = .ok (.iushr, 1) := dk_124 (dk_at dksJ8_bitCount_0 17 rfl rfl)
theorem dJ8_bitCount_18 : decode cJ8_bitCount 18 = .ok (.ldc_w 266, 3) := dk_19 1 10 (dk_at dksJ8_bitCount_0 18 rfl rfl)
theorem dJ8_bitCount_21 : decode cJ8_bitCount 21 = .ok (.iand, 1) := dk_126 (dk_at dksJ8_bitCount_0 21 rfl rfl)
theorem dJ8_bitCount_22 : decode cJ8_bitCount 22 = .ok (.iadd, 1) := dk_96 (dk_at dksJ8_bitCount_0 22 rfl rfl)
theorem dJ8_bitCount_23 : decode cJ8_bitCount 23 = .ok (.istore_n 0, 1) := dk_59 (dk_at dksJ8_bitCount_0 23 rfl rfl)
theorem dJ8_bitCount_24 : decode cJ8_bitCount 24 = .ok (.iload_n 0, 1) := dk_26 (dk_at dksJ8_bitCount_1 0 rfl rfl)
theorem dJ8_bitCount_25 : decode cJ8_bitCount 25 = .ok (.iload_n 0, 1) := dk_26 (dk_at dksJ8_bitCount_1 1 rfl rfl)
theorem dJ8_bitCount_26 : decode cJ8_bitCount 26 = .ok (.iconst 4, 1) := dk_7 (dk_at dksJ8_bitCount_1 2 rfl rfl)
theorem dJ8_bitCount_27 : decode cJ8_bitCount 27 = .ok (.iushr, 1) := dk_124 (dk_at dksJ8_bitCount_1 3 rfl rfl)
theorem dJ8_bitCount_28 : decode cJ8_bitCount 28 = .ok (.iadd, 1) := dk_96 (dk_at dksJ8_bitCount_1 4 rfl rfl)
theorem dJ8_bitCount_29 : decode cJ8_bitCount 29 = .ok (.ldc_w 267, 3) := dk_19 1 11 (dk_at dksJ8_bitCount_1 5 rfl rfl)
theorem dJ8_bitCount_32 : decode cJ8_bitCount 32 = .ok (.iand, 1) := dk_126 (dk_at dksJ8_bitCount_1 8 rfl rfl)
theorem dJ8_bitCount_33 : decode cJ8_bitCount 33 = .ok (.istore_n 0, 1) := dk_59 (dk_at dksJ8_bitCount_1 9 rfl rfl)
theorem dJ8_bitCount_34 : decode cJ8_bitCount 34 = .ok (.iload_n 0, 1) := dk_26 (dk_at dksJ8_bitCount_1 10 rfl rfl)
theorem dJ8_bitCount_35 : decode cJ8_bitCount 35 = .ok (.iload_n 0, 1) := dk_26 (dk_at dksJ8_bitCount_1 11 rfl rfl)
theorem dJ8_bitCount_36 : decode cJ8_bitCount 36 = .ok (.bipush 8, 2) := dk_16 8 (dk_at dksJ8_bitCount_1 12 rfl rfl)
theorem dJ8_bitCount_38 : decode cJ8_bitCount 38 = .ok (.iushr, 1) := dk_124 (dk_at dksJ8_bitCount_1 14 rfl rfl)
theorem dJ8_bitCount_39 : decode cJ8_bitCount 39 = .ok (.iadd, 1) := dk_96 (dk_at dksJ8_bitCount_1 15 rfl rfl)
theorem dJ8_bitCount_40 : decode cJ8_bitCount 40 = .ok (.istore_n 0, 1) := dk_59 (dk_at dksJ8_bitCount_1 16 rfl rfl)
theorem dJ8_bitCount_41 : decode cJ8_bitCount 41 = .ok (.iload_n 0, 1) := dk_26 (dk_at dksJ8_bitCount_1 17 rfl rfl)
theorem dJ8_bitCount_42 : decode cJ8_bitCount 42 = .ok (.iload_n 0, 1) := dk_26 (dk_at dksJ8_bitCount_1 18 rfl rfl)
theorem dJ8_bitCount_43 : decode cJ8_bitCount 43 = .ok (.bipush 16, 2) := dk_16 16 (dk_at dksJ8_bitCount_1 19 rfl rfl)
theorem dJ8_bitCount_45 : decode cJ8_bitCount 45 = .ok (.iushr, 1) := dk_124 (dk_at dksJ8_bitCount_1 21 rfl rfl)
theorem dJ8_bitCount_46 : decode cJ8_bitCount 46 = .ok (.iadd, 1) := dk_96 (dk_at dksJ8_bitCount_1 22 rfl rfl)
theorem dJ8_bitCount_47 : decode cJ8_bitCount 47 = .ok (.istore_n 0, 1) := dk_59 (dk_at dksJ8_bitCount_1 23 rfl rfl)
theorem dJ8_bitCount_48 : decode cJ8_bitCount 48 = .ok (.iload_n 0, 1) := dk_26 (dk_at dksJ8_bitCount_2 0 rfl rfl)
theorem dJ8_bitCount_49 : decode cJ8_bitCount 49 = .ok (.bipush 63, 2) := dk_16 63 (dk_at dksJ8_bitCount_2 1 rfl rfl)
theorem dJ8_bitCount_51 : decode cJ8_bitCount 51 = .ok (.iand, 1) := dk_126 (dk_at dksJ8_bitCount_2 3 rfl rfl)
theorem dJ8_bitCount_52 : decode cJ8_bitCount 52 = .ok (.ireturn, 1) := dk_172 (dk_at dksJ8_bitCount_2 4 rfl rfl)
theorem q76 : (Jvm.Cond.initialized "java/lang/Integer") ∈ lw_all := lw_g (lw_at lw_m1 23 rfl) rfl
theorem q605 : (Jvm.Cond.static ({ cls := "java/lang/Integer", name := "bitCount", desc := "(I)I" } : Jvm.MethodName)) ∈ lw_all := lw_g (lw_at lw_m3 72 rfl) rfl
theorem q606 : (Jvm.Cond.code ({ cls := "java/lang/Integer", name := "bitCount", desc := "(I)I" } : Jvm.MethodName) prog_17_method_49_code (1 : Nat) (Option.some Jvm.ClassFile.FieldType.int)) ∈ lw_all := lw_g (lw_at lw_m3 73 rfl) rfl
theorem q607 : (Jvm.Cond.constant "java/lang/Integer" (265 : Nat) (1431655765 : Int32)) ∈ lw_all := lw_g (lw_at lw_m3 74 rfl) rfl
theorem q608 : (Jvm.Cond.constant "java/lang/Integer" (266 : Nat) (858993459 : Int32)) ∈ lw_all := lw_g (lw_at lw_m3 75 rfl) rfl
theorem q609 : (Jvm.Cond.constant "java/lang/Integer" (267 : Nat) (252645135 : Int32)) ∈ lw_all := lw_g (lw_at lw_m3 76 rfl) rfl

/-! java/lang/Object -/
set_option maxRecDepth 100000
def RJ9 : String := "java/lang/Object"
abbrev cJ9_init : ByteArray := object_method_1_code
def yJ9_init : MethodName := ⟨RJ9, "<init>", "()V"⟩
theorem dJ9_init_0 : decode cJ9_init 0 = .ok (.return_, 1) := by decide +kernel
theorem q226 : (Jvm.Cond.instanceMethod ({ cls := "java/lang/Object", name := "<init>", desc := "()V" } : Jvm.MethodName)) ∈ lw_all := lw_g (lw_at lw_m1 173 rfl) rfl
theorem q227 : (Jvm.Cond.code ({ cls := "java/lang/Object", name := "<init>", desc := "()V" } : Jvm.MethodName) object_method_1_code (1 : Nat) (Option.none : Option Jvm.ClassFile.FieldType)) ∈ lw_all := lw_g (lw_at lw_m1 174 rfl) rfl

theorem q267 : (Jvm.Cond.arrayClass Jvm.ClassFile.FieldType.byte) ∈ lw_all := lw_g (lw_at lw_m1 214 rfl) rfl
set_option maxRecDepth 100000
theorem q359 : (Jvm.Cond.arrayClass Jvm.ClassFile.FieldType.int) ∈ lw_all := lw_g (lw_at lw_m2 66 rfl) rfl
theorem q415 : (Jvm.Cond.arrayOver (Jvm.ClassFile.FieldType.object "KindStreets$Age")) ∈ lw_tbl := lw_at lw_m2 122 rfl
theorem q417 : (Jvm.Cond.arrayOver (Jvm.ClassFile.FieldType.object "KindStreets$Image")) ∈ lw_tbl := lw_at lw_m2 124 rfl
theorem q441 : (Jvm.Cond.arrayOver (Jvm.ClassFile.FieldType.object "KindStreets$Plain")) ∈ lw_tbl := lw_at lw_m2 148 rfl
theorem q448 : (Jvm.Cond.arrayClass Jvm.ClassFile.FieldType.boolean) ∈ lw_all := lw_g (lw_at lw_m2 155 rfl) rfl

theorem q75 : (Jvm.Cond.initialized "java/lang/System") ∈ lw_all := lw_g (lw_at lw_m1 22 rfl) rfl
set_option maxRecDepth 100000
theorem q298 : (Jvm.Cond.static ({ cls := "java/lang/System", name := "arraycopy", desc := "(Ljava/lang/Object;ILjava/lang/Object;II)V" } : Jvm.MethodName)) ∈ lw_all := lw_g (lw_at lw_m2 5 rfl) rfl
theorem q299 : (Jvm.Cond.native ({ cls := "java/lang/System", name := "arraycopy", desc := "(Ljava/lang/Object;ILjava/lang/Object;II)V" } : Jvm.MethodName)) ∈ lw_all := lw_g (lw_at lw_m2 6 rfl) rfl
