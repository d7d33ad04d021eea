/-! java/lang/String -/
set_option maxRecDepth 100000
def RJ0 : String := "java/lang/String"
def TJ0 : u_T := fun k => match k with
  | 0 => ("java/lang/String", "value", "[B", true)
  | _ => ("java/lang/String", "coder", "B", true)
def tyJ0 : Nat → FieldType := fun k => match k with
  | 0 => .array .byte
  | _ => .byte
abbrev wsJ00 : List Cond := u_ws RJ0 TJ0 2
theorem nmJ0 : ∀ a, a < 2 → ∀ b, b < 2 → a ≠ b → (TJ0 a).2.1 ≠ (TJ0 b).2.1 := by decide +kernel
theorem tyJ0_ok : ∀ k, k < 2 → parseFieldDescriptor (TJ0 k).2.2.1 = some (tyJ0 k) := by decide +kernel
abbrev cJ0_length : ByteArray := prog_23_method_54_code
def yJ0_length : MethodName := ⟨RJ0, "length", "()I"⟩
def dkwJ0_length_0 : List UInt8 := [42, 180, 0, 9, 190, 42, 182, 1, 79, 122, 172]
abbrev dktJ0_length_0 : List UInt8 := dkwJ0_length_0 ++ []
theorem dksJ0_length_0 : cJ0_length.data.toList.drop 0 = dktJ0_length_0 := by decide +kernel
theorem dJ0_length_0 : decode cJ0_length 0 = .ok (.aload_n 0, 1) := dk_42 (dk_at dksJ0_length_0 0 rfl rfl)
theorem dJ0_length_1 : decode cJ0_length 1 = .ok (.getfield 9, 3) := dk_180 0 9 (dk_at dksJ0_length_0 1 rfl rfl)
theorem dJ0_length_4 : decode cJ0_length 4 = .ok (.arraylength, 1) := dk_190 (dk_at dksJ0_length_0 4 rfl rfl)
theorem dJ0_length_5 : decode cJ0_length 5 = .ok (.aload_n 0, 1) := dk_42 (dk_at dksJ0_length_0 5 rfl rfl)
theorem dJ0_length_6 : decode cJ0_length 6 = .ok (.invokevirtual 335, 3) := dk_182 1 79 (dk_at dksJ0_length_0 6 rfl rfl)
theorem dJ0_length_9 : decode cJ0_length 9 = .ok (.ishr, 1) := dk_122 (dk_at dksJ0_length_0 9 rfl rfl)
theorem dJ0_length_10 : decode cJ0_length 10 = .ok (.ireturn, 1) := dk_172 (dk_at dksJ0_length_0 10 rfl rfl)
abbrev cJ0_coder : ByteArray := prog_23_method_152_code
def yJ0_coder : MethodName := ⟨RJ0, "coder", "()B"⟩
def dkwJ0_coder_0 : List UInt8 := [178, 0, 38, 153, 0, 10, 42, 180, 0, 15, 167, 0, 4, 4, 172]
abbrev dktJ0_coder_0 : List UInt8 := dkwJ0_coder_0 ++ []
theorem dksJ0_coder_0 : cJ0_coder.data.toList.drop 0 = dktJ0_coder_0 := by decide +kernel
theorem dJ0_coder_0 : decode cJ0_coder 0 = .ok (.getstatic 38, 3) := dk_178 0 38 (dk_at dksJ0_coder_0 0 rfl rfl)
theorem dJ0_coder_3 : decode cJ0_coder 3 = .ok (.ifCond .eq 10, 3) := dk_153 0 10 (dk_at dksJ0_coder_0 3 rfl rfl)
theorem dJ0_coder_6 : decode cJ0_coder 6 = .ok (.aload_n 0, 1) := dk_42 (dk_at dksJ0_coder_0 6 rfl rfl)
theorem dJ0_coder_7 : decode cJ0_coder 7 = .ok (.getfield 15, 3) := dk_180 0 15 (dk_at dksJ0_coder_0 7 rfl rfl)
theorem dJ0_coder_10 : decode cJ0_coder 10 = .ok (.goto 4, 3) := dk_167 0 4 (dk_at dksJ0_coder_0 10 rfl rfl)
theorem dJ0_coder_13 : decode cJ0_coder 13 = .ok (.iconst 1, 1) := dk_4 (dk_at dksJ0_coder_0 13 rfl rfl)
theorem dJ0_coder_14 : decode cJ0_coder 14 = .ok (.ireturn, 1) := dk_172 (dk_at dksJ0_coder_0 14 rfl rfl)
abbrev cJ0_charAt : ByteArray := prog_23_method_56_code
def yJ0_charAt : MethodName := ⟨RJ0, "charAt", "(I)C"⟩
def dkwJ0_charAt_1 : List UInt8 := [172]
abbrev dktJ0_charAt_1 : List UInt8 := dkwJ0_charAt_1 ++ []
def dkwJ0_charAt_0 : List UInt8 := [42, 182, 1, 236, 153, 0, 12, 42, 180, 0, 9, 27, 184, 1, 239, 172, 42, 180, 0, 9, 27, 184, 1, 242]
abbrev dktJ0_charAt_0 : List UInt8 := dkwJ0_charAt_0 ++ dktJ0_charAt_1
theorem dksJ0_charAt_0 : cJ0_charAt.data.toList.drop 0 = dktJ0_charAt_0 := by decide +kernel
theorem dksJ0_charAt_1 : cJ0_charAt.data.toList.drop 24 = dktJ0_charAt_1 := dk_seg dksJ0_charAt_0 24 rfl rfl
theorem dJ0_charAt_0 : decode cJ0_charAt 0 = .ok (.aload_n 0, 1) := dk_42 (dk_at dksJ0_charAt_0 0 rfl rfl)
theorem dJ0_charAt_1 : decode cJ0_charAt 1 = .ok (.invokevirtual 492, 3) := dk_182 1 236 (dk_at dksJ0_charAt_0 1 rfl rfl)
theorem dJ0_charAt_4 : decode cJ0_charAt 4 = .ok (.ifCond .eq 12, 3) := dk_153 0 12 (dk_at dksJ0_charAt_0 4 rfl rfl)
theorem dJ0_charAt_7 : decode cJ0_charAt 7 = .ok (.aload_n 0, 1) := dk_42 (dk_at dksJ0_charAt_0 7 rfl rfl)
theorem dJ0_charAt_8 : decode cJ0_charAt 8 = .ok (.getfield 9, 3) := dk_180 0 9 (dk_at dksJ0_charAt_0 8 rfl rfl)
theorem dJ0_charAt_11 : decode cJ0_charAt 11 = .ok (.iload_n 1, 1) := dk_27 (dk_at dksJ0_charAt_0 11 rfl rfl)
theorem dJ0_charAt_12 : decode cJ0_charAt 12 = .ok (.invokestatic 495, 3) := dk_184 1 239 (dk_at dksJ0_charAt_0 12 rfl rfl)
theorem dJ0_charAt_15 : decode cJ0_charAt 15 = .ok (.ireturn, 1) := dk_172 (dk_at dksJ0_charAt_0 15 rfl rfl)
theorem dJ0_charAt_16 : decode cJ0_charAt 16 = .ok (.aload_n 0, 1) := dk_42 (dk_at dksJ0_charAt_0 16 rfl rfl)
theorem dJ0_charAt_17 : decode cJ0_charAt 17 = .ok (.getfield 9, 3) := dk_180 0 9 (dk_at dksJ0_charAt_0 17 rfl rfl)
theorem dJ0_charAt_20 : decode cJ0_charAt 20 = .ok (.iload_n 1, 1) := dk_27 (dk_at dksJ0_charAt_0 20 rfl rfl)
theorem dJ0_charAt_21 : decode cJ0_charAt 21 = .ok (.invokestatic 498, 3) := dk_184 1 242 (dk_at dksJ0_charAt_0 21 rfl rfl)
theorem dJ0_charAt_24 : decode cJ0_charAt 24 = .ok (.ireturn, 1) := dk_172 (dk_at dksJ0_charAt_1 0 rfl rfl)
abbrev cJ0_isLatin1 : ByteArray := prog_23_method_154_code
def yJ0_isLatin1 : MethodName := ⟨RJ0, "isLatin1", "()Z"⟩
def dkwJ0_isLatin1_0 : List UInt8 := [178, 0, 38, 153, 0, 14, 42, 180, 0, 15, 154, 0, 7, 4, 167, 0, 4, 3, 172]
abbrev dktJ0_isLatin1_0 : List UInt8 := dkwJ0_isLatin1_0 ++ []
theorem dksJ0_isLatin1_0 : cJ0_isLatin1.data.toList.drop 0 = dktJ0_isLatin1_0 := by decide +kernel
theorem dJ0_isLatin1_0 : decode cJ0_isLatin1 0 = .ok (.getstatic 38, 3) := dk_178 0 38 (dk_at dksJ0_isLatin1_0 0 rfl rfl)
theorem dJ0_isLatin1_3 : decode cJ0_isLatin1 3 = .ok (.ifCond .eq 14, 3) := dk_153 0 14 (dk_at dksJ0_isLatin1_0 3 rfl rfl)
theorem dJ0_isLatin1_6 : decode cJ0_isLatin1 6 = .ok (.aload_n 0, 1) := dk_42 (dk_at dksJ0_isLatin1_0 6 rfl rfl)
theorem dJ0_isLatin1_7 : decode cJ0_isLatin1 7 = .ok (.getfield 15, 3) := dk_180 0 15 (dk_at dksJ0_isLatin1_0 7 rfl rfl)
theorem dJ0_isLatin1_10 : decode cJ0_isLatin1 10 = .ok (.ifCond .ne 7, 3) := dk_154 0 7 (dk_at dksJ0_isLatin1_0 10 rfl rfl)
theorem dJ0_isLatin1_13 : decode cJ0_isLatin1 13 = .ok (.iconst 1, 1) := dk_4 (dk_at dksJ0_isLatin1_0 13 rfl rfl)
theorem dJ0_isLatin1_14 : decode cJ0_isLatin1 14 = .ok (.goto 4, 3) := dk_167 0 4 (dk_at dksJ0_isLatin1_0 14 rfl rfl)
theorem dJ0_isLatin1_17 : decode cJ0_isLatin1 17 = .ok (.iconst 0, 1) := dk_3 (dk_at dksJ0_isLatin1_0 17 rfl rfl)
theorem dJ0_isLatin1_18 : decode cJ0_isLatin1 18 = .ok (.ireturn, 1) := dk_172 (dk_at dksJ0_isLatin1_0 18 rfl rfl)
abbrev cJ0_checkIndex : ByteArray := prog_23_method_155_code
def yJ0_checkIndex : MethodName := ⟨RJ0, "checkIndex", "(II)V"⟩
def dkwJ0_checkIndex_0 : List UInt8 := [26, 27, 178, 4, 29, 184, 4, 35, 87, 177]
abbrev dktJ0_checkIndex_0 : List UInt8 := dkwJ0_checkIndex_0 ++ []
theorem dksJ0_checkIndex_0 : cJ0_checkIndex.data.toList.drop 0 = dktJ0_checkIndex_0 := by decide +kernel
theorem dJ0_checkIndex_0 : decode cJ0_checkIndex 0 = .ok (.iload_n 0, 1) := dk_26 (dk_at dksJ0_checkIndex_0 0 rfl rfl)
theorem dJ0_checkIndex_1 : decode cJ0_checkIndex 1 = .ok (.iload_n 1, 1) := dk_27 (dk_at dksJ0_checkIndex_0 1 rfl rfl)
theorem dJ0_checkIndex_2 : decode cJ0_checkIndex 2 = .ok (.getstatic 1053, 3) := dk_178 4 29 (dk_at dksJ0_checkIndex_0 2 rfl rfl)
theorem dJ0_checkIndex_5 : decode cJ0_checkIndex 5 = .ok (.invokestatic 1059, 3) := dk_184 4 35 (dk_at dksJ0_checkIndex_0 5 rfl rfl)
theorem dJ0_checkIndex_8 : decode cJ0_checkIndex 8 = .ok (.pop, 1) := dk_87 (dk_at dksJ0_checkIndex_0 8 rfl rfl)
theorem dJ0_checkIndex_9 : decode cJ0_checkIndex 9 = .ok (.return_, 1) := dk_177 (dk_at dksJ0_checkIndex_0 9 rfl rfl)
theorem q119 : (Jvm.Cond.initialized "java/lang/String") ∈ lw_all := lw_g (lw_at lw_m1 14 rfl) rfl
theorem q1040 : (Jvm.Cond.instantiable "java/lang/String" (4 : Nat)) ∈ lw_all := lw_g (lw_at lw_m4 215 rfl) rfl
theorem q1042 : (Jvm.Cond.laysFinal "java/lang/String" "java/lang/String" "value" "[B") ∈ lw_all := lw_g (lw_at lw_m4 217 rfl) rfl
theorem q1043 : (Jvm.Cond.soleField "java/lang/String" "value") ∈ lw_all := lw_g (lw_at lw_m4 218 rfl) rfl
theorem q1044 : (Jvm.Cond.laysFinal "java/lang/String" "java/lang/String" "coder" "B") ∈ lw_all := lw_g (lw_at lw_m4 219 rfl) rfl
theorem q1045 : (Jvm.Cond.soleField "java/lang/String" "coder") ∈ lw_all := lw_g (lw_at lw_m4 220 rfl) rfl
theorem q1130 : (Jvm.Cond.instanceMethod ({ cls := "java/lang/String", name := "length", desc := "()I" } : Jvm.MethodName)) ∈ lw_all := lw_g (lw_at lw_m5 65 rfl) rfl
theorem q1131 : (Jvm.Cond.selects "java/lang/String" ({ cls := "java/lang/String", name := "length", desc := "()I" } : Jvm.MethodName) ({ cls := "java/lang/String", name := "length", desc := "()I" } : Jvm.MethodName)) ∈ lw_all := lw_g (lw_at lw_m5 66 rfl) rfl
theorem q1132 : (Jvm.Cond.code ({ cls := "java/lang/String", name := "length", desc := "()I" } : Jvm.MethodName) prog_23_method_54_code (1 : Nat) (Option.some Jvm.ClassFile.FieldType.int)) ∈ lw_all := lw_g (lw_at lw_m5 67 rfl) rfl
theorem q1133 : (Jvm.Cond.methodLink "java/lang/String" (335 : Nat) ({ cls := "java/lang/String", name := "coder", desc := "()B" } : Jvm.MethodName)) ∈ lw_all := lw_g (lw_at lw_m5 68 rfl) rfl
theorem q1134 : (Jvm.Cond.instanceMethod ({ cls := "java/lang/String", name := "coder", desc := "()B" } : Jvm.MethodName)) ∈ lw_all := lw_g (lw_at lw_m5 69 rfl) rfl
theorem q1135 : (Jvm.Cond.selects "java/lang/String" ({ cls := "java/lang/String", name := "coder", desc := "()B" } : Jvm.MethodName) ({ cls := "java/lang/String", name := "coder", desc := "()B" } : Jvm.MethodName)) ∈ lw_all := lw_g (lw_at lw_m5 70 rfl) rfl
theorem q1136 : (Jvm.Cond.code ({ cls := "java/lang/String", name := "coder", desc := "()B" } : Jvm.MethodName) prog_23_method_152_code (1 : Nat) (Option.some Jvm.ClassFile.FieldType.byte)) ∈ lw_all := lw_g (lw_at lw_m5 71 rfl) rfl
theorem q1137 : (Jvm.Cond.fieldLink "java/lang/String" (38 : Nat) "java/lang/String" "COMPACT_STRINGS" "Z") ∈ lw_all := lw_g (lw_at lw_m5 72 rfl) rfl
theorem q1138 : (Jvm.Cond.laysStatic "java/lang/String" "COMPACT_STRINGS" "Z") ∈ lw_tbl := lw_at lw_m5 73 rfl
theorem q1143 : (Jvm.Cond.instanceMethod ({ cls := "java/lang/String", name := "charAt", desc := "(I)C" } : Jvm.MethodName)) ∈ lw_all := lw_g (lw_at lw_m5 78 rfl) rfl
theorem q1144 : (Jvm.Cond.selects "java/lang/String" ({ cls := "java/lang/String", name := "charAt", desc := "(I)C" } : Jvm.MethodName) ({ cls := "java/lang/String", name := "charAt", desc := "(I)C" } : Jvm.MethodName)) ∈ lw_all := lw_g (lw_at lw_m5 79 rfl) rfl
theorem q1145 : (Jvm.Cond.code ({ cls := "java/lang/String", name := "charAt", desc := "(I)C" } : Jvm.MethodName) prog_23_method_56_code (2 : Nat) (Option.some Jvm.ClassFile.FieldType.char)) ∈ lw_all := lw_g (lw_at lw_m5 80 rfl) rfl
theorem q1146 : (Jvm.Cond.methodLink "java/lang/String" (492 : Nat) ({ cls := "java/lang/String", name := "isLatin1", desc := "()Z" } : Jvm.MethodName)) ∈ lw_all := lw_g (lw_at lw_m5 81 rfl) rfl
theorem q1147 : (Jvm.Cond.instanceMethod ({ cls := "java/lang/String", name := "isLatin1", desc := "()Z" } : Jvm.MethodName)) ∈ lw_all := lw_g (lw_at lw_m5 82 rfl) rfl
theorem q1148 : (Jvm.Cond.selects "java/lang/String" ({ cls := "java/lang/String", name := "isLatin1", desc := "()Z" } : Jvm.MethodName) ({ cls := "java/lang/String", name := "isLatin1", desc := "()Z" } : Jvm.MethodName)) ∈ lw_all := lw_g (lw_at lw_m5 83 rfl) rfl
theorem q1149 : (Jvm.Cond.code ({ cls := "java/lang/String", name := "isLatin1", desc := "()Z" } : Jvm.MethodName) prog_23_method_154_code (1 : Nat) (Option.some Jvm.ClassFile.FieldType.boolean)) ∈ lw_all := lw_g (lw_at lw_m5 84 rfl) rfl
theorem q1150 : (Jvm.Cond.methodLink "java/lang/String" (495 : Nat) ({ cls := "java/lang/StringLatin1", name := "charAt", desc := "([BI)C" } : Jvm.MethodName)) ∈ lw_all := lw_g (lw_at lw_m5 85 rfl) rfl
theorem q1154 : (Jvm.Cond.static ({ cls := "java/lang/String", name := "checkIndex", desc := "(II)V" } : Jvm.MethodName)) ∈ lw_all := lw_g (lw_at lw_m5 89 rfl) rfl
theorem q1155 : (Jvm.Cond.code ({ cls := "java/lang/String", name := "checkIndex", desc := "(II)V" } : Jvm.MethodName) prog_23_method_155_code (2 : Nat) (Option.none : Option Jvm.ClassFile.FieldType)) ∈ lw_all := lw_g (lw_at lw_m5 90 rfl) rfl
theorem q1156 : (Jvm.Cond.fieldLink "java/lang/String" (1053 : Nat) "jdk/internal/util/Preconditions" "SIOOBE_FORMATTER" "Ljava/util/function/BiFunction;") ∈ lw_all := lw_g (lw_at lw_m5 91 rfl) rfl
theorem q1158 : (Jvm.Cond.methodLink "java/lang/String" (1059 : Nat) ({ cls := "jdk/internal/util/Preconditions", name := "checkIndex", desc := "(IILjava/util/function/BiFunction;)I" } : Jvm.MethodName)) ∈ lw_all := lw_g (lw_at lw_m5 93 rfl) rfl
theorem q1161 : (Jvm.Cond.methodLink "java/lang/String" (498 : Nat) ({ cls := "java/lang/StringUTF16", name := "charAt", desc := "([BI)C" } : Jvm.MethodName)) ∈ lw_all := lw_g (lw_at lw_m5 96 rfl) rfl
theorem q1654 : (Jvm.Cond.castable "java/lang/String" "java/lang/Object") ∈ lw_tbl := lw_at lw_m7 109 rfl
theorem q1663 : (Jvm.Cond.fieldLink "java/lang/String" (9 : Nat) "java/lang/String" "value" "[B") ∈ lw_all := lw_g (lw_at lw_m7 118 rfl) rfl
theorem q1664 : (Jvm.Cond.fieldLink "java/lang/String" (15 : Nat) "java/lang/String" "coder" "B") ∈ lw_all := lw_g (lw_at lw_m7 119 rfl) rfl
theorem in_J0 : ∀ w ∈ wsJ00, w ∈ lw_all := lw_in wsJ00 [1042, 1044] (by decide +kernel) (by decide +kernel)

/-! java/lang/StringLatin1 -/
set_option maxRecDepth 100000
def RJ1 : String := "java/lang/StringLatin1"
abbrev cJ1_charAt : ByteArray := prog_24_method_2_code
def yJ1_charAt : MethodName := ⟨RJ1, "charAt", "([BI)C"⟩
def dkwJ1_charAt_0 : List UInt8 := [27, 42, 190, 184, 0, 9, 42, 27, 51, 17, 0, 255, 126, 146, 172]
abbrev dktJ1_charAt_0 : List UInt8 := dkwJ1_charAt_0 ++ []
theorem dksJ1_charAt_0 : cJ1_charAt.data.toList.drop 0 = dktJ1_charAt_0 := by decide +kernel
theorem dJ1_charAt_0 : decode cJ1_charAt 0 = .ok (.iload_n 1, 1) := dk_27 (dk_at dksJ1_charAt_0 0 rfl rfl)
theorem dJ1_charAt_1 : decode cJ1_charAt 1 = .ok (.aload_n 0, 1) := dk_42 (dk_at dksJ1_charAt_0 1 rfl rfl)
theorem dJ1_charAt_2 : decode cJ1_charAt 2 = .ok (.arraylength, 1) := dk_190 (dk_at dksJ1_charAt_0 2 rfl rfl)
theorem dJ1_charAt_3 : decode cJ1_charAt 3 = .ok (.invokestatic 9, 3) := dk_184 0 9 (dk_at dksJ1_charAt_0 3 rfl rfl)
theorem dJ1_charAt_6 : decode cJ1_charAt 6 = .ok (.aload_n 0, 1) := dk_42 (dk_at dksJ1_charAt_0 6 rfl rfl)
theorem dJ1_charAt_7 : decode cJ1_charAt 7 = .ok (.iload_n 1, 1) := dk_27 (dk_at dksJ1_charAt_0 7 rfl rfl)
theorem dJ1_charAt_8 : decode cJ1_charAt 8 = .ok (.baload, 1) := dk_51 (dk_at dksJ1_charAt_0 8 rfl rfl)
theorem dJ1_charAt_9 : decode cJ1_charAt 9 = .ok (.sipush 255, 3) := dk_17 0 255 (dk_at dksJ1_charAt_0 9 rfl rfl)
theorem dJ1_charAt_12 : decode cJ1_charAt 12 = .ok (.iand, 1) := dk_126 (dk_at dksJ1_charAt_0 12 rfl rfl)
theorem dJ1_charAt_13 : decode cJ1_charAt 13 = .ok (.i2c, 1) := dk_146 (dk_at dksJ1_charAt_0 13 rfl rfl)
theorem dJ1_charAt_14 : decode cJ1_charAt 14 = .ok (.ireturn, 1) := dk_172 (dk_at dksJ1_charAt_0 14 rfl rfl)
theorem q120 : (Jvm.Cond.initialized "java/lang/StringLatin1") ∈ lw_all := lw_g (lw_at lw_m1 15 rfl) rfl
theorem q1151 : (Jvm.Cond.static ({ cls := "java/lang/StringLatin1", name := "charAt", desc := "([BI)C" } : Jvm.MethodName)) ∈ lw_all := lw_g (lw_at lw_m5 86 rfl) rfl
theorem q1152 : (Jvm.Cond.code ({ cls := "java/lang/StringLatin1", name := "charAt", desc := "([BI)C" } : Jvm.MethodName) prog_24_method_2_code (2 : Nat) (Option.some Jvm.ClassFile.FieldType.char)) ∈ lw_all := lw_g (lw_at lw_m5 87 rfl) rfl
theorem q1153 : (Jvm.Cond.methodLink "java/lang/StringLatin1" (9 : Nat) ({ cls := "java/lang/String", name := "checkIndex", desc := "(II)V" } : Jvm.MethodName)) ∈ lw_all := lw_g (lw_at lw_m5 88 rfl) rfl

/-! java/lang/IndexOutOfBoundsException -/
set_option maxRecDepth 100000
def RJ10 : String := "java/lang/IndexOutOfBoundsException"
def TJ10 : u_T := fun k => match k with
  | 0 => ("java/lang/Throwable", "cause", "Ljava/lang/Throwable;", false)
  | 1 => ("java/lang/Throwable", "stackTrace", "[Ljava/lang/StackTraceElement;", false)
  | 2 => ("java/lang/Throwable", "suppressedExceptions", "Ljava/util/List;", false)
  | 3 => ("java/lang/Throwable", "detailMessage", "Ljava/lang/String;", false)
  | 4 => ("java/lang/Throwable", "backtrace", "Ljava/lang/Object;", false)
  | _ => ("java/lang/Throwable", "depth", "I", false)
def tyJ10 : Nat → FieldType := fun k => match k with
  | 0 => .object "java/lang/Throwable"
  | 1 => .array (.object "java/lang/StackTraceElement")
  | 2 => .object "java/util/List"
  | 3 => .object "java/lang/String"
  | 4 => .object "java/lang/Object"
  | _ => .int
abbrev wsJ100 : List Cond := u_ws RJ10 TJ10 6
theorem nmJ10 : ∀ a, a < 6 → ∀ b, b < 6 → a ≠ b → (TJ10 a).2.1 ≠ (TJ10 b).2.1 := by decide +kernel
theorem tyJ10_ok : ∀ k, k < 6 → parseFieldDescriptor (TJ10 k).2.2.1 = some (tyJ10 k) := by decide +kernel
abbrev cJ10_init : ByteArray := prog_20_method_2_code
def yJ10_init : MethodName := ⟨RJ10, "<init>", "(Ljava/lang/String;)V"⟩
def dkwJ10_init_0 : List UInt8 := [42, 43, 183, 0, 7, 177]
abbrev dktJ10_init_0 : List UInt8 := dkwJ10_init_0 ++ []
theorem dksJ10_init_0 : cJ10_init.data.toList.drop 0 = dktJ10_init_0 := by decide +kernel
theorem dJ10_init_0 : decode cJ10_init 0 = .ok (.aload_n 0, 1) := dk_42 (dk_at dksJ10_init_0 0 rfl rfl)
theorem dJ10_init_1 : decode cJ10_init 1 = .ok (.aload_n 1, 1) := dk_43 (dk_at dksJ10_init_0 1 rfl rfl)
theorem dJ10_init_2 : decode cJ10_init 2 = .ok (.invokespecial 7, 3) := dk_183 0 7 (dk_at dksJ10_init_0 2 rfl rfl)
theorem dJ10_init_5 : decode cJ10_init 5 = .ok (.return_, 1) := dk_177 (dk_at dksJ10_init_0 5 rfl rfl)
abbrev cJ10_init_2 : ByteArray := prog_20_method_1_code
def yJ10_init_2 : MethodName := ⟨RJ10, "<init>", "()V"⟩
theorem dJ10_init_2_0 : decode cJ10_init_2 0 = .ok (.aload_n 0, 1) := by decide +kernel
theorem dJ10_init_2_1 : decode cJ10_init_2 1 = .ok (.invokespecial 1, 3) := by decide +kernel
theorem dJ10_init_2_4 : decode cJ10_init_2 4 = .ok (.return_, 1) := by decide +kernel
theorem q129 : (Jvm.Cond.initialized "java/lang/IndexOutOfBoundsException") ∈ lw_all := lw_g (lw_at lw_m1 24 rfl) rfl
theorem q947 : (Jvm.Cond.selects "java/lang/IndexOutOfBoundsException" ({ cls := "java/lang/Throwable", name := "fillInStackTrace", desc := "()Ljava/lang/Throwable;" } : Jvm.MethodName) ({ cls := "java/lang/Throwable", name := "fillInStackTrace", desc := "()Ljava/lang/Throwable;" } : Jvm.MethodName)) ∈ lw_all := lw_g (lw_at lw_m4 122 rfl) rfl
theorem q1018 : (Jvm.Cond.instanceMethod ({ cls := "java/lang/IndexOutOfBoundsException", name := "<init>", desc := "(Ljava/lang/String;)V" } : Jvm.MethodName)) ∈ lw_all := lw_g (lw_at lw_m4 193 rfl) rfl
theorem q1019 : (Jvm.Cond.code ({ cls := "java/lang/IndexOutOfBoundsException", name := "<init>", desc := "(Ljava/lang/String;)V" } : Jvm.MethodName) prog_20_method_2_code (2 : Nat) (Option.none : Option Jvm.ClassFile.FieldType)) ∈ lw_all := lw_g (lw_at lw_m4 194 rfl) rfl
theorem q1020 : (Jvm.Cond.methodLink "java/lang/IndexOutOfBoundsException" (7 : Nat) ({ cls := "java/lang/RuntimeException", name := "<init>", desc := "(Ljava/lang/String;)V" } : Jvm.MethodName)) ∈ lw_all := lw_g (lw_at lw_m4 195 rfl) rfl
theorem q1037 : (Jvm.Cond.declares ({ cls := "java/lang/IndexOutOfBoundsException", name := "<init>", desc := "()V" } : Jvm.MethodName)) ∈ lw_tbl := lw_at lw_m4 212 rfl
theorem q1038 : (Jvm.Cond.declares ({ cls := "java/lang/IndexOutOfBoundsException", name := "<init>", desc := "(Ljava/lang/String;)V" } : Jvm.MethodName)) ∈ lw_tbl := lw_at lw_m4 213 rfl
theorem q1054 : (Jvm.Cond.instantiable "java/lang/IndexOutOfBoundsException" (6 : Nat)) ∈ lw_all := lw_g (lw_at lw_m4 229 rfl) rfl
theorem q1055 : (Jvm.Cond.castable "java/lang/IndexOutOfBoundsException" "java/lang/IndexOutOfBoundsException") ∈ lw_tbl := lw_at lw_m4 230 rfl
theorem q1056 : (Jvm.Cond.selects "java/lang/IndexOutOfBoundsException" ({ cls := "java/lang/Throwable", name := "fillInStackTrace", desc := "(I)Ljava/lang/Throwable;" } : Jvm.MethodName) ({ cls := "java/lang/Throwable", name := "fillInStackTrace", desc := "(I)Ljava/lang/Throwable;" } : Jvm.MethodName)) ∈ lw_all := lw_g (lw_at lw_m4 231 rfl) rfl
theorem q1057 : (Jvm.Cond.lays "java/lang/IndexOutOfBoundsException" "java/lang/Throwable" "cause" "Ljava/lang/Throwable;") ∈ lw_all := lw_g (lw_at lw_m4 232 rfl) rfl
theorem q1058 : (Jvm.Cond.lays "java/lang/IndexOutOfBoundsException" "java/lang/Throwable" "stackTrace" "[Ljava/lang/StackTraceElement;") ∈ lw_all := lw_g (lw_at lw_m4 233 rfl) rfl
theorem q1059 : (Jvm.Cond.lays "java/lang/IndexOutOfBoundsException" "java/lang/Throwable" "suppressedExceptions" "Ljava/util/List;") ∈ lw_all := lw_g (lw_at lw_m4 234 rfl) rfl
theorem q1060 : (Jvm.Cond.lays "java/lang/IndexOutOfBoundsException" "java/lang/Throwable" "detailMessage" "Ljava/lang/String;") ∈ lw_all := lw_g (lw_at lw_m4 235 rfl) rfl
theorem q1061 : (Jvm.Cond.lays "java/lang/IndexOutOfBoundsException" "java/lang/Throwable" "backtrace" "Ljava/lang/Object;") ∈ lw_all := lw_g (lw_at lw_m4 236 rfl) rfl
theorem q1063 : (Jvm.Cond.instanceMethod ({ cls := "java/lang/IndexOutOfBoundsException", name := "<init>", desc := "()V" } : Jvm.MethodName)) ∈ lw_all := lw_g (lw_at lw_m4 238 rfl) rfl
theorem q1064 : (Jvm.Cond.code ({ cls := "java/lang/IndexOutOfBoundsException", name := "<init>", desc := "()V" } : Jvm.MethodName) prog_20_method_1_code (1 : Nat) (Option.none : Option Jvm.ClassFile.FieldType)) ∈ lw_all := lw_g (lw_at lw_m4 239 rfl) rfl
theorem q1065 : (Jvm.Cond.methodLink "java/lang/IndexOutOfBoundsException" (1 : Nat) ({ cls := "java/lang/RuntimeException", name := "<init>", desc := "()V" } : Jvm.MethodName)) ∈ lw_all := lw_g (lw_at lw_m5 0 rfl) rfl
theorem q1066 : (Jvm.Cond.lays "java/lang/IndexOutOfBoundsException" "java/lang/Throwable" "depth" "I") ∈ lw_all := lw_g (lw_at lw_m5 1 rfl) rfl
theorem q1067 : (Jvm.Cond.superclass "java/lang/IndexOutOfBoundsException" "java/lang/RuntimeException") ∈ lw_all := lw_g (lw_at lw_m5 2 rfl) rfl
theorem q1652 : (Jvm.Cond.castable "java/lang/IndexOutOfBoundsException" "java/lang/Object") ∈ lw_tbl := lw_at lw_m7 107 rfl
theorem in_J10 : ∀ w ∈ wsJ100, w ∈ lw_all := lw_in wsJ100 [1057, 1058, 1059, 1060, 1061, 1066] (by decide +kernel) (by decide +kernel)

/-! java/lang/ArrayIndexOutOfBoundsException -/
set_option maxRecDepth 100000
def RJ11 : String := "java/lang/ArrayIndexOutOfBoundsException"
def TJ11 : u_T := fun k => match k with
  | 0 => ("java/lang/Throwable", "backtrace", "Ljava/lang/Object;", false)
  | 1 => ("java/lang/Throwable", "detailMessage", "Ljava/lang/String;", false)
  | 2 => ("java/lang/Throwable", "cause", "Ljava/lang/Throwable;", false)
  | 3 => ("java/lang/Throwable", "stackTrace", "[Ljava/lang/StackTraceElement;", false)
  | 4 => ("java/lang/Throwable", "depth", "I", false)
  | _ => ("java/lang/Throwable", "suppressedExceptions", "Ljava/util/List;", false)
def tyJ11 : Nat → FieldType := fun k => match k with
  | 0 => .object "java/lang/Object"
  | 1 => .object "java/lang/String"
  | 2 => .object "java/lang/Throwable"
  | 3 => .array (.object "java/lang/StackTraceElement")
  | 4 => .int
  | _ => .object "java/util/List"
abbrev wsJ110 : List Cond := u_ws RJ11 TJ11 6
theorem nmJ11 : ∀ a, a < 6 → ∀ b, b < 6 → a ≠ b → (TJ11 a).2.1 ≠ (TJ11 b).2.1 := by decide +kernel
theorem tyJ11_ok : ∀ k, k < 6 → parseFieldDescriptor (TJ11 k).2.2.1 = some (tyJ11 k) := by decide +kernel
abbrev cJ11_init : ByteArray := prog_15_method_2_code
def yJ11_init : MethodName := ⟨RJ11, "<init>", "(Ljava/lang/String;)V"⟩
def dkwJ11_init_0 : List UInt8 := [42, 43, 183, 0, 7, 177]
abbrev dktJ11_init_0 : List UInt8 := dkwJ11_init_0 ++ []
theorem dksJ11_init_0 : cJ11_init.data.toList.drop 0 = dktJ11_init_0 := by decide +kernel
theorem dJ11_init_0 : decode cJ11_init 0 = .ok (.aload_n 0, 1) := dk_42 (dk_at dksJ11_init_0 0 rfl rfl)
theorem dJ11_init_1 : decode cJ11_init 1 = .ok (.aload_n 1, 1) := dk_43 (dk_at dksJ11_init_0 1 rfl rfl)
theorem dJ11_init_2 : decode cJ11_init 2 = .ok (.invokespecial 7, 3) := dk_183 0 7 (dk_at dksJ11_init_0 2 rfl rfl)
theorem dJ11_init_5 : decode cJ11_init 5 = .ok (.return_, 1) := dk_177 (dk_at dksJ11_init_0 5 rfl rfl)
theorem q130 : (Jvm.Cond.initialized "java/lang/ArrayIndexOutOfBoundsException") ∈ lw_all := lw_g (lw_at lw_m1 25 rfl) rfl
theorem q946 : (Jvm.Cond.selects "java/lang/ArrayIndexOutOfBoundsException" ({ cls := "java/lang/Throwable", name := "fillInStackTrace", desc := "()Ljava/lang/Throwable;" } : Jvm.MethodName) ({ cls := "java/lang/Throwable", name := "fillInStackTrace", desc := "()Ljava/lang/Throwable;" } : Jvm.MethodName)) ∈ lw_all := lw_g (lw_at lw_m4 121 rfl) rfl
theorem q1014 : (Jvm.Cond.instantiable "java/lang/ArrayIndexOutOfBoundsException" (6 : Nat)) ∈ lw_all := lw_g (lw_at lw_m4 189 rfl) rfl
theorem q1015 : (Jvm.Cond.instanceMethod ({ cls := "java/lang/ArrayIndexOutOfBoundsException", name := "<init>", desc := "(Ljava/lang/String;)V" } : Jvm.MethodName)) ∈ lw_all := lw_g (lw_at lw_m4 190 rfl) rfl
theorem q1016 : (Jvm.Cond.code ({ cls := "java/lang/ArrayIndexOutOfBoundsException", name := "<init>", desc := "(Ljava/lang/String;)V" } : Jvm.MethodName) prog_15_method_2_code (2 : Nat) (Option.none : Option Jvm.ClassFile.FieldType)) ∈ lw_all := lw_g (lw_at lw_m4 191 rfl) rfl
theorem q1017 : (Jvm.Cond.methodLink "java/lang/ArrayIndexOutOfBoundsException" (7 : Nat) ({ cls := "java/lang/IndexOutOfBoundsException", name := "<init>", desc := "(Ljava/lang/String;)V" } : Jvm.MethodName)) ∈ lw_all := lw_g (lw_at lw_m4 192 rfl) rfl
theorem q1029 : (Jvm.Cond.lays "java/lang/ArrayIndexOutOfBoundsException" "java/lang/Throwable" "backtrace" "Ljava/lang/Object;") ∈ lw_all := lw_g (lw_at lw_m4 204 rfl) rfl
theorem q1030 : (Jvm.Cond.lays "java/lang/ArrayIndexOutOfBoundsException" "java/lang/Throwable" "detailMessage" "Ljava/lang/String;") ∈ lw_all := lw_g (lw_at lw_m4 205 rfl) rfl
theorem q1031 : (Jvm.Cond.lays "java/lang/ArrayIndexOutOfBoundsException" "java/lang/Throwable" "cause" "Ljava/lang/Throwable;") ∈ lw_all := lw_g (lw_at lw_m4 206 rfl) rfl
theorem q1032 : (Jvm.Cond.lays "java/lang/ArrayIndexOutOfBoundsException" "java/lang/Throwable" "stackTrace" "[Ljava/lang/StackTraceElement;") ∈ lw_all := lw_g (lw_at lw_m4 207 rfl) rfl
theorem q1033 : (Jvm.Cond.lays "java/lang/ArrayIndexOutOfBoundsException" "java/lang/Throwable" "depth" "I") ∈ lw_all := lw_g (lw_at lw_m4 208 rfl) rfl
theorem q1034 : (Jvm.Cond.lays "java/lang/ArrayIndexOutOfBoundsException" "java/lang/Throwable" "suppressedExceptions" "Ljava/util/List;") ∈ lw_all := lw_g (lw_at lw_m4 209 rfl) rfl
theorem q1035 : (Jvm.Cond.superclass "java/lang/ArrayIndexOutOfBoundsException" "java/lang/IndexOutOfBoundsException") ∈ lw_all := lw_g (lw_at lw_m4 210 rfl) rfl
theorem q1036 : (Jvm.Cond.castable "java/lang/ArrayIndexOutOfBoundsException" "java/lang/ArrayIndexOutOfBoundsException") ∈ lw_tbl := lw_at lw_m4 211 rfl
theorem q1039 : (Jvm.Cond.selects "java/lang/ArrayIndexOutOfBoundsException" ({ cls := "java/lang/Throwable", name := "fillInStackTrace", desc := "(I)Ljava/lang/Throwable;" } : Jvm.MethodName) ({ cls := "java/lang/Throwable", name := "fillInStackTrace", desc := "(I)Ljava/lang/Throwable;" } : Jvm.MethodName)) ∈ lw_all := lw_g (lw_at lw_m4 214 rfl) rfl
theorem q1637 : (Jvm.Cond.castable "java/lang/ArrayIndexOutOfBoundsException" "java/lang/IndexOutOfBoundsException") ∈ lw_tbl := lw_at lw_m7 92 rfl
theorem q1651 : (Jvm.Cond.castable "java/lang/ArrayIndexOutOfBoundsException" "java/lang/Object") ∈ lw_tbl := lw_at lw_m7 106 rfl
theorem in_J11 : ∀ w ∈ wsJ110, w ∈ lw_all := lw_in wsJ110 [1029, 1030, 1031, 1032, 1033, 1034] (by decide +kernel) (by decide +kernel)

/-! java/lang/Object -/
set_option maxRecDepth 100000
def RJ12 : String := "java/lang/Object"
abbrev cJ12_init : ByteArray := object_method_1_code
def yJ12_init : MethodName := ⟨RJ12, "<init>", "()V"⟩
theorem dJ12_init_0 : decode cJ12_init 0 = .ok (.return_, 1) := by decide +kernel
theorem q137 : (Jvm.Cond.instanceMethod ({ cls := "java/lang/Object", name := "<init>", desc := "()V" } : Jvm.MethodName)) ∈ lw_all := lw_g (lw_at lw_m1 32 rfl) rfl
theorem q138 : (Jvm.Cond.code ({ cls := "java/lang/Object", name := "<init>", desc := "()V" } : Jvm.MethodName) object_method_1_code (1 : Nat) (Option.none : Option Jvm.ClassFile.FieldType)) ∈ lw_all := lw_g (lw_at lw_m1 33 rfl) rfl

/-! jdk/internal/util/Preconditions -/
set_option maxRecDepth 100000
def RJ2 : String := "jdk/internal/util/Preconditions"
abbrev cJ2_checkIndex : ByteArray := prog_31_method_11_code
def yJ2_checkIndex : MethodName := ⟨RJ2, "checkIndex", "(IILjava/util/function/BiFunction;)I"⟩
def dkwJ2_checkIndex_0 : List UInt8 := [26, 155, 0, 8, 26, 27, 161, 0, 10, 44, 26, 27, 184, 0, 95, 191, 26, 172]
abbrev dktJ2_checkIndex_0 : List UInt8 := dkwJ2_checkIndex_0 ++ []
theorem dksJ2_checkIndex_0 : cJ2_checkIndex.data.toList.drop 0 = dktJ2_checkIndex_0 := by decide +kernel
theorem dJ2_checkIndex_0 : decode cJ2_checkIndex 0 = .ok (.iload_n 0, 1) := dk_26 (dk_at dksJ2_checkIndex_0 0 rfl rfl)
theorem dJ2_checkIndex_1 : decode cJ2_checkIndex 1 = .ok (.ifCond .lt 8, 3) := dk_155 0 8 (dk_at dksJ2_checkIndex_0 1 rfl rfl)
theorem dJ2_checkIndex_4 : decode cJ2_checkIndex 4 = .ok (.iload_n 0, 1) := dk_26 (dk_at dksJ2_checkIndex_0 4 rfl rfl)
theorem dJ2_checkIndex_5 : decode cJ2_checkIndex 5 = .ok (.iload_n 1, 1) := dk_27 (dk_at dksJ2_checkIndex_0 5 rfl rfl)
theorem dJ2_checkIndex_6 : decode cJ2_checkIndex 6 = .ok (.if_icmp .lt 10, 3) := dk_161 0 10 (dk_at dksJ2_checkIndex_0 6 rfl rfl)
theorem dJ2_checkIndex_9 : decode cJ2_checkIndex 9 = .ok (.aload_n 2, 1) := dk_44 (dk_at dksJ2_checkIndex_0 9 rfl rfl)
theorem dJ2_checkIndex_10 : decode cJ2_checkIndex 10 = .ok (.iload_n 0, 1) := dk_26 (dk_at dksJ2_checkIndex_0 10 rfl rfl)
theorem dJ2_checkIndex_11 : decode cJ2_checkIndex 11 = .ok (.iload_n 1, 1) := dk_27 (dk_at dksJ2_checkIndex_0 11 rfl rfl)
theorem dJ2_checkIndex_12 : decode cJ2_checkIndex 12 = .ok (.invokestatic 95, 3) := dk_184 0 95 (dk_at dksJ2_checkIndex_0 12 rfl rfl)
theorem dJ2_checkIndex_15 : decode cJ2_checkIndex 15 = .ok (.athrow, 1) := dk_191 (dk_at dksJ2_checkIndex_0 15 rfl rfl)
theorem dJ2_checkIndex_16 : decode cJ2_checkIndex 16 = .ok (.iload_n 0, 1) := dk_26 (dk_at dksJ2_checkIndex_0 16 rfl rfl)
theorem dJ2_checkIndex_17 : decode cJ2_checkIndex 17 = .ok (.ireturn, 1) := dk_172 (dk_at dksJ2_checkIndex_0 17 rfl rfl)
theorem q121 : (Jvm.Cond.initialized "jdk/internal/util/Preconditions") ∈ lw_all := lw_g (lw_at lw_m1 16 rfl) rfl
theorem q1157 : (Jvm.Cond.laysStatic "jdk/internal/util/Preconditions" "SIOOBE_FORMATTER" "Ljava/util/function/BiFunction;") ∈ lw_tbl := lw_at lw_m5 92 rfl
theorem q1159 : (Jvm.Cond.static ({ cls := "jdk/internal/util/Preconditions", name := "checkIndex", desc := "(IILjava/util/function/BiFunction;)I" } : Jvm.MethodName)) ∈ lw_all := lw_g (lw_at lw_m5 94 rfl) rfl
theorem q1160 : (Jvm.Cond.code ({ cls := "jdk/internal/util/Preconditions", name := "checkIndex", desc := "(IILjava/util/function/BiFunction;)I" } : Jvm.MethodName) prog_31_method_11_code (3 : Nat) (Option.some Jvm.ClassFile.FieldType.int)) ∈ lw_all := lw_g (lw_at lw_m5 95 rfl) rfl

/-! java/lang/StringUTF16 -/
set_option maxRecDepth 100000
def RJ3 : String := "java/lang/StringUTF16"
abbrev cJ3_charAt : ByteArray := prog_25_method_83_code
def yJ3_charAt : MethodName := ⟨RJ3, "charAt", "([BI)C"⟩
def dkwJ3_charAt_0 : List UInt8 := [27, 42, 184, 0, 67, 42, 27, 184, 0, 71, 172]
abbrev dktJ3_charAt_0 : List UInt8 := dkwJ3_charAt_0 ++ []
theorem dksJ3_charAt_0 : cJ3_charAt.data.toList.drop 0 = dktJ3_charAt_0 := by decide +kernel
theorem dJ3_charAt_0 : decode cJ3_charAt 0 = .ok (.iload_n 1, 1) := dk_27 (dk_at dksJ3_charAt_0 0 rfl rfl)
theorem dJ3_charAt_1 : decode cJ3_charAt 1 = .ok (.aload_n 0, 1) := dk_42 (dk_at dksJ3_charAt_0 1 rfl rfl)
theorem dJ3_charAt_2 : decode cJ3_charAt 2 = .ok (.invokestatic 67, 3) := dk_184 0 67 (dk_at dksJ3_charAt_0 2 rfl rfl)
theorem dJ3_charAt_5 : decode cJ3_charAt 5 = .ok (.aload_n 0, 1) := dk_42 (dk_at dksJ3_charAt_0 5 rfl rfl)
theorem dJ3_charAt_6 : decode cJ3_charAt 6 = .ok (.iload_n 1, 1) := dk_27 (dk_at dksJ3_charAt_0 6 rfl rfl)
theorem dJ3_charAt_7 : decode cJ3_charAt 7 = .ok (.invokestatic 71, 3) := dk_184 0 71 (dk_at dksJ3_charAt_0 7 rfl rfl)
theorem dJ3_charAt_10 : decode cJ3_charAt 10 = .ok (.ireturn, 1) := dk_172 (dk_at dksJ3_charAt_0 10 rfl rfl)
abbrev cJ3_checkIndex : ByteArray := prog_25_method_91_code
def yJ3_checkIndex : MethodName := ⟨RJ3, "checkIndex", "(I[B)V"⟩
def dkwJ3_checkIndex_0 : List UInt8 := [26, 43, 184, 0, 48, 184, 1, 158, 177]
abbrev dktJ3_checkIndex_0 : List UInt8 := dkwJ3_checkIndex_0 ++ []
theorem dksJ3_checkIndex_0 : cJ3_checkIndex.data.toList.drop 0 = dktJ3_checkIndex_0 := by decide +kernel
theorem dJ3_checkIndex_0 : decode cJ3_checkIndex 0 = .ok (.iload_n 0, 1) := dk_26 (dk_at dksJ3_checkIndex_0 0 rfl rfl)
theorem dJ3_checkIndex_1 : decode cJ3_checkIndex 1 = .ok (.aload_n 1, 1) := dk_43 (dk_at dksJ3_checkIndex_0 1 rfl rfl)
theorem dJ3_checkIndex_2 : decode cJ3_checkIndex 2 = .ok (.invokestatic 48, 3) := dk_184 0 48 (dk_at dksJ3_checkIndex_0 2 rfl rfl)
theorem dJ3_checkIndex_5 : decode cJ3_checkIndex 5 = .ok (.invokestatic 414, 3) := dk_184 1 158 (dk_at dksJ3_checkIndex_0 5 rfl rfl)
theorem dJ3_checkIndex_8 : decode cJ3_checkIndex 8 = .ok (.return_, 1) := dk_177 (dk_at dksJ3_checkIndex_0 8 rfl rfl)
abbrev cJ3_length : ByteArray := prog_25_method_6_code
def yJ3_length : MethodName := ⟨RJ3, "length", "([B)I"⟩
def dkwJ3_length_0 : List UInt8 := [42, 190, 4, 122, 172]
abbrev dktJ3_length_0 : List UInt8 := dkwJ3_length_0 ++ []
theorem dksJ3_length_0 : cJ3_length.data.toList.drop 0 = dktJ3_length_0 := by decide +kernel
theorem dJ3_length_0 : decode cJ3_length 0 = .ok (.aload_n 0, 1) := dk_42 (dk_at dksJ3_length_0 0 rfl rfl)
theorem dJ3_length_1 : decode cJ3_length 1 = .ok (.arraylength, 1) := dk_190 (dk_at dksJ3_length_0 1 rfl rfl)
theorem dJ3_length_2 : decode cJ3_length 2 = .ok (.iconst 1, 1) := dk_4 (dk_at dksJ3_length_0 2 rfl rfl)
theorem dJ3_length_3 : decode cJ3_length 3 = .ok (.ishr, 1) := dk_122 (dk_at dksJ3_length_0 3 rfl rfl)
theorem dJ3_length_4 : decode cJ3_length 4 = .ok (.ireturn, 1) := dk_172 (dk_at dksJ3_length_0 4 rfl rfl)
abbrev cJ3_getChar : ByteArray := prog_25_method_5_code
def yJ3_getChar : MethodName := ⟨RJ3, "getChar", "([BI)C"⟩
def dkwJ3_getChar_2 : List UInt8 := [51, 17, 0, 255, 126, 178, 0, 63, 120, 128, 146, 172]
abbrev dktJ3_getChar_2 : List UInt8 := dkwJ3_getChar_2 ++ []
def dkwJ3_getChar_1 : List UInt8 := [183, 0, 56, 191, 27, 4, 120, 60, 42, 27, 132, 1, 1, 51, 17, 0, 255, 126, 178, 0, 59, 120, 42, 27]
abbrev dktJ3_getChar_1 : List UInt8 := dkwJ3_getChar_1 ++ dktJ3_getChar_2
def dkwJ3_getChar_0 : List UInt8 := [178, 0, 44, 154, 0, 25, 27, 155, 0, 11, 27, 42, 184, 0, 48, 161, 0, 13, 187, 0, 52, 89, 18, 54]
abbrev dktJ3_getChar_0 : List UInt8 := dkwJ3_getChar_0 ++ dktJ3_getChar_1
theorem dksJ3_getChar_0 : cJ3_getChar.data.toList.drop 0 = dktJ3_getChar_0 := by decide +kernel
theorem dksJ3_getChar_1 : cJ3_getChar.data.toList.drop 24 = dktJ3_getChar_1 := dk_seg dksJ3_getChar_0 24 rfl rfl
theorem dksJ3_getChar_2 : cJ3_getChar.data.toList.drop 48 = dktJ3_getChar_2 := dk_seg dksJ3_getChar_1 24 rfl rfl
theorem dJ3_getChar_0 : decode cJ3_getChar 0 = .ok (.getstatic 44, 3) := dk_178 0 44 (dk_at dksJ3_getChar_0 0 rfl rfl)
theorem dJ3_getChar_3 : decode cJ3_getChar 3 = .ok (.ifCond .ne 25, 3) := dk_154 0 25 (dk_at dksJ3_getChar_0 3 rfl rfl)
theorem dJ3_getChar_6 : decode cJ3_getChar 6 = .ok (.iload_n 1, 1) := dk_27 (dk_at dksJ3_getChar_0 6 rfl rfl)
theorem dJ3_getChar_7 : decode cJ3_getChar 7 = .ok (.ifCond .lt 11, 3) := dk_155 0 11 (dk_at dksJ3_getChar_0 7 rfl rfl)
theorem dJ3_getChar_10 : decode cJ3_getChar 10 = .ok (.iload_n 1, 1) := dk_27 (dk_at dksJ3_getChar_0 10 rfl rfl)
theorem dJ3_getChar_11 : decode cJ3_getChar 11 = .ok (.aload_n 0, 1) := dk_42 (dk_at dksJ3_getChar_0 11 rfl rfl)
theorem dJ3_getChar_12 : decode cJ3_getChar 12 = .ok (.invokestatic 48, 3) := dk_184 0 48 (dk_at dksJ3_getChar_0 12 rfl rfl)
theorem dJ3_getChar_15 : decode cJ3_getChar 15 = .ok (.if_icmp .lt 13, 3) := dk_161 0 13 (dk_at dksJ3_getChar_0 15 rfl rfl)
theorem dJ3_getChar_18 : decode cJ3_getChar 18 = .ok (.new 52, 3) := dk_187 0 52 (dk_at dksJ3_getChar_0 18 rfl rfl)
theorem dJ3_getChar_21 : decode cJ3_getChar 21 = .ok (.dup, 1) := dk_89 (dk_at dksJ3_getChar_0 21 rfl rfl)
theorem dJ3_getChar_22 : decode cJ3_getChar 22 = .ok (.ldc 54, 2) := dk_18 54 (dk_at dksJ3_getChar_0 22 rfl rfl)
theorem dJ3_getChar_24 : decode cJ3_getChar 24 = .ok (.invokespecial 56, 3) := dk_183 0 56 (dk_at dksJ3_getChar_1 0 rfl rfl)
theorem dJ3_getChar_27 : decode cJ3_getChar 27 = .ok (.athrow, 1) := dk_191 (dk_at dksJ3_getChar_1 3 rfl rfl)
theorem dJ3_getChar_28 : decode cJ3_getChar 28 = .ok (.iload_n 1, 1) := dk_27 (dk_at dksJ3_getChar_1 4 rfl rfl)
theorem dJ3_getChar_29 : decode cJ3_getChar 29 = .ok (.iconst 1, 1) := dk_4 (dk_at dksJ3_getChar_1 5 rfl rfl)
theorem dJ3_getChar_30 : decode cJ3_getChar 30 = .ok (.ishl, 1) := dk_120 (dk_at dksJ3_getChar_1 6 rfl rfl)
theorem dJ3_getChar_31 : decode cJ3_getChar 31 = .ok (.istore_n 1, 1) := dk_60 (dk_at dksJ3_getChar_1 7 rfl rfl)
theorem dJ3_getChar_32 : decode cJ3_getChar 32 = .ok (.aload_n 0, 1) := dk_42 (dk_at dksJ3_getChar_1 8 rfl rfl)
theorem dJ3_getChar_33 : decode cJ3_getChar 33 = .ok (.iload_n 1, 1) := dk_27 (dk_at dksJ3_getChar_1 9 rfl rfl)
theorem dJ3_getChar_34 : decode cJ3_getChar 34 = .ok (.iinc 1 1, 3) := dk_132 1 1 (dk_at dksJ3_getChar_1 10 rfl rfl)
theorem dJ3_getChar_37 : decode cJ3_getChar 37 = .ok (.baload, 1) := dk_51 (dk_at dksJ3_getChar_1 13 rfl rfl)
theorem dJ3_getChar_38 : decode cJ3_getChar 38 = .ok (.sipush 255, 3) := dk_17 0 255 (dk_at dksJ3_getChar_1 14 rfl rfl)
theorem dJ3_getChar_41 : decode cJ3_getChar 41 = .ok (.iand, 1) := dk_126 (dk_at dksJ3_getChar_1 17 rfl rfl)
theorem dJ3_getChar_42 : decode cJ3_getChar 42 = .ok (.getstatic 59, 3) := dk_178 0 59 (dk_at dksJ3_getChar_1 18 rfl rfl)
theorem dJ3_getChar_45 : decode cJ3_getChar 45 = .ok (.ishl, 1) := dk_120 (dk_at dksJ3_getChar_1 21 rfl rfl)
theorem dJ3_getChar_46 : decode cJ3_getChar 46 = .ok (.aload_n 0, 1) := dk_42 (dk_at dksJ3_getChar_1 22 rfl rfl)
theorem dJ3_getChar_47 : decode cJ3_getChar 47 = .ok (.iload_n 1, 1) := dk_27 (dk_at dksJ3_getChar_1 23 rfl rfl)
theorem dJ3_getChar_48 : decode cJ3_getChar 48 = .ok (.baload, 1) := dk_51 (dk_at dksJ3_getChar_2 0 rfl rfl)
theorem dJ3_getChar_49 : decode cJ3_getChar 49 = .ok (.sipush 255, 3) := dk_17 0 255 (dk_at dksJ3_getChar_2 1 rfl rfl)
theorem dJ3_getChar_52 : decode cJ3_getChar 52 = .ok (.iand, 1) := dk_126 (dk_at dksJ3_getChar_2 4 rfl rfl)
theorem dJ3_getChar_53 : decode cJ3_getChar 53 = .ok (.getstatic 63, 3) := dk_178 0 63 (dk_at dksJ3_getChar_2 5 rfl rfl)
theorem dJ3_getChar_56 : decode cJ3_getChar 56 = .ok (.ishl, 1) := dk_120 (dk_at dksJ3_getChar_2 8 rfl rfl)
theorem dJ3_getChar_57 : decode cJ3_getChar 57 = .ok (.ior, 1) := dk_128 (dk_at dksJ3_getChar_2 9 rfl rfl)
theorem dJ3_getChar_58 : decode cJ3_getChar 58 = .ok (.i2c, 1) := dk_146 (dk_at dksJ3_getChar_2 10 rfl rfl)
theorem dJ3_getChar_59 : decode cJ3_getChar 59 = .ok (.ireturn, 1) := dk_172 (dk_at dksJ3_getChar_2 11 rfl rfl)
theorem q122 : (Jvm.Cond.initialized "java/lang/StringUTF16") ∈ lw_all := lw_g (lw_at lw_m1 17 rfl) rfl
theorem q1162 : (Jvm.Cond.static ({ cls := "java/lang/StringUTF16", name := "charAt", desc := "([BI)C" } : Jvm.MethodName)) ∈ lw_all := lw_g (lw_at lw_m5 97 rfl) rfl
theorem q1163 : (Jvm.Cond.code ({ cls := "java/lang/StringUTF16", name := "charAt", desc := "([BI)C" } : Jvm.MethodName) prog_25_method_83_code (2 : Nat) (Option.some Jvm.ClassFile.FieldType.char)) ∈ lw_all := lw_g (lw_at lw_m5 98 rfl) rfl
theorem q1164 : (Jvm.Cond.methodLink "java/lang/StringUTF16" (67 : Nat) ({ cls := "java/lang/StringUTF16", name := "checkIndex", desc := "(I[B)V" } : Jvm.MethodName)) ∈ lw_all := lw_g (lw_at lw_m5 99 rfl) rfl
theorem q1165 : (Jvm.Cond.static ({ cls := "java/lang/StringUTF16", name := "checkIndex", desc := "(I[B)V" } : Jvm.MethodName)) ∈ lw_all := lw_g (lw_at lw_m5 100 rfl) rfl
theorem q1166 : (Jvm.Cond.code ({ cls := "java/lang/StringUTF16", name := "checkIndex", desc := "(I[B)V" } : Jvm.MethodName) prog_25_method_91_code (2 : Nat) (Option.none : Option Jvm.ClassFile.FieldType)) ∈ lw_all := lw_g (lw_at lw_m5 101 rfl) rfl
theorem q1167 : (Jvm.Cond.methodLink "java/lang/StringUTF16" (48 : Nat) ({ cls := "java/lang/StringUTF16", name := "length", desc := "([B)I" } : Jvm.MethodName)) ∈ lw_all := lw_g (lw_at lw_m5 102 rfl) rfl
theorem q1168 : (Jvm.Cond.static ({ cls := "java/lang/StringUTF16", name := "length", desc := "([B)I" } : Jvm.MethodName)) ∈ lw_all := lw_g (lw_at lw_m5 103 rfl) rfl
theorem q1169 : (Jvm.Cond.code ({ cls := "java/lang/StringUTF16", name := "length", desc := "([B)I" } : Jvm.MethodName) prog_25_method_6_code (1 : Nat) (Option.some Jvm.ClassFile.FieldType.int)) ∈ lw_all := lw_g (lw_at lw_m5 104 rfl) rfl
theorem q1170 : (Jvm.Cond.methodLink "java/lang/StringUTF16" (414 : Nat) ({ cls := "java/lang/String", name := "checkIndex", desc := "(II)V" } : Jvm.MethodName)) ∈ lw_all := lw_g (lw_at lw_m5 105 rfl) rfl
theorem q1171 : (Jvm.Cond.methodLink "java/lang/StringUTF16" (71 : Nat) ({ cls := "java/lang/StringUTF16", name := "getChar", desc := "([BI)C" } : Jvm.MethodName)) ∈ lw_all := lw_g (lw_at lw_m5 106 rfl) rfl
theorem q1172 : (Jvm.Cond.static ({ cls := "java/lang/StringUTF16", name := "getChar", desc := "([BI)C" } : Jvm.MethodName)) ∈ lw_all := lw_g (lw_at lw_m5 107 rfl) rfl
theorem q1173 : (Jvm.Cond.code ({ cls := "java/lang/StringUTF16", name := "getChar", desc := "([BI)C" } : Jvm.MethodName) prog_25_method_5_code (2 : Nat) (Option.some Jvm.ClassFile.FieldType.char)) ∈ lw_all := lw_g (lw_at lw_m5 108 rfl) rfl
theorem q1174 : (Jvm.Cond.fieldLink "java/lang/StringUTF16" (44 : Nat) "java/lang/StringUTF16" "$assertionsDisabled" "Z") ∈ lw_all := lw_g (lw_at lw_m5 109 rfl) rfl
theorem q1175 : (Jvm.Cond.laysStatic "java/lang/StringUTF16" "$assertionsDisabled" "Z") ∈ lw_tbl := lw_at lw_m5 110 rfl
theorem q1176 : (Jvm.Cond.fieldLink "java/lang/StringUTF16" (59 : Nat) "java/lang/StringUTF16" "HI_BYTE_SHIFT" "I") ∈ lw_all := lw_g (lw_at lw_m5 111 rfl) rfl
theorem q1177 : (Jvm.Cond.laysStatic "java/lang/StringUTF16" "HI_BYTE_SHIFT" "I") ∈ lw_tbl := lw_at lw_m5 112 rfl
theorem q1178 : (Jvm.Cond.fieldLink "java/lang/StringUTF16" (63 : Nat) "java/lang/StringUTF16" "LO_BYTE_SHIFT" "I") ∈ lw_all := lw_g (lw_at lw_m5 113 rfl) rfl
theorem q1179 : (Jvm.Cond.laysStatic "java/lang/StringUTF16" "LO_BYTE_SHIFT" "I") ∈ lw_tbl := lw_at lw_m5 114 rfl

/-! java/lang/Math -/
set_option maxRecDepth 100000
def RJ4 : String := "java/lang/Math"
abbrev cJ4_min : ByteArray := prog_21_method_69_code
def yJ4_min : MethodName := ⟨RJ4, "min", "(II)I"⟩
def dkwJ4_min_0 : List UInt8 := [26, 27, 163, 0, 7, 26, 167, 0, 4, 27, 172]
abbrev dktJ4_min_0 : List UInt8 := dkwJ4_min_0 ++ []
theorem dksJ4_min_0 : cJ4_min.data.toList.drop 0 = dktJ4_min_0 := by decide +kernel
theorem dJ4_min_0 : decode cJ4_min 0 = .ok (.iload_n 0, 1) := dk_26 (dk_at dksJ4_min_0 0 rfl rfl)
theorem dJ4_min_1 : decode cJ4_min 1 = .ok (.iload_n 1, 1) := dk_27 (dk_at dksJ4_min_0 1 rfl rfl)
theorem dJ4_min_2 : decode cJ4_min 2 = .ok (.if_icmp .gt 7, 3) := dk_163 0 7 (dk_at dksJ4_min_0 2 rfl rfl)
theorem dJ4_min_5 : decode cJ4_min 5 = .ok (.iload_n 0, 1) := dk_26 (dk_at dksJ4_min_0 5 rfl rfl)
theorem dJ4_min_6 : decode cJ4_min 6 = .ok (.goto 4, 3) := dk_167 0 4 (dk_at dksJ4_min_0 6 rfl rfl)
theorem dJ4_min_9 : decode cJ4_min 9 = .ok (.iload_n 1, 1) := dk_27 (dk_at dksJ4_min_0 9 rfl rfl)
theorem dJ4_min_10 : decode cJ4_min 10 = .ok (.ireturn, 1) := dk_172 (dk_at dksJ4_min_0 10 rfl rfl)
theorem q123 : (Jvm.Cond.initialized "java/lang/Math") ∈ lw_all := lw_g (lw_at lw_m1 18 rfl) rfl
theorem q871 : (Jvm.Cond.static ({ cls := "java/lang/Math", name := "min", desc := "(II)I" } : Jvm.MethodName)) ∈ lw_all := lw_g (lw_at lw_m4 46 rfl) rfl
theorem q872 : (Jvm.Cond.code ({ cls := "java/lang/Math", name := "min", desc := "(II)I" } : Jvm.MethodName) prog_21_method_69_code (2 : Nat) (Option.some Jvm.ClassFile.FieldType.int)) ∈ lw_all := lw_g (lw_at lw_m4 47 rfl) rfl

/-! java/lang/Throwable -/
set_option maxRecDepth 100000
def RJ5 : String := "java/lang/Throwable"
def TJ5 : u_T := fun k => match k with
  | 0 => ("java/lang/Throwable", "cause", "Ljava/lang/Throwable;", false)
  | 1 => ("java/lang/Throwable", "stackTrace", "[Ljava/lang/StackTraceElement;", false)
  | 2 => ("java/lang/Throwable", "suppressedExceptions", "Ljava/util/List;", false)
  | 3 => ("java/lang/Throwable", "detailMessage", "Ljava/lang/String;", false)
  | _ => ("java/lang/Throwable", "backtrace", "Ljava/lang/Object;", false)
def tyJ5 : Nat → FieldType := fun k => match k with
  | 0 => .object "java/lang/Throwable"
  | 1 => .array (.object "java/lang/StackTraceElement")
  | 2 => .object "java/util/List"
  | 3 => .object "java/lang/String"
  | _ => .object "java/lang/Object"
abbrev wsJ50 : List Cond := u_ws RJ5 TJ5 5
theorem nmJ5 : ∀ a, a < 5 → ∀ b, b < 5 → a ≠ b → (TJ5 a).2.1 ≠ (TJ5 b).2.1 := by decide +kernel
theorem tyJ5_ok : ∀ k, k < 5 → parseFieldDescriptor (TJ5 k).2.2.1 = some (tyJ5 k) := by decide +kernel
abbrev cJ5_init : ByteArray := prog_27_method_1_code
def yJ5_init : MethodName := ⟨RJ5, "<init>", "()V"⟩
def dkwJ5_init_1 : List UInt8 := [182, 0, 27, 87, 177]
abbrev dktJ5_init_1 : List UInt8 := dkwJ5_init_1 ++ []
def dkwJ5_init_0 : List UInt8 := [42, 183, 0, 1, 42, 42, 181, 0, 7, 42, 178, 0, 13, 181, 0, 17, 42, 178, 0, 20, 181, 0, 24, 42]
abbrev dktJ5_init_0 : List UInt8 := dkwJ5_init_0 ++ dktJ5_init_1
theorem dksJ5_init_0 : cJ5_init.data.toList.drop 0 = dktJ5_init_0 := by decide +kernel
theorem dksJ5_init_1 : cJ5_init.data.toList.drop 24 = dktJ5_init_1 := dk_seg dksJ5_init_0 24 rfl rfl
theorem dJ5_init_0 : decode cJ5_init 0 = .ok (.aload_n 0, 1) := dk_42 (dk_at dksJ5_init_0 0 rfl rfl)
theorem dJ5_init_1 : decode cJ5_init 1 = .ok (.invokespecial 1, 3) := dk_183 0 1 (dk_at dksJ5_init_0 1 rfl rfl)
theorem dJ5_init_4 : decode cJ5_init 4 = .ok (.aload_n 0, 1) := dk_42 (dk_at dksJ5_init_0 4 rfl rfl)
theorem dJ5_init_5 : decode cJ5_init 5 = .ok (.aload_n 0, 1) := dk_42 (dk_at dksJ5_init_0 5 rfl rfl)
theorem dJ5_init_6 : decode cJ5_init 6 = .ok (.putfield 7, 3) := dk_181 0 7 (dk_at dksJ5_init_0 6 rfl rfl)
theorem dJ5_init_9 : decode cJ5_init 9 = .ok (.aload_n 0, 1) := dk_42 (dk_at dksJ5_init_0 9 rfl rfl)
theorem dJ5_init_10 : decode cJ5_init 10 = .ok (.getstatic 13, 3) := dk_178 0 13 (dk_at dksJ5_init_0 10 rfl rfl)
theorem dJ5_init_13 : decode cJ5_init 13 = .ok (.putfield 17, 3) := dk_181 0 17 (dk_at dksJ5_init_0 13 rfl rfl)
theorem dJ5_init_16 : decode cJ5_init 16 = .ok (.aload_n 0, 1) := dk_42 (dk_at dksJ5_init_0 16 rfl rfl)
theorem dJ5_init_17 : decode cJ5_init 17 = .ok (.getstatic 20, 3) := dk_178 0 20 (dk_at dksJ5_init_0 17 rfl rfl)
theorem dJ5_init_20 : decode cJ5_init 20 = .ok (.putfield 24, 3) := dk_181 0 24 (dk_at dksJ5_init_0 20 rfl rfl)
theorem dJ5_init_23 : decode cJ5_init 23 = .ok (.aload_n 0, 1) := dk_42 (dk_at dksJ5_init_0 23 rfl rfl)
theorem dJ5_init_24 : decode cJ5_init 24 = .ok (.invokevirtual 27, 3) := dk_182 0 27 (dk_at dksJ5_init_1 0 rfl rfl)
theorem dJ5_init_27 : decode cJ5_init 27 = .ok (.pop, 1) := dk_87 (dk_at dksJ5_init_1 3 rfl rfl)
theorem dJ5_init_28 : decode cJ5_init 28 = .ok (.return_, 1) := dk_177 (dk_at dksJ5_init_1 4 rfl rfl)
abbrev cJ5_init_2 : ByteArray := prog_27_method_2_code
def yJ5_init_2 : MethodName := ⟨RJ5, "<init>", "(Ljava/lang/String;)V"⟩
def dkwJ5_init_2_1 : List UInt8 := [182, 0, 27, 87, 42, 43, 181, 0, 31, 177]
abbrev dktJ5_init_2_1 : List UInt8 := dkwJ5_init_2_1 ++ []
def dkwJ5_init_2_0 : List UInt8 := [42, 183, 0, 1, 42, 42, 181, 0, 7, 42, 178, 0, 13, 181, 0, 17, 42, 178, 0, 20, 181, 0, 24, 42]
abbrev dktJ5_init_2_0 : List UInt8 := dkwJ5_init_2_0 ++ dktJ5_init_2_1
theorem dksJ5_init_2_0 : cJ5_init_2.data.toList.drop 0 = dktJ5_init_2_0 := by decide +kernel
theorem dksJ5_init_2_1 : cJ5_init_2.data.toList.drop 24 = dktJ5_init_2_1 := dk_seg dksJ5_init_2_0 24 rfl rfl
theorem dJ5_init_2_0 : decode cJ5_init_2 0 = .ok (.aload_n 0, 1) := dk_42 (dk_at dksJ5_init_2_0 0 rfl rfl)
theorem dJ5_init_2_1 : decode cJ5_init_2 1 = .ok (.invokespecial 1, 3) := dk_183 0 1 (dk_at dksJ5_init_2_0 1 rfl rfl)
theorem dJ5_init_2_4 : decode cJ5_init_2 4 = .ok (.aload_n 0, 1) := dk_42 (dk_at dksJ5_init_2_0 4 rfl rfl)
theorem dJ5_init_2_5 : decode cJ5_init_2 5 = .ok (.aload_n 0, 1) := dk_42 (dk_at dksJ5_init_2_0 5 rfl rfl)
theorem dJ5_init_2_6 : decode cJ5_init_2 6 = .ok (.putfield 7, 3) := dk_181 0 7 (dk_at dksJ5_init_2_0 6 rfl rfl)
theorem dJ5_init_2_9 : decode cJ5_init_2 9 = .ok (.aload_n 0, 1) := dk_42 (dk_at dksJ5_init_2_0 9 rfl rfl)
theorem dJ5_init_2_10 : decode cJ5_init_2 10 = .ok (.getstatic 13, 3) := dk_178 0 13 (dk_at dksJ5_init_2_0 10 rfl rfl)
theorem dJ5_init_2_13 : decode cJ5_init_2 13 = .ok (.putfield 17, 3) := dk_181 0 17 (dk_at dksJ5_init_2_0 13 rfl rfl)
theorem dJ5_init_2_16 : decode cJ5_init_2 16 = .ok (.aload_n 0, 1) := dk_42 (dk_at dksJ5_init_2_0 16 rfl rfl)
theorem dJ5_init_2_17 : decode cJ5_init_2 17 = .ok (.getstatic 20, 3) := dk_178 0 20 (dk_at dksJ5_init_2_0 17 rfl rfl)
theorem dJ5_init_2_20 : decode cJ5_init_2 20 = .ok (.putfield 24, 3) := dk_181 0 24 (dk_at dksJ5_init_2_0 20 rfl rfl)
theorem dJ5_init_2_23 : decode cJ5_init_2 23 = .ok (.aload_n 0, 1) := dk_42 (dk_at dksJ5_init_2_0 23 rfl rfl)
theorem dJ5_init_2_24 : decode cJ5_init_2 24 = .ok (.invokevirtual 27, 3) := dk_182 0 27 (dk_at dksJ5_init_2_1 0 rfl rfl)
theorem dJ5_init_2_27 : decode cJ5_init_2 27 = .ok (.pop, 1) := dk_87 (dk_at dksJ5_init_2_1 3 rfl rfl)
theorem dJ5_init_2_28 : decode cJ5_init_2 28 = .ok (.aload_n 0, 1) := dk_42 (dk_at dksJ5_init_2_1 4 rfl rfl)
theorem dJ5_init_2_29 : decode cJ5_init_2 29 = .ok (.aload_n 1, 1) := dk_43 (dk_at dksJ5_init_2_1 5 rfl rfl)
theorem dJ5_init_2_30 : decode cJ5_init_2 30 = .ok (.putfield 31, 3) := dk_181 0 31 (dk_at dksJ5_init_2_1 6 rfl rfl)
theorem dJ5_init_2_33 : decode cJ5_init_2 33 = .ok (.return_, 1) := dk_177 (dk_at dksJ5_init_2_1 9 rfl rfl)
theorem q124 : (Jvm.Cond.initialized "java/lang/Throwable") ∈ lw_all := lw_g (lw_at lw_m1 19 rfl) rfl
theorem q920 : (Jvm.Cond.declares ({ cls := "java/lang/Throwable", name := "<init>", desc := "()V" } : Jvm.MethodName)) ∈ lw_tbl := lw_at lw_m4 95 rfl
theorem q921 : (Jvm.Cond.declares ({ cls := "java/lang/Throwable", name := "<init>", desc := "(Ljava/lang/String;)V" } : Jvm.MethodName)) ∈ lw_tbl := lw_at lw_m4 96 rfl
theorem q925 : (Jvm.Cond.lays "java/lang/Throwable" "java/lang/Throwable" "cause" "Ljava/lang/Throwable;") ∈ lw_all := lw_g (lw_at lw_m4 100 rfl) rfl
theorem q927 : (Jvm.Cond.lays "java/lang/Throwable" "java/lang/Throwable" "stackTrace" "[Ljava/lang/StackTraceElement;") ∈ lw_all := lw_g (lw_at lw_m4 102 rfl) rfl
theorem q929 : (Jvm.Cond.lays "java/lang/Throwable" "java/lang/Throwable" "suppressedExceptions" "Ljava/util/List;") ∈ lw_all := lw_g (lw_at lw_m4 104 rfl) rfl
theorem q931 : (Jvm.Cond.lays "java/lang/Throwable" "java/lang/Throwable" "detailMessage" "Ljava/lang/String;") ∈ lw_all := lw_g (lw_at lw_m4 106 rfl) rfl
theorem q933 : (Jvm.Cond.lays "java/lang/Throwable" "java/lang/Throwable" "backtrace" "Ljava/lang/Object;") ∈ lw_all := lw_g (lw_at lw_m4 108 rfl) rfl
theorem q934 : (Jvm.Cond.fieldLink "java/lang/Throwable" (198 : Nat) "java/lang/Throwable" "backtrace" "Ljava/lang/Object;") ∈ lw_all := lw_g (lw_at lw_m4 109 rfl) rfl
theorem q935 : (Jvm.Cond.superclass "java/lang/Throwable" "java/lang/Object") ∈ lw_all := lw_g (lw_at lw_m4 110 rfl) rfl
theorem q936 : (Jvm.Cond.instanceMethod ({ cls := "java/lang/Throwable", name := "<init>", desc := "()V" } : Jvm.MethodName)) ∈ lw_all := lw_g (lw_at lw_m4 111 rfl) rfl
theorem q937 : (Jvm.Cond.code ({ cls := "java/lang/Throwable", name := "<init>", desc := "()V" } : Jvm.MethodName) prog_27_method_1_code (1 : Nat) (Option.none : Option Jvm.ClassFile.FieldType)) ∈ lw_all := lw_g (lw_at lw_m4 112 rfl) rfl
theorem q938 : (Jvm.Cond.methodLink "java/lang/Throwable" (1 : Nat) ({ cls := "java/lang/Object", name := "<init>", desc := "()V" } : Jvm.MethodName)) ∈ lw_all := lw_g (lw_at lw_m4 113 rfl) rfl
theorem q939 : (Jvm.Cond.fieldLink "java/lang/Throwable" (13 : Nat) "java/lang/Throwable" "UNASSIGNED_STACK" "[Ljava/lang/StackTraceElement;") ∈ lw_all := lw_g (lw_at lw_m4 114 rfl) rfl
theorem q940 : (Jvm.Cond.laysStatic "java/lang/Throwable" "UNASSIGNED_STACK" "[Ljava/lang/StackTraceElement;") ∈ lw_tbl := lw_at lw_m4 115 rfl
theorem q941 : (Jvm.Cond.fieldLink "java/lang/Throwable" (20 : Nat) "java/lang/Throwable" "SUPPRESSED_SENTINEL" "Ljava/util/List;") ∈ lw_all := lw_g (lw_at lw_m4 116 rfl) rfl
theorem q942 : (Jvm.Cond.laysStatic "java/lang/Throwable" "SUPPRESSED_SENTINEL" "Ljava/util/List;") ∈ lw_tbl := lw_at lw_m4 117 rfl
theorem q943 : (Jvm.Cond.methodLink "java/lang/Throwable" (27 : Nat) ({ cls := "java/lang/Throwable", name := "fillInStackTrace", desc := "()Ljava/lang/Throwable;" } : Jvm.MethodName)) ∈ lw_all := lw_g (lw_at lw_m4 118 rfl) rfl
theorem q944 : (Jvm.Cond.instanceMethod ({ cls := "java/lang/Throwable", name := "fillInStackTrace", desc := "()Ljava/lang/Throwable;" } : Jvm.MethodName)) ∈ lw_all := lw_g (lw_at lw_m4 119 rfl) rfl
theorem q945 : (Jvm.Cond.sameMethod "java/lang/Throwable" "java/lang/Throwable" "fillInStackTrace" "()Ljava/lang/Throwable;") ∈ lw_all := lw_g (lw_at lw_m4 120 rfl) rfl
theorem q949 : (Jvm.Cond.codeSync ({ cls := "java/lang/Throwable", name := "fillInStackTrace", desc := "()Ljava/lang/Throwable;" } : Jvm.MethodName) prog_27_method_18_code (1 : Nat) (Option.some (Jvm.ClassFile.FieldType.object "java/lang/Throwable"))) ∈ lw_all := lw_g (lw_at lw_m4 124 rfl) rfl
theorem q950 : (Jvm.Cond.methodLink "java/lang/Throwable" (202 : Nat) ({ cls := "java/lang/Throwable", name := "fillInStackTrace", desc := "(I)Ljava/lang/Throwable;" } : Jvm.MethodName)) ∈ lw_all := lw_g (lw_at lw_m4 125 rfl) rfl
theorem q951 : (Jvm.Cond.privateMethod ({ cls := "java/lang/Throwable", name := "fillInStackTrace", desc := "(I)Ljava/lang/Throwable;" } : Jvm.MethodName)) ∈ lw_tbl := lw_at lw_m4 126 rfl
theorem q952 : (Jvm.Cond.instanceMethod ({ cls := "java/lang/Throwable", name := "fillInStackTrace", desc := "(I)Ljava/lang/Throwable;" } : Jvm.MethodName)) ∈ lw_all := lw_g (lw_at lw_m4 127 rfl) rfl
theorem q953 : (Jvm.Cond.instantiable "java/lang/Throwable" (6 : Nat)) ∈ lw_all := lw_g (lw_at lw_m4 128 rfl) rfl
theorem q954 : (Jvm.Cond.native ({ cls := "java/lang/Throwable", name := "fillInStackTrace", desc := "(I)Ljava/lang/Throwable;" } : Jvm.MethodName)) ∈ lw_all := lw_g (lw_at lw_m4 129 rfl) rfl
theorem q965 : (Jvm.Cond.fieldLink "java/lang/Throwable" (198 : Nat) "java/lang/Throwable" "backtrace" "Ljava/lang/Object;") ∈ lw_all := lw_g (lw_at lw_m4 140 rfl) rfl
theorem q966 : (Jvm.Cond.fieldLink "java/lang/Throwable" (31 : Nat) "java/lang/Throwable" "detailMessage" "Ljava/lang/String;") ∈ lw_all := lw_g (lw_at lw_m4 141 rfl) rfl
theorem q967 : (Jvm.Cond.fieldLink "java/lang/Throwable" (7 : Nat) "java/lang/Throwable" "cause" "Ljava/lang/Throwable;") ∈ lw_all := lw_g (lw_at lw_m4 142 rfl) rfl
theorem q968 : (Jvm.Cond.fieldLink "java/lang/Throwable" (17 : Nat) "java/lang/Throwable" "stackTrace" "[Ljava/lang/StackTraceElement;") ∈ lw_all := lw_g (lw_at lw_m4 143 rfl) rfl
theorem q969 : (Jvm.Cond.fieldLink "java/lang/Throwable" (24 : Nat) "java/lang/Throwable" "suppressedExceptions" "Ljava/util/List;") ∈ lw_all := lw_g (lw_at lw_m4 144 rfl) rfl
theorem q970 : (Jvm.Cond.soleField "java/lang/Throwable" "backtrace") ∈ lw_all := lw_g (lw_at lw_m4 145 rfl) rfl
theorem q971 : (Jvm.Cond.soleField "java/lang/Throwable" "detailMessage") ∈ lw_all := lw_g (lw_at lw_m4 146 rfl) rfl
theorem q972 : (Jvm.Cond.soleField "java/lang/Throwable" "cause") ∈ lw_all := lw_g (lw_at lw_m4 147 rfl) rfl
theorem q973 : (Jvm.Cond.soleField "java/lang/Throwable" "stackTrace") ∈ lw_all := lw_g (lw_at lw_m4 148 rfl) rfl
theorem q975 : (Jvm.Cond.soleField "java/lang/Throwable" "depth") ∈ lw_all := lw_g (lw_at lw_m4 150 rfl) rfl
theorem q976 : (Jvm.Cond.soleField "java/lang/Throwable" "suppressedExceptions") ∈ lw_all := lw_g (lw_at lw_m4 151 rfl) rfl
theorem q1027 : (Jvm.Cond.instanceMethod ({ cls := "java/lang/Throwable", name := "<init>", desc := "(Ljava/lang/String;)V" } : Jvm.MethodName)) ∈ lw_all := lw_g (lw_at lw_m4 202 rfl) rfl
theorem q1028 : (Jvm.Cond.code ({ cls := "java/lang/Throwable", name := "<init>", desc := "(Ljava/lang/String;)V" } : Jvm.MethodName) prog_27_method_2_code (2 : Nat) (Option.none : Option Jvm.ClassFile.FieldType)) ∈ lw_all := lw_g (lw_at lw_m4 203 rfl) rfl
theorem q1636 : (Jvm.Cond.sameMethod "java/lang/Throwable" "java/lang/Throwable" "fillInStackTrace" "(I)Ljava/lang/Throwable;") ∈ lw_all := lw_g (lw_at lw_m7 91 rfl) rfl
theorem q1653 : (Jvm.Cond.castable "java/lang/Throwable" "java/lang/Object") ∈ lw_tbl := lw_at lw_m7 108 rfl
theorem in_J5 : ∀ w ∈ wsJ50, w ∈ lw_all := lw_in wsJ50 [925, 927, 929, 931, 933] (by decide +kernel) (by decide +kernel)

/-! java/lang/Exception -/
set_option maxRecDepth 100000
def RJ6 : String := "java/lang/Exception"
abbrev cJ6_init : ByteArray := prog_18_method_1_code
def yJ6_init : MethodName := ⟨RJ6, "<init>", "()V"⟩
theorem dJ6_init_0 : decode cJ6_init 0 = .ok (.aload_n 0, 1) := by decide +kernel
theorem dJ6_init_1 : decode cJ6_init 1 = .ok (.invokespecial 1, 3) := by decide +kernel
theorem dJ6_init_4 : decode cJ6_init 4 = .ok (.return_, 1) := by decide +kernel
abbrev cJ6_init_2 : ByteArray := prog_18_method_2_code
def yJ6_init_2 : MethodName := ⟨RJ6, "<init>", "(Ljava/lang/String;)V"⟩
def dkwJ6_init_2_0 : List UInt8 := [42, 43, 183, 0, 7, 177]
abbrev dktJ6_init_2_0 : List UInt8 := dkwJ6_init_2_0 ++ []
theorem dksJ6_init_2_0 : cJ6_init_2.data.toList.drop 0 = dktJ6_init_2_0 := by decide +kernel
theorem dJ6_init_2_0 : decode cJ6_init_2 0 = .ok (.aload_n 0, 1) := dk_42 (dk_at dksJ6_init_2_0 0 rfl rfl)
theorem dJ6_init_2_1 : decode cJ6_init_2 1 = .ok (.aload_n 1, 1) := dk_43 (dk_at dksJ6_init_2_0 1 rfl rfl)
theorem dJ6_init_2_2 : decode cJ6_init_2 2 = .ok (.invokespecial 7, 3) := dk_183 0 7 (dk_at dksJ6_init_2_0 2 rfl rfl)
theorem dJ6_init_2_5 : decode cJ6_init_2 5 = .ok (.return_, 1) := dk_177 (dk_at dksJ6_init_2_0 5 rfl rfl)
theorem q125 : (Jvm.Cond.initialized "java/lang/Exception") ∈ lw_all := lw_g (lw_at lw_m1 20 rfl) rfl
theorem q918 : (Jvm.Cond.declares ({ cls := "java/lang/Exception", name := "<init>", desc := "()V" } : Jvm.MethodName)) ∈ lw_tbl := lw_at lw_m4 93 rfl
theorem q919 : (Jvm.Cond.declares ({ cls := "java/lang/Exception", name := "<init>", desc := "(Ljava/lang/String;)V" } : Jvm.MethodName)) ∈ lw_tbl := lw_at lw_m4 94 rfl
theorem q962 : (Jvm.Cond.instanceMethod ({ cls := "java/lang/Exception", name := "<init>", desc := "()V" } : Jvm.MethodName)) ∈ lw_all := lw_g (lw_at lw_m4 137 rfl) rfl
theorem q963 : (Jvm.Cond.code ({ cls := "java/lang/Exception", name := "<init>", desc := "()V" } : Jvm.MethodName) prog_18_method_1_code (1 : Nat) (Option.none : Option Jvm.ClassFile.FieldType)) ∈ lw_all := lw_g (lw_at lw_m4 138 rfl) rfl
theorem q964 : (Jvm.Cond.methodLink "java/lang/Exception" (1 : Nat) ({ cls := "java/lang/Throwable", name := "<init>", desc := "()V" } : Jvm.MethodName)) ∈ lw_all := lw_g (lw_at lw_m4 139 rfl) rfl
theorem q1024 : (Jvm.Cond.instanceMethod ({ cls := "java/lang/Exception", name := "<init>", desc := "(Ljava/lang/String;)V" } : Jvm.MethodName)) ∈ lw_all := lw_g (lw_at lw_m4 199 rfl) rfl
theorem q1025 : (Jvm.Cond.code ({ cls := "java/lang/Exception", name := "<init>", desc := "(Ljava/lang/String;)V" } : Jvm.MethodName) prog_18_method_2_code (2 : Nat) (Option.none : Option Jvm.ClassFile.FieldType)) ∈ lw_all := lw_g (lw_at lw_m4 200 rfl) rfl
theorem q1026 : (Jvm.Cond.methodLink "java/lang/Exception" (7 : Nat) ({ cls := "java/lang/Throwable", name := "<init>", desc := "(Ljava/lang/String;)V" } : Jvm.MethodName)) ∈ lw_all := lw_g (lw_at lw_m4 201 rfl) rfl

/-! java/lang/RuntimeException -/
set_option maxRecDepth 100000
def RJ7 : String := "java/lang/RuntimeException"
abbrev cJ7_init : ByteArray := prog_22_method_1_code
def yJ7_init : MethodName := ⟨RJ7, "<init>", "()V"⟩
theorem dJ7_init_0 : decode cJ7_init 0 = .ok (.aload_n 0, 1) := by decide +kernel
theorem dJ7_init_1 : decode cJ7_init 1 = .ok (.invokespecial 1, 3) := by decide +kernel
theorem dJ7_init_4 : decode cJ7_init 4 = .ok (.return_, 1) := by decide +kernel
abbrev cJ7_init_2 : ByteArray := prog_22_method_2_code
def yJ7_init_2 : MethodName := ⟨RJ7, "<init>", "(Ljava/lang/String;)V"⟩
def dkwJ7_init_2_0 : List UInt8 := [42, 43, 183, 0, 7, 177]
abbrev dktJ7_init_2_0 : List UInt8 := dkwJ7_init_2_0 ++ []
theorem dksJ7_init_2_0 : cJ7_init_2.data.toList.drop 0 = dktJ7_init_2_0 := by decide +kernel
theorem dJ7_init_2_0 : decode cJ7_init_2 0 = .ok (.aload_n 0, 1) := dk_42 (dk_at dksJ7_init_2_0 0 rfl rfl)
theorem dJ7_init_2_1 : decode cJ7_init_2 1 = .ok (.aload_n 1, 1) := dk_43 (dk_at dksJ7_init_2_0 1 rfl rfl)
theorem dJ7_init_2_2 : decode cJ7_init_2 2 = .ok (.invokespecial 7, 3) := dk_183 0 7 (dk_at dksJ7_init_2_0 2 rfl rfl)
theorem dJ7_init_2_5 : decode cJ7_init_2 5 = .ok (.return_, 1) := dk_177 (dk_at dksJ7_init_2_0 5 rfl rfl)
theorem q126 : (Jvm.Cond.initialized "java/lang/RuntimeException") ∈ lw_all := lw_g (lw_at lw_m1 21 rfl) rfl
theorem q916 : (Jvm.Cond.declares ({ cls := "java/lang/RuntimeException", name := "<init>", desc := "()V" } : Jvm.MethodName)) ∈ lw_tbl := lw_at lw_m4 91 rfl
theorem q917 : (Jvm.Cond.declares ({ cls := "java/lang/RuntimeException", name := "<init>", desc := "(Ljava/lang/String;)V" } : Jvm.MethodName)) ∈ lw_tbl := lw_at lw_m4 92 rfl
theorem q959 : (Jvm.Cond.instanceMethod ({ cls := "java/lang/RuntimeException", name := "<init>", desc := "()V" } : Jvm.MethodName)) ∈ lw_all := lw_g (lw_at lw_m4 134 rfl) rfl
theorem q960 : (Jvm.Cond.code ({ cls := "java/lang/RuntimeException", name := "<init>", desc := "()V" } : Jvm.MethodName) prog_22_method_1_code (1 : Nat) (Option.none : Option Jvm.ClassFile.FieldType)) ∈ lw_all := lw_g (lw_at lw_m4 135 rfl) rfl
theorem q961 : (Jvm.Cond.methodLink "java/lang/RuntimeException" (1 : Nat) ({ cls := "java/lang/Exception", name := "<init>", desc := "()V" } : Jvm.MethodName)) ∈ lw_all := lw_g (lw_at lw_m4 136 rfl) rfl
theorem q1021 : (Jvm.Cond.instanceMethod ({ cls := "java/lang/RuntimeException", name := "<init>", desc := "(Ljava/lang/String;)V" } : Jvm.MethodName)) ∈ lw_all := lw_g (lw_at lw_m4 196 rfl) rfl
theorem q1022 : (Jvm.Cond.code ({ cls := "java/lang/RuntimeException", name := "<init>", desc := "(Ljava/lang/String;)V" } : Jvm.MethodName) prog_22_method_2_code (2 : Nat) (Option.none : Option Jvm.ClassFile.FieldType)) ∈ lw_all := lw_g (lw_at lw_m4 197 rfl) rfl
theorem q1023 : (Jvm.Cond.methodLink "java/lang/RuntimeException" (7 : Nat) ({ cls := "java/lang/Exception", name := "<init>", desc := "(Ljava/lang/String;)V" } : Jvm.MethodName)) ∈ lw_all := lw_g (lw_at lw_m4 198 rfl) rfl

/-! java/lang/IllegalArgumentException -/
set_option maxRecDepth 100000
def RJ8 : String := "java/lang/IllegalArgumentException"
def TJ8 : u_T := fun k => match k with
  | 0 => ("java/lang/Throwable", "cause", "Ljava/lang/Throwable;", false)
  | 1 => ("java/lang/Throwable", "stackTrace", "[Ljava/lang/StackTraceElement;", false)
  | 2 => ("java/lang/Throwable", "suppressedExceptions", "Ljava/util/List;", false)
  | 3 => ("java/lang/Throwable", "detailMessage", "Ljava/lang/String;", false)
  | 4 => ("java/lang/Throwable", "backtrace", "Ljava/lang/Object;", false)
  | _ => ("java/lang/Throwable", "depth", "I", false)
def tyJ8 : Nat → FieldType := fun k => match k with
  | 0 => .object "java/lang/Throwable"
  | 1 => .array (.object "java/lang/StackTraceElement")
  | 2 => .object "java/util/List"
  | 3 => .object "java/lang/String"
  | 4 => .object "java/lang/Object"
  | _ => .int
abbrev wsJ80 : List Cond := u_ws RJ8 TJ8 6
theorem nmJ8 : ∀ a, a < 6 → ∀ b, b < 6 → a ≠ b → (TJ8 a).2.1 ≠ (TJ8 b).2.1 := by decide +kernel
theorem tyJ8_ok : ∀ k, k < 6 → parseFieldDescriptor (TJ8 k).2.2.1 = some (tyJ8 k) := by decide +kernel
abbrev cJ8_init : ByteArray := prog_19_method_1_code
def yJ8_init : MethodName := ⟨RJ8, "<init>", "()V"⟩
theorem dJ8_init_0 : decode cJ8_init 0 = .ok (.aload_n 0, 1) := by decide +kernel
theorem dJ8_init_1 : decode cJ8_init 1 = .ok (.invokespecial 1, 3) := by decide +kernel
theorem dJ8_init_4 : decode cJ8_init 4 = .ok (.return_, 1) := by decide +kernel
theorem q127 : (Jvm.Cond.initialized "java/lang/IllegalArgumentException") ∈ lw_all := lw_g (lw_at lw_m1 22 rfl) rfl
theorem q914 : (Jvm.Cond.instantiable "java/lang/IllegalArgumentException" (6 : Nat)) ∈ lw_all := lw_g (lw_at lw_m4 89 rfl) rfl
theorem q915 : (Jvm.Cond.castable "java/lang/IllegalArgumentException" "java/lang/IllegalArgumentException") ∈ lw_tbl := lw_at lw_m4 90 rfl
theorem q922 : (Jvm.Cond.selects "java/lang/IllegalArgumentException" ({ cls := "java/lang/Throwable", name := "fillInStackTrace", desc := "(I)Ljava/lang/Throwable;" } : Jvm.MethodName) ({ cls := "java/lang/Throwable", name := "fillInStackTrace", desc := "(I)Ljava/lang/Throwable;" } : Jvm.MethodName)) ∈ lw_all := lw_g (lw_at lw_m4 97 rfl) rfl
theorem q923 : (Jvm.Cond.selects "java/lang/IllegalArgumentException" ({ cls := "java/lang/Throwable", name := "fillInStackTrace", desc := "()Ljava/lang/Throwable;" } : Jvm.MethodName) ({ cls := "java/lang/Throwable", name := "fillInStackTrace", desc := "()Ljava/lang/Throwable;" } : Jvm.MethodName)) ∈ lw_all := lw_g (lw_at lw_m4 98 rfl) rfl
theorem q924 : (Jvm.Cond.lays "java/lang/IllegalArgumentException" "java/lang/Throwable" "cause" "Ljava/lang/Throwable;") ∈ lw_all := lw_g (lw_at lw_m4 99 rfl) rfl
theorem q926 : (Jvm.Cond.lays "java/lang/IllegalArgumentException" "java/lang/Throwable" "stackTrace" "[Ljava/lang/StackTraceElement;") ∈ lw_all := lw_g (lw_at lw_m4 101 rfl) rfl
theorem q928 : (Jvm.Cond.lays "java/lang/IllegalArgumentException" "java/lang/Throwable" "suppressedExceptions" "Ljava/util/List;") ∈ lw_all := lw_g (lw_at lw_m4 103 rfl) rfl
theorem q930 : (Jvm.Cond.lays "java/lang/IllegalArgumentException" "java/lang/Throwable" "detailMessage" "Ljava/lang/String;") ∈ lw_all := lw_g (lw_at lw_m4 105 rfl) rfl
theorem q932 : (Jvm.Cond.lays "java/lang/IllegalArgumentException" "java/lang/Throwable" "backtrace" "Ljava/lang/Object;") ∈ lw_all := lw_g (lw_at lw_m4 107 rfl) rfl
theorem q956 : (Jvm.Cond.instanceMethod ({ cls := "java/lang/IllegalArgumentException", name := "<init>", desc := "()V" } : Jvm.MethodName)) ∈ lw_all := lw_g (lw_at lw_m4 131 rfl) rfl
theorem q957 : (Jvm.Cond.code ({ cls := "java/lang/IllegalArgumentException", name := "<init>", desc := "()V" } : Jvm.MethodName) prog_19_method_1_code (1 : Nat) (Option.none : Option Jvm.ClassFile.FieldType)) ∈ lw_all := lw_g (lw_at lw_m4 132 rfl) rfl
theorem q958 : (Jvm.Cond.methodLink "java/lang/IllegalArgumentException" (1 : Nat) ({ cls := "java/lang/RuntimeException", name := "<init>", desc := "()V" } : Jvm.MethodName)) ∈ lw_all := lw_g (lw_at lw_m4 133 rfl) rfl
theorem q974 : (Jvm.Cond.lays "java/lang/IllegalArgumentException" "java/lang/Throwable" "depth" "I") ∈ lw_all := lw_g (lw_at lw_m4 149 rfl) rfl
theorem q977 : (Jvm.Cond.superclass "java/lang/IllegalArgumentException" "java/lang/RuntimeException") ∈ lw_all := lw_g (lw_at lw_m4 152 rfl) rfl
theorem q1649 : (Jvm.Cond.castable "java/lang/IllegalArgumentException" "java/lang/Object") ∈ lw_tbl := lw_at lw_m7 104 rfl
theorem in_J8 : ∀ w ∈ wsJ80, w ∈ lw_all := lw_in wsJ80 [924, 926, 928, 930, 932, 974] (by decide +kernel) (by decide +kernel)

/-! java/util/NoSuchElementException -/
set_option maxRecDepth 100000
def RJ9 : String := "java/util/NoSuchElementException"
def TJ9 : u_T := fun k => match k with
  | 0 => ("java/lang/Throwable", "cause", "Ljava/lang/Throwable;", false)
  | 1 => ("java/lang/Throwable", "stackTrace", "[Ljava/lang/StackTraceElement;", false)
  | 2 => ("java/lang/Throwable", "suppressedExceptions", "Ljava/util/List;", false)
  | 3 => ("java/lang/Throwable", "detailMessage", "Ljava/lang/String;", false)
  | 4 => ("java/lang/Throwable", "backtrace", "Ljava/lang/Object;", false)
  | _ => ("java/lang/Throwable", "depth", "I", false)
def tyJ9 : Nat → FieldType := fun k => match k with
  | 0 => .object "java/lang/Throwable"
  | 1 => .array (.object "java/lang/StackTraceElement")
  | 2 => .object "java/util/List"
  | 3 => .object "java/lang/String"
  | 4 => .object "java/lang/Object"
  | _ => .int
abbrev wsJ90 : List Cond := u_ws RJ9 TJ9 6
theorem nmJ9 : ∀ a, a < 6 → ∀ b, b < 6 → a ≠ b → (TJ9 a).2.1 ≠ (TJ9 b).2.1 := by decide +kernel
theorem tyJ9_ok : ∀ k, k < 6 → parseFieldDescriptor (TJ9 k).2.2.1 = some (tyJ9 k) := by decide +kernel
abbrev cJ9_init : ByteArray := prog_30_method_1_code
def yJ9_init : MethodName := ⟨RJ9, "<init>", "()V"⟩
theorem dJ9_init_0 : decode cJ9_init 0 = .ok (.aload_n 0, 1) := by decide +kernel
theorem dJ9_init_1 : decode cJ9_init 1 = .ok (.invokespecial 1, 3) := by decide +kernel
theorem dJ9_init_4 : decode cJ9_init 4 = .ok (.return_, 1) := by decide +kernel
theorem q128 : (Jvm.Cond.initialized "java/util/NoSuchElementException") ∈ lw_all := lw_g (lw_at lw_m1 23 rfl) rfl
theorem q948 : (Jvm.Cond.selects "java/util/NoSuchElementException" ({ cls := "java/lang/Throwable", name := "fillInStackTrace", desc := "()Ljava/lang/Throwable;" } : Jvm.MethodName) ({ cls := "java/lang/Throwable", name := "fillInStackTrace", desc := "()Ljava/lang/Throwable;" } : Jvm.MethodName)) ∈ lw_all := lw_g (lw_at lw_m4 123 rfl) rfl
theorem q996 : (Jvm.Cond.instantiable "java/util/NoSuchElementException" (6 : Nat)) ∈ lw_all := lw_g (lw_at lw_m4 171 rfl) rfl
theorem q997 : (Jvm.Cond.castable "java/util/NoSuchElementException" "java/util/NoSuchElementException") ∈ lw_tbl := lw_at lw_m4 172 rfl
theorem q998 : (Jvm.Cond.selects "java/util/NoSuchElementException" ({ cls := "java/lang/Throwable", name := "fillInStackTrace", desc := "(I)Ljava/lang/Throwable;" } : Jvm.MethodName) ({ cls := "java/lang/Throwable", name := "fillInStackTrace", desc := "(I)Ljava/lang/Throwable;" } : Jvm.MethodName)) ∈ lw_all := lw_g (lw_at lw_m4 173 rfl) rfl
theorem q999 : (Jvm.Cond.lays "java/util/NoSuchElementException" "java/lang/Throwable" "cause" "Ljava/lang/Throwable;") ∈ lw_all := lw_g (lw_at lw_m4 174 rfl) rfl
theorem q1000 : (Jvm.Cond.lays "java/util/NoSuchElementException" "java/lang/Throwable" "stackTrace" "[Ljava/lang/StackTraceElement;") ∈ lw_all := lw_g (lw_at lw_m4 175 rfl) rfl
theorem q1001 : (Jvm.Cond.lays "java/util/NoSuchElementException" "java/lang/Throwable" "suppressedExceptions" "Ljava/util/List;") ∈ lw_all := lw_g (lw_at lw_m4 176 rfl) rfl
theorem q1002 : (Jvm.Cond.lays "java/util/NoSuchElementException" "java/lang/Throwable" "detailMessage" "Ljava/lang/String;") ∈ lw_all := lw_g (lw_at lw_m4 177 rfl) rfl
theorem q1003 : (Jvm.Cond.lays "java/util/NoSuchElementException" "java/lang/Throwable" "backtrace" "Ljava/lang/Object;") ∈ lw_all := lw_g (lw_at lw_m4 178 rfl) rfl
theorem q1005 : (Jvm.Cond.instanceMethod ({ cls := "java/util/NoSuchElementException", name := "<init>", desc := "()V" } : Jvm.MethodName)) ∈ lw_all := lw_g (lw_at lw_m4 180 rfl) rfl
theorem q1006 : (Jvm.Cond.code ({ cls := "java/util/NoSuchElementException", name := "<init>", desc := "()V" } : Jvm.MethodName) prog_30_method_1_code (1 : Nat) (Option.none : Option Jvm.ClassFile.FieldType)) ∈ lw_all := lw_g (lw_at lw_m4 181 rfl) rfl
theorem q1007 : (Jvm.Cond.methodLink "java/util/NoSuchElementException" (1 : Nat) ({ cls := "java/lang/RuntimeException", name := "<init>", desc := "()V" } : Jvm.MethodName)) ∈ lw_all := lw_g (lw_at lw_m4 182 rfl) rfl
theorem q1008 : (Jvm.Cond.lays "java/util/NoSuchElementException" "java/lang/Throwable" "depth" "I") ∈ lw_all := lw_g (lw_at lw_m4 183 rfl) rfl
theorem q1009 : (Jvm.Cond.superclass "java/util/NoSuchElementException" "java/lang/RuntimeException") ∈ lw_all := lw_g (lw_at lw_m4 184 rfl) rfl
theorem q1650 : (Jvm.Cond.castable "java/util/NoSuchElementException" "java/lang/Object") ∈ lw_tbl := lw_at lw_m7 105 rfl
theorem in_J9 : ∀ w ∈ wsJ90, w ∈ lw_all := lw_in wsJ90 [999, 1000, 1001, 1002, 1003, 1008] (by decide +kernel) (by decide +kernel)

/-! the law's own entry -/
set_option maxRecDepth 100000
abbrev cL_law : ByteArray := code
def dkwL_law_35 : List UInt8 := [4, 172]
abbrev dktL_law_35 : List UInt8 := dkwL_law_35 ++ []
def dkwL_law_34 : List UInt8 := [154, 0, 15, 45, 3, 47, 21, 6, 133, 148, 153, 0, 5, 3, 172, 167, 0, 3, 132, 4, 7, 167, 252, 173]
abbrev dktL_law_34 : List UInt8 := dkwL_law_34 ++ dktL_law_35
def dkwL_law_33 : List UInt8 := [21, 4, 4, 96, 46, 182, 0, 121, 54, 6, 44, 182, 0, 64, 21, 5, 159, 0, 5, 3, 172, 21, 5]
abbrev dktL_law_33 : List UInt8 := dkwL_law_33 ++ dktL_law_34
def dkwL_law_32 : List UInt8 := [182, 0, 118, 159, 0, 61, 3, 172, 43, 42, 21, 4, 4, 96, 46, 45, 184, 0, 119, 54, 5, 44, 42]
abbrev dktL_law_32 : List UInt8 := dkwL_law_32 ++ dktL_law_33
def dkwL_law_31 : List UInt8 := [4, 167, 0, 4, 3, 182, 0, 114, 44, 42, 21, 4, 4, 96, 46, 153, 0, 7, 4, 167, 0, 4, 3]
abbrev dktL_law_31 : List UInt8 := dkwL_law_31 ++ dktL_law_32
def dkwL_law_30 : List UInt8 := [167, 0, 111, 43, 182, 0, 110, 44, 182, 0, 113, 167, 0, 100, 43, 42, 21, 4, 4, 96, 46, 153, 0, 7]
abbrev dktL_law_30 : List UInt8 := dkwL_law_30 ++ dktL_law_31
def dkwL_law_29 : List UInt8 := [54, 5, 44, 42, 21, 4, 4, 96, 46, 182, 0, 109, 44, 182, 0, 64, 21, 5, 159, 0, 5, 3, 172]
abbrev dktL_law_29 : List UInt8 := dkwL_law_29 ++ dktL_law_30
def dkwL_law_28 : List UInt8 := [42, 21, 4, 4, 96, 46, 182, 0, 105, 159, 0, 149, 3, 172, 43, 42, 21, 4, 4, 96, 46, 184, 0, 106]
abbrev dktL_law_28 : List UInt8 := dkwL_law_28 ++ dktL_law_29
def dkwL_law_27 : List UInt8 := [21, 4, 4, 96, 46, 182, 0, 101, 159, 0, 174, 3, 172, 43, 42, 21, 4, 4, 96, 46, 182, 0, 102, 44]
abbrev dktL_law_27 : List UInt8 := dkwL_law_27 ++ dktL_law_28
def dkwL_law_26 : List UInt8 := [21, 6, 133, 148, 153, 0, 5, 3, 172, 167, 0, 197, 43, 42, 21, 4, 4, 96, 46, 182, 0, 98, 44, 42]
abbrev dktL_law_26 : List UInt8 := dkwL_law_26 ++ dktL_law_27
def dkwL_law_25 : List UInt8 := [182, 0, 97, 54, 6, 44, 182, 0, 64, 21, 5, 159, 0, 5, 3, 172, 21, 5, 154, 0, 15, 45, 3, 47]
abbrev dktL_law_25 : List UInt8 := dkwL_law_25 ++ dktL_law_26
def dkwL_law_24 : List UInt8 := [172, 167, 0, 253, 43, 42, 21, 4, 4, 96, 46, 45, 184, 0, 95, 54, 5, 44, 42, 21, 4, 4, 96, 46]
abbrev dktL_law_24 : List UInt8 := dkwL_law_24 ++ dktL_law_25
def dkwL_law_23 : List UInt8 := [21, 4, 4, 96, 46, 42, 21, 4, 5, 96, 46, 182, 0, 94, 44, 182, 0, 64, 21, 5, 159, 0, 5, 3]
abbrev dktL_law_23 : List UInt8 := dkwL_law_23 ++ dktL_law_24
def dkwL_law_22 : List UInt8 := [167, 1, 45, 43, 42, 21, 4, 4, 96, 46, 42, 21, 4, 5, 96, 46, 184, 0, 91, 54, 5, 44, 42]
abbrev dktL_law_22 : List UInt8 := dkwL_law_22 ++ dktL_law_23
def dkwL_law_21 : List UInt8 := [21, 5, 159, 0, 5, 3, 172, 21, 5, 154, 0, 15, 45, 3, 47, 21, 6, 133, 148, 153, 0, 5, 3, 172]
abbrev dktL_law_21 : List UInt8 := dkwL_law_21 ++ dktL_law_22
def dkwL_law_20 : List UInt8 := [46, 45, 184, 0, 88, 54, 5, 44, 42, 21, 4, 4, 96, 46, 182, 0, 90, 54, 6, 44, 182, 0, 64]
abbrev dktL_law_20 : List UInt8 := dkwL_law_20 ++ dktL_law_21
def dkwL_law_19 : List UInt8 := [154, 0, 15, 45, 3, 47, 21, 6, 133, 148, 153, 0, 5, 3, 172, 167, 1, 101, 43, 42, 21, 4, 4, 96]
abbrev dktL_law_19 : List UInt8 := dkwL_law_19 ++ dktL_law_20
def dkwL_law_18 : List UInt8 := [21, 4, 4, 96, 46, 182, 0, 87, 54, 6, 44, 182, 0, 64, 21, 5, 159, 0, 5, 3, 172, 21, 5]
abbrev dktL_law_18 : List UInt8 := dkwL_law_18 ++ dktL_law_19
def dkwL_law_17 : List UInt8 := [153, 0, 5, 3, 172, 167, 1, 157, 43, 42, 21, 4, 4, 96, 46, 45, 184, 0, 85, 54, 5, 44, 42]
abbrev dktL_law_17 : List UInt8 := dkwL_law_17 ++ dktL_law_18
def dkwL_law_16 : List UInt8 := [44, 182, 0, 64, 21, 5, 159, 0, 5, 3, 172, 21, 5, 154, 0, 15, 45, 3, 47, 21, 6, 133, 148]
abbrev dktL_law_16 : List UInt8 := dkwL_law_16 ++ dktL_law_17
def dkwL_law_15 : List UInt8 := [42, 21, 4, 7, 96, 46, 42, 21, 4, 8, 96, 46, 42, 21, 4, 16, 6, 96, 46, 182, 0, 84, 54, 6]
abbrev dktL_law_15 : List UInt8 := dkwL_law_15 ++ dktL_law_16
def dkwL_law_14 : List UInt8 := [184, 0, 81, 54, 5, 44, 42, 21, 4, 4, 96, 46, 42, 21, 4, 5, 96, 46, 42, 21, 4, 6, 96, 46]
abbrev dktL_law_14 : List UInt8 := dkwL_law_14 ++ dktL_law_15
def dkwL_law_13 : List UInt8 := [6, 96, 46, 42, 21, 4, 7, 96, 46, 42, 21, 4, 8, 96, 46, 42, 21, 4, 16, 6, 96, 46, 45]
abbrev dktL_law_13 : List UInt8 := dkwL_law_13 ++ dktL_law_14
def dkwL_law_12 : List UInt8 := [153, 0, 5, 3, 172, 167, 2, 19, 43, 42, 21, 4, 4, 96, 46, 42, 21, 4, 5, 96, 46, 42, 21, 4]
abbrev dktL_law_12 : List UInt8 := dkwL_law_12 ++ dktL_law_13
def dkwL_law_11 : List UInt8 := [182, 0, 64, 21, 5, 159, 0, 5, 3, 172, 21, 5, 154, 0, 15, 45, 3, 47, 21, 6, 133, 148]
abbrev dktL_law_11 : List UInt8 := dkwL_law_11 ++ dktL_law_12
def dkwL_law_10 : List UInt8 := [21, 4, 4, 96, 46, 45, 184, 0, 78, 54, 5, 44, 42, 21, 4, 4, 96, 46, 182, 0, 80, 54, 6, 44]
abbrev dktL_law_10 : List UInt8 := dkwL_law_10 ++ dktL_law_11
def dkwL_law_9 : List UInt8 := [46, 182, 0, 73, 159, 2, 90, 3, 172, 43, 182, 0, 74, 44, 182, 0, 77, 159, 2, 77, 3, 172, 43, 42]
abbrev dktL_law_9 : List UInt8 := dkwL_law_9 ++ dktL_law_10
def dkwL_law_8 : List UInt8 := [153, 0, 5, 3, 172, 167, 2, 113, 43, 42, 21, 4, 4, 96, 46, 182, 0, 70, 44, 42, 21, 4, 4, 96]
abbrev dktL_law_8 : List UInt8 := dkwL_law_8 ++ dktL_law_9
def dkwL_law_7 : List UInt8 := [182, 0, 64, 21, 5, 159, 0, 5, 3, 172, 21, 5, 154, 0, 15, 45, 3, 47, 21, 6, 133, 148]
abbrev dktL_law_7 : List UInt8 := dkwL_law_7 ++ dktL_law_8
def dkwL_law_6 : List UInt8 := [21, 4, 4, 96, 46, 45, 184, 0, 67, 54, 5, 44, 42, 21, 4, 4, 96, 46, 182, 0, 69, 54, 6, 44]
abbrev dktL_law_6 : List UInt8 := dkwL_law_6 ++ dktL_law_7
def dkwL_law_5 : List UInt8 := [172, 21, 5, 154, 0, 15, 45, 3, 47, 21, 6, 133, 148, 153, 0, 5, 3, 172, 167, 2, 169, 43, 42]
abbrev dktL_law_5 : List UInt8 := dkwL_law_5 ++ dktL_law_6
def dkwL_law_4 : List UInt8 := [54, 5, 44, 42, 21, 4, 4, 96, 46, 182, 0, 63, 54, 6, 44, 182, 0, 64, 21, 5, 159, 0, 5, 3]
abbrev dktL_law_4 : List UInt8 := dkwL_law_4 ++ dktL_law_5
def dkwL_law_3 : List UInt8 := [43, 182, 0, 53, 44, 182, 0, 57, 159, 2, 227, 3, 172, 43, 42, 21, 4, 4, 96, 46, 45, 184, 0, 58]
abbrev dktL_law_3 : List UInt8 := dkwL_law_3 ++ dktL_law_4
def dkwL_law_2 : List UInt8 := [170, 0, 0, 0, 0, 0, 3, 63, 0, 0, 0, 0, 0, 0, 0, 16, 0, 0, 0, 84, 0, 0, 0, 97, 0, 0, 0, 153, 0, 0, 0, 209, 0, 0, 0, 234, 0, 0, 0, 247, 0, 0, 1, 47, 0, 0, 1, 165, 0, 0, 1, 221, 0, 0, 2, 21, 0, 0, 2, 69, 0, 0, 2, 125, 0, 0, 2, 150, 0, 0, 2, 175, 0, 0, 2, 211, 0, 0, 2, 222, 0, 0, 3, 7]
abbrev dktL_law_2 : List UInt8 := dkwL_law_2 ++ dktL_law_3
def dkwL_law_1 : List UInt8 := [21, 4, 42, 190, 16, 7, 100, 163, 3, 79, 42, 21, 4, 46, 16, 31, 126]
abbrev dktL_law_1 : List UInt8 := dkwL_law_1 ++ dktL_law_2
def dkwL_law_0 : List UInt8 := [187, 0, 8, 89, 183, 0, 49, 76, 187, 0, 50, 89, 183, 0, 52, 77, 4, 188, 11, 78, 3, 54, 4]
abbrev dktL_law_0 : List UInt8 := dkwL_law_0 ++ dktL_law_1
theorem dksL_law_0 : cL_law.data.toList.drop 0 = dktL_law_0 := by decide +kernel
theorem dksL_law_1 : cL_law.data.toList.drop 23 = dktL_law_1 := dk_seg dksL_law_0 23 rfl rfl
theorem dksL_law_2 : cL_law.data.toList.drop 40 = dktL_law_2 := dk_seg dksL_law_1 17 rfl rfl
theorem dksL_law_3 : cL_law.data.toList.drop 124 = dktL_law_3 := dk_seg dksL_law_2 84 rfl rfl
theorem dksL_law_4 : cL_law.data.toList.drop 148 = dktL_law_4 := dk_seg dksL_law_3 24 rfl rfl
theorem dksL_law_5 : cL_law.data.toList.drop 172 = dktL_law_5 := dk_seg dksL_law_4 24 rfl rfl
theorem dksL_law_6 : cL_law.data.toList.drop 195 = dktL_law_6 := dk_seg dksL_law_5 23 rfl rfl
theorem dksL_law_7 : cL_law.data.toList.drop 219 = dktL_law_7 := dk_seg dksL_law_6 24 rfl rfl
theorem dksL_law_8 : cL_law.data.toList.drop 241 = dktL_law_8 := dk_seg dksL_law_7 22 rfl rfl
theorem dksL_law_9 : cL_law.data.toList.drop 265 = dktL_law_9 := dk_seg dksL_law_8 24 rfl rfl
theorem dksL_law_10 : cL_law.data.toList.drop 289 = dktL_law_10 := dk_seg dksL_law_9 24 rfl rfl
theorem dksL_law_11 : cL_law.data.toList.drop 313 = dktL_law_11 := dk_seg dksL_law_10 24 rfl rfl
theorem dksL_law_12 : cL_law.data.toList.drop 335 = dktL_law_12 := dk_seg dksL_law_11 22 rfl rfl
theorem dksL_law_13 : cL_law.data.toList.drop 359 = dktL_law_13 := dk_seg dksL_law_12 24 rfl rfl
theorem dksL_law_14 : cL_law.data.toList.drop 382 = dktL_law_14 := dk_seg dksL_law_13 23 rfl rfl
theorem dksL_law_15 : cL_law.data.toList.drop 406 = dktL_law_15 := dk_seg dksL_law_14 24 rfl rfl
theorem dksL_law_16 : cL_law.data.toList.drop 430 = dktL_law_16 := dk_seg dksL_law_15 24 rfl rfl
theorem dksL_law_17 : cL_law.data.toList.drop 453 = dktL_law_17 := dk_seg dksL_law_16 23 rfl rfl
theorem dksL_law_18 : cL_law.data.toList.drop 476 = dktL_law_18 := dk_seg dksL_law_17 23 rfl rfl
theorem dksL_law_19 : cL_law.data.toList.drop 499 = dktL_law_19 := dk_seg dksL_law_18 23 rfl rfl
theorem dksL_law_20 : cL_law.data.toList.drop 523 = dktL_law_20 := dk_seg dksL_law_19 24 rfl rfl
theorem dksL_law_21 : cL_law.data.toList.drop 546 = dktL_law_21 := dk_seg dksL_law_20 23 rfl rfl
theorem dksL_law_22 : cL_law.data.toList.drop 570 = dktL_law_22 := dk_seg dksL_law_21 24 rfl rfl
theorem dksL_law_23 : cL_law.data.toList.drop 593 = dktL_law_23 := dk_seg dksL_law_22 23 rfl rfl
theorem dksL_law_24 : cL_law.data.toList.drop 617 = dktL_law_24 := dk_seg dksL_law_23 24 rfl rfl
theorem dksL_law_25 : cL_law.data.toList.drop 641 = dktL_law_25 := dk_seg dksL_law_24 24 rfl rfl
theorem dksL_law_26 : cL_law.data.toList.drop 665 = dktL_law_26 := dk_seg dksL_law_25 24 rfl rfl
theorem dksL_law_27 : cL_law.data.toList.drop 689 = dktL_law_27 := dk_seg dksL_law_26 24 rfl rfl
theorem dksL_law_28 : cL_law.data.toList.drop 713 = dktL_law_28 := dk_seg dksL_law_27 24 rfl rfl
theorem dksL_law_29 : cL_law.data.toList.drop 737 = dktL_law_29 := dk_seg dksL_law_28 24 rfl rfl
theorem dksL_law_30 : cL_law.data.toList.drop 760 = dktL_law_30 := dk_seg dksL_law_29 23 rfl rfl
theorem dksL_law_31 : cL_law.data.toList.drop 784 = dktL_law_31 := dk_seg dksL_law_30 24 rfl rfl
theorem dksL_law_32 : cL_law.data.toList.drop 807 = dktL_law_32 := dk_seg dksL_law_31 23 rfl rfl
theorem dksL_law_33 : cL_law.data.toList.drop 830 = dktL_law_33 := dk_seg dksL_law_32 23 rfl rfl
theorem dksL_law_34 : cL_law.data.toList.drop 853 = dktL_law_34 := dk_seg dksL_law_33 23 rfl rfl
theorem dksL_law_35 : cL_law.data.toList.drop 877 = dktL_law_35 := dk_seg dksL_law_34 24 rfl rfl
theorem dL_law_0 : decode cL_law 0 = .ok (.new 8, 3) := dk_187 0 8 (dk_at dksL_law_0 0 rfl rfl)
theorem dL_law_3 : decode cL_law 3 = .ok (.dup, 1) := dk_89 (dk_at dksL_law_0 3 rfl rfl)
theorem dL_law_4 : decode cL_law 4 = .ok (.invokespecial 49, 3) := dk_183 0 49 (dk_at dksL_law_0 4 rfl rfl)
theorem dL_law_7 : decode cL_law 7 = .ok (.astore_n 1, 1) := dk_76 (dk_at dksL_law_0 7 rfl rfl)
theorem dL_law_8 : decode cL_law 8 = .ok (.new 50, 3) := dk_187 0 50 (dk_at dksL_law_0 8 rfl rfl)
theorem dL_law_11 : decode cL_law 11 = .ok (.dup, 1) := dk_89 (dk_at dksL_law_0 11 rfl rfl)
theorem dL_law_12 : decode cL_law 12 = .ok (.invokespecial 52, 3) := dk_183 0 52 (dk_at dksL_law_0 12 rfl rfl)
theorem dL_law_15 : decode cL_law 15 = .ok (.astore_n 2, 1) := dk_77 (dk_at dksL_law_0 15 rfl rfl)
theorem dL_law_16 : decode cL_law 16 = .ok (.iconst 1, 1) := dk_4 (dk_at dksL_law_0 16 rfl rfl)
theorem dL_law_17 : decode cL_law 17 = .ok (.newarray .long, 2) := dk_188_11 (dk_at dksL_law_0 17 rfl rfl)
theorem dL_law_19 : decode cL_law 19 = .ok (.astore_n 3, 1) := dk_78 (dk_at dksL_law_0 19 rfl rfl)
theorem dL_law_20 : decode cL_law 20 = .ok (.iconst 0, 1) := dk_3 (dk_at dksL_law_0 20 rfl rfl)
theorem dL_law_21 : decode cL_law 21 = .ok (.istore 4, 2) := dk_54 4 (dk_at dksL_law_0 21 rfl rfl)
theorem dL_law_23 : decode cL_law 23 = .ok (.iload 4, 2) := dk_21 4 (dk_at dksL_law_1 0 rfl rfl)
theorem dL_law_25 : decode cL_law 25 = .ok (.aload_n 0, 1) := dk_42 (dk_at dksL_law_1 2 rfl rfl)
theorem dL_law_26 : decode cL_law 26 = .ok (.arraylength, 1) := dk_190 (dk_at dksL_law_1 3 rfl rfl)
theorem dL_law_27 : decode cL_law 27 = .ok (.bipush 7, 2) := dk_16 7 (dk_at dksL_law_1 4 rfl rfl)
theorem dL_law_29 : decode cL_law 29 = .ok (.isub, 1) := dk_100 (dk_at dksL_law_1 6 rfl rfl)
theorem dL_law_30 : decode cL_law 30 = .ok (.if_icmp .gt 847, 3) := dk_163 3 79 (dk_at dksL_law_1 7 rfl rfl)
theorem dL_law_33 : decode cL_law 33 = .ok (.aload_n 0, 1) := dk_42 (dk_at dksL_law_1 10 rfl rfl)
theorem dL_law_34 : decode cL_law 34 = .ok (.iload 4, 2) := dk_21 4 (dk_at dksL_law_1 11 rfl rfl)
theorem dL_law_36 : decode cL_law 36 = .ok (.iaload, 1) := dk_46 (dk_at dksL_law_1 13 rfl rfl)
theorem dL_law_37 : decode cL_law 37 = .ok (.bipush 31, 2) := dk_16 31 (dk_at dksL_law_1 14 rfl rfl)
theorem dL_law_39 : decode cL_law 39 = .ok (.iand, 1) := dk_126 (dk_at dksL_law_1 16 rfl rfl)
theorem dL_law_40 : decode cL_law 40 = .ok (.tableswitch 831 0 16 #[84, 97, 153, 209, 234, 247, 303, 421, 477, 533, 581, 637, 662, 687, 723, 734, 775], 84) := by decide +kernel
theorem dL_law_124 : decode cL_law 124 = .ok (.aload_n 1, 1) := dk_43 (dk_at dksL_law_3 0 rfl rfl)
theorem dL_law_125 : decode cL_law 125 = .ok (.invokevirtual 53, 3) := dk_182 0 53 (dk_at dksL_law_3 1 rfl rfl)
theorem dL_law_128 : decode cL_law 128 = .ok (.aload_n 2, 1) := dk_44 (dk_at dksL_law_3 4 rfl rfl)
theorem dL_law_129 : decode cL_law 129 = .ok (.invokevirtual 57, 3) := dk_182 0 57 (dk_at dksL_law_3 5 rfl rfl)
theorem dL_law_132 : decode cL_law 132 = .ok (.if_icmp .eq 739, 3) := dk_159 2 227 (dk_at dksL_law_3 8 rfl rfl)
theorem dL_law_135 : decode cL_law 135 = .ok (.iconst 0, 1) := dk_3 (dk_at dksL_law_3 11 rfl rfl)
theorem dL_law_136 : decode cL_law 136 = .ok (.ireturn, 1) := dk_172 (dk_at dksL_law_3 12 rfl rfl)
theorem dL_law_137 : decode cL_law 137 = .ok (.aload_n 1, 1) := dk_43 (dk_at dksL_law_3 13 rfl rfl)
theorem dL_law_138 : decode cL_law 138 = .ok (.aload_n 0, 1) := dk_42 (dk_at dksL_law_3 14 rfl rfl)
theorem dL_law_139 : decode cL_law 139 = .ok (.iload 4, 2) := dk_21 4 (dk_at dksL_law_3 15 rfl rfl)
theorem dL_law_141 : decode cL_law 141 = .ok (.iconst 1, 1) := dk_4 (dk_at dksL_law_3 17 rfl rfl)
theorem dL_law_142 : decode cL_law 142 = .ok (.iadd, 1) := dk_96 (dk_at dksL_law_3 18 rfl rfl)
theorem dL_law_143 : decode cL_law 143 = .ok (.iaload, 1) := dk_46 (dk_at dksL_law_3 19 rfl rfl)
theorem dL_law_144 : decode cL_law 144 = .ok (.aload_n 3, 1) := dk_45 (dk_at dksL_law_3 20 rfl rfl)
theorem dL_law_145 : decode cL_law 145 = .ok (.invokestatic 58, 3) := dk_184 0 58 (dk_at dksL_law_3 21 rfl rfl)
theorem dL_law_148 : decode cL_law 148 = .ok (.istore 5, 2) := dk_54 5 (dk_at dksL_law_4 0 rfl rfl)
theorem dL_law_150 : decode cL_law 150 = .ok (.aload_n 2, 1) := dk_44 (dk_at dksL_law_4 2 rfl rfl)
theorem dL_law_151 : decode cL_law 151 = .ok (.aload_n 0, 1) := dk_42 (dk_at dksL_law_4 3 rfl rfl)
theorem dL_law_152 : decode cL_law 152 = .ok (.iload 4, 2) := dk_21 4 (dk_at dksL_law_4 4 rfl rfl)
theorem dL_law_154 : decode cL_law 154 = .ok (.iconst 1, 1) := dk_4 (dk_at dksL_law_4 6 rfl rfl)
theorem dL_law_155 : decode cL_law 155 = .ok (.iadd, 1) := dk_96 (dk_at dksL_law_4 7 rfl rfl)
theorem dL_law_156 : decode cL_law 156 = .ok (.iaload, 1) := dk_46 (dk_at dksL_law_4 8 rfl rfl)
theorem dL_law_157 : decode cL_law 157 = .ok (.invokevirtual 63, 3) := dk_182 0 63 (dk_at dksL_law_4 9 rfl rfl)
theorem dL_law_160 : decode cL_law 160 = .ok (.istore 6, 2) := dk_54 6 (dk_at dksL_law_4 12 rfl rfl)
theorem dL_law_162 : decode cL_law 162 = .ok (.aload_n 2, 1) := dk_44 (dk_at dksL_law_4 14 rfl rfl)
theorem dL_law_163 : decode cL_law 163 = .ok (.invokevirtual 64, 3) := dk_182 0 64 (dk_at dksL_law_4 15 rfl rfl)
theorem dL_law_166 : decode cL_law 166 = .ok (.iload 5, 2) := dk_21 5 (dk_at dksL_law_4 18 rfl rfl)
theorem dL_law_168 : decode cL_law 168 = .ok (.if_icmp .eq 5, 3) := dk_159 0 5 (dk_at dksL_law_4 20 rfl rfl)
theorem dL_law_171 : decode cL_law 171 = .ok (.iconst 0, 1) := dk_3 (dk_at dksL_law_4 23 rfl rfl)
theorem dL_law_172 : decode cL_law 172 = .ok (.ireturn, 1) := dk_172 (dk_at dksL_law_5 0 rfl rfl)
theorem dL_law_173 : decode cL_law 173 = .ok (.iload 5, 2) := dk_21 5 (dk_at dksL_law_5 1 rfl rfl)
theorem dL_law_175 : decode cL_law 175 = .ok (.ifCond .ne 15, 3) := dk_154 0 15 (dk_at dksL_law_5 3 rfl rfl)
theorem dL_law_178 : decode cL_law 178 = .ok (.aload_n 3, 1) := dk_45 (dk_at dksL_law_5 6 rfl rfl)
theorem dL_law_179 : decode cL_law 179 = .ok (.iconst 0, 1) := dk_3 (dk_at dksL_law_5 7 rfl rfl)
theorem dL_law_180 : decode cL_law 180 = .ok (.laload, 1) := dk_47 (dk_at dksL_law_5 8 rfl rfl)
theorem dL_law_181 : decode cL_law 181 = .ok (.iload 6, 2) := dk_21 6 (dk_at dksL_law_5 9 rfl rfl)
theorem dL_law_183 : decode cL_law 183 = .ok (.i2l, 1) := dk_133 (dk_at dksL_law_5 11 rfl rfl)
theorem dL_law_184 : decode cL_law 184 = .ok (.lcmp, 1) := dk_148 (dk_at dksL_law_5 12 rfl rfl)
theorem dL_law_185 : decode cL_law 185 = .ok (.ifCond .eq 5, 3) := dk_153 0 5 (dk_at dksL_law_5 13 rfl rfl)
theorem dL_law_188 : decode cL_law 188 = .ok (.iconst 0, 1) := dk_3 (dk_at dksL_law_5 16 rfl rfl)
theorem dL_law_189 : decode cL_law 189 = .ok (.ireturn, 1) := dk_172 (dk_at dksL_law_5 17 rfl rfl)
theorem dL_law_190 : decode cL_law 190 = .ok (.goto 681, 3) := dk_167 2 169 (dk_at dksL_law_5 18 rfl rfl)
theorem dL_law_193 : decode cL_law 193 = .ok (.aload_n 1, 1) := dk_43 (dk_at dksL_law_5 21 rfl rfl)
theorem dL_law_194 : decode cL_law 194 = .ok (.aload_n 0, 1) := dk_42 (dk_at dksL_law_5 22 rfl rfl)
theorem dL_law_195 : decode cL_law 195 = .ok (.iload 4, 2) := dk_21 4 (dk_at dksL_law_6 0 rfl rfl)
theorem dL_law_197 : decode cL_law 197 = .ok (.iconst 1, 1) := dk_4 (dk_at dksL_law_6 2 rfl rfl)
theorem dL_law_198 : decode cL_law 198 = .ok (.iadd, 1) := dk_96 (dk_at dksL_law_6 3 rfl rfl)
theorem dL_law_199 : decode cL_law 199 = .ok (.iaload, 1) := dk_46 (dk_at dksL_law_6 4 rfl rfl)
theorem dL_law_200 : decode cL_law 200 = .ok (.aload_n 3, 1) := dk_45 (dk_at dksL_law_6 5 rfl rfl)
theorem dL_law_201 : decode cL_law 201 = .ok (.invokestatic 67, 3) := dk_184 0 67 (dk_at dksL_law_6 6 rfl rfl)
theorem dL_law_204 : decode cL_law 204 = .ok (.istore 5, 2) := dk_54 5 (dk_at dksL_law_6 9 rfl rfl)
theorem dL_law_206 : decode cL_law 206 = .ok (.aload_n 2, 1) := dk_44 (dk_at dksL_law_6 11 rfl rfl)
theorem dL_law_207 : decode cL_law 207 = .ok (.aload_n 0, 1) := dk_42 (dk_at dksL_law_6 12 rfl rfl)
theorem dL_law_208 : decode cL_law 208 = .ok (.iload 4, 2) := dk_21 4 (dk_at dksL_law_6 13 rfl rfl)
theorem dL_law_210 : decode cL_law 210 = .ok (.iconst 1, 1) := dk_4 (dk_at dksL_law_6 15 rfl rfl)
theorem dL_law_211 : decode cL_law 211 = .ok (.iadd, 1) := dk_96 (dk_at dksL_law_6 16 rfl rfl)
theorem dL_law_212 : decode cL_law 212 = .ok (.iaload, 1) := dk_46 (dk_at dksL_law_6 17 rfl rfl)
theorem dL_law_213 : decode cL_law 213 = .ok (.invokevirtual 69, 3) := dk_182 0 69 (dk_at dksL_law_6 18 rfl rfl)
theorem dL_law_216 : decode cL_law 216 = .ok (.istore 6, 2) := dk_54 6 (dk_at dksL_law_6 21 rfl rfl)
theorem dL_law_218 : decode cL_law 218 = .ok (.aload_n 2, 1) := dk_44 (dk_at dksL_law_6 23 rfl rfl)
theorem dL_law_219 : decode cL_law 219 = .ok (.invokevirtual 64, 3) := dk_182 0 64 (dk_at dksL_law_7 0 rfl rfl)
theorem dL_law_222 : decode cL_law 222 = .ok (.iload 5, 2) := dk_21 5 (dk_at dksL_law_7 3 rfl rfl)
theorem dL_law_224 : decode cL_law 224 = .ok (.if_icmp .eq 5, 3) := dk_159 0 5 (dk_at dksL_law_7 5 rfl rfl)
theorem dL_law_227 : decode cL_law 227 = .ok (.iconst 0, 1) := dk_3 (dk_at dksL_law_7 8 rfl rfl)
theorem dL_law_228 : decode cL_law 228 = .ok (.ireturn, 1) := dk_172 (dk_at dksL_law_7 9 rfl rfl)
theorem dL_law_229 : decode cL_law 229 = .ok (.iload 5, 2) := dk_21 5 (dk_at dksL_law_7 10 rfl rfl)
theorem dL_law_231 : decode cL_law 231 = .ok (.ifCond .ne 15, 3) := dk_154 0 15 (dk_at dksL_law_7 12 rfl rfl)
theorem dL_law_234 : decode cL_law 234 = .ok (.aload_n 3, 1) := dk_45 (dk_at dksL_law_7 15 rfl rfl)
theorem dL_law_235 : decode cL_law 235 = .ok (.iconst 0, 1) := dk_3 (dk_at dksL_law_7 16 rfl rfl)
theorem dL_law_236 : decode cL_law 236 = .ok (.laload, 1) := dk_47 (dk_at dksL_law_7 17 rfl rfl)
theorem dL_law_237 : decode cL_law 237 = .ok (.iload 6, 2) := dk_21 6 (dk_at dksL_law_7 18 rfl rfl)
theorem dL_law_239 : decode cL_law 239 = .ok (.i2l, 1) := dk_133 (dk_at dksL_law_7 20 rfl rfl)
theorem dL_law_240 : decode cL_law 240 = .ok (.lcmp, 1) := dk_148 (dk_at dksL_law_7 21 rfl rfl)
theorem dL_law_241 : decode cL_law 241 = .ok (.ifCond .eq 5, 3) := dk_153 0 5 (dk_at dksL_law_8 0 rfl rfl)
theorem dL_law_244 : decode cL_law 244 = .ok (.iconst 0, 1) := dk_3 (dk_at dksL_law_8 3 rfl rfl)
theorem dL_law_245 : decode cL_law 245 = .ok (.ireturn, 1) := dk_172 (dk_at dksL_law_8 4 rfl rfl)
theorem dL_law_246 : decode cL_law 246 = .ok (.goto 625, 3) := dk_167 2 113 (dk_at dksL_law_8 5 rfl rfl)
theorem dL_law_249 : decode cL_law 249 = .ok (.aload_n 1, 1) := dk_43 (dk_at dksL_law_8 8 rfl rfl)
theorem dL_law_250 : decode cL_law 250 = .ok (.aload_n 0, 1) := dk_42 (dk_at dksL_law_8 9 rfl rfl)
theorem dL_law_251 : decode cL_law 251 = .ok (.iload 4, 2) := dk_21 4 (dk_at dksL_law_8 10 rfl rfl)
theorem dL_law_253 : decode cL_law 253 = .ok (.iconst 1, 1) := dk_4 (dk_at dksL_law_8 12 rfl rfl)
theorem dL_law_254 : decode cL_law 254 = .ok (.iadd, 1) := dk_96 (dk_at dksL_law_8 13 rfl rfl)
theorem dL_law_255 : decode cL_law 255 = .ok (.iaload, 1) := dk_46 (dk_at dksL_law_8 14 rfl rfl)
theorem dL_law_256 : decode cL_law 256 = .ok (.invokevirtual 70, 3) := dk_182 0 70 (dk_at dksL_law_8 15 rfl rfl)
theorem dL_law_259 : decode cL_law 259 = .ok (.aload_n 2, 1) := dk_44 (dk_at dksL_law_8 18 rfl rfl)
theorem dL_law_260 : decode cL_law 260 = .ok (.aload_n 0, 1) := dk_42 (dk_at dksL_law_8 19 rfl rfl)
theorem dL_law_261 : decode cL_law 261 = .ok (.iload 4, 2) := dk_21 4 (dk_at dksL_law_8 20 rfl rfl)
theorem dL_law_263 : decode cL_law 263 = .ok (.iconst 1, 1) := dk_4 (dk_at dksL_law_8 22 rfl rfl)
theorem dL_law_264 : decode cL_law 264 = .ok (.iadd, 1) := dk_96 (dk_at dksL_law_8 23 rfl rfl)
theorem dL_law_265 : decode cL_law 265 = .ok (.iaload, 1) := dk_46 (dk_at dksL_law_9 0 rfl rfl)
theorem dL_law_266 : decode cL_law 266 = .ok (.invokevirtual 73, 3) := dk_182 0 73 (dk_at dksL_law_9 1 rfl rfl)
theorem dL_law_269 : decode cL_law 269 = .ok (.if_icmp .eq 602, 3) := dk_159 2 90 (dk_at dksL_law_9 4 rfl rfl)
theorem dL_law_272 : decode cL_law 272 = .ok (.iconst 0, 1) := dk_3 (dk_at dksL_law_9 7 rfl rfl)
theorem dL_law_273 : decode cL_law 273 = .ok (.ireturn, 1) := dk_172 (dk_at dksL_law_9 8 rfl rfl)
theorem dL_law_274 : decode cL_law 274 = .ok (.aload_n 1, 1) := dk_43 (dk_at dksL_law_9 9 rfl rfl)
theorem dL_law_275 : decode cL_law 275 = .ok (.invokevirtual 74, 3) := dk_182 0 74 (dk_at dksL_law_9 10 rfl rfl)
theorem dL_law_278 : decode cL_law 278 = .ok (.aload_n 2, 1) := dk_44 (dk_at dksL_law_9 13 rfl rfl)
theorem dL_law_279 : decode cL_law 279 = .ok (.invokevirtual 77, 3) := dk_182 0 77 (dk_at dksL_law_9 14 rfl rfl)
theorem dL_law_282 : decode cL_law 282 = .ok (.if_icmp .eq 589, 3) := dk_159 2 77 (dk_at dksL_law_9 17 rfl rfl)
theorem dL_law_285 : decode cL_law 285 = .ok (.iconst 0, 1) := dk_3 (dk_at dksL_law_9 20 rfl rfl)
theorem dL_law_286 : decode cL_law 286 = .ok (.ireturn, 1) := dk_172 (dk_at dksL_law_9 21 rfl rfl)
theorem dL_law_287 : decode cL_law 287 = .ok (.aload_n 1, 1) := dk_43 (dk_at dksL_law_9 22 rfl rfl)
theorem dL_law_288 : decode cL_law 288 = .ok (.aload_n 0, 1) := dk_42 (dk_at dksL_law_9 23 rfl rfl)
theorem dL_law_289 : decode cL_law 289 = .ok (.iload 4, 2) := dk_21 4 (dk_at dksL_law_10 0 rfl rfl)
theorem dL_law_291 : decode cL_law 291 = .ok (.iconst 1, 1) := dk_4 (dk_at dksL_law_10 2 rfl rfl)
theorem dL_law_292 : decode cL_law 292 = .ok (.iadd, 1) := dk_96 (dk_at dksL_law_10 3 rfl rfl)
theorem dL_law_293 : decode cL_law 293 = .ok (.iaload, 1) := dk_46 (dk_at dksL_law_10 4 rfl rfl)
theorem dL_law_294 : decode cL_law 294 = .ok (.aload_n 3, 1) := dk_45 (dk_at dksL_law_10 5 rfl rfl)
theorem dL_law_295 : decode cL_law 295 = .ok (.invokestatic 78, 3) := dk_184 0 78 (dk_at dksL_law_10 6 rfl rfl)
theorem dL_law_298 : decode cL_law 298 = .ok (.istore 5, 2) := dk_54 5 (dk_at dksL_law_10 9 rfl rfl)
theorem dL_law_300 : decode cL_law 300 = .ok (.aload_n 2, 1) := dk_44 (dk_at dksL_law_10 11 rfl rfl)
theorem dL_law_301 : decode cL_law 301 = .ok (.aload_n 0, 1) := dk_42 (dk_at dksL_law_10 12 rfl rfl)
theorem dL_law_302 : decode cL_law 302 = .ok (.iload 4, 2) := dk_21 4 (dk_at dksL_law_10 13 rfl rfl)
theorem dL_law_304 : decode cL_law 304 = .ok (.iconst 1, 1) := dk_4 (dk_at dksL_law_10 15 rfl rfl)
theorem dL_law_305 : decode cL_law 305 = .ok (.iadd, 1) := dk_96 (dk_at dksL_law_10 16 rfl rfl)
theorem dL_law_306 : decode cL_law 306 = .ok (.iaload, 1) := dk_46 (dk_at dksL_law_10 17 rfl rfl)
theorem dL_law_307 : decode cL_law 307 = .ok (.invokevirtual 80, 3) := dk_182 0 80 (dk_at dksL_law_10 18 rfl rfl)
theorem dL_law_310 : decode cL_law 310 = .ok (.istore 6, 2) := dk_54 6 (dk_at dksL_law_10 21 rfl rfl)
theorem dL_law_312 : decode cL_law 312 = .ok (.aload_n 2, 1) := dk_44 (dk_at dksL_law_10 23 rfl rfl)
theorem dL_law_313 : decode cL_law 313 = .ok (.invokevirtual 64, 3) := dk_182 0 64 (dk_at dksL_law_11 0 rfl rfl)
theorem dL_law_316 : decode cL_law 316 = .ok (.iload 5, 2) := dk_21 5 (dk_at dksL_law_11 3 rfl rfl)
theorem dL_law_318 : decode cL_law 318 = .ok (.if_icmp .eq 5, 3) := dk_159 0 5 (dk_at dksL_law_11 5 rfl rfl)
theorem dL_law_321 : decode cL_law 321 = .ok (.iconst 0, 1) := dk_3 (dk_at dksL_law_11 8 rfl rfl)
theorem dL_law_322 : decode cL_law 322 = .ok (.ireturn, 1) := dk_172 (dk_at dksL_law_11 9 rfl rfl)
theorem dL_law_323 : decode cL_law 323 = .ok (.iload 5, 2) := dk_21 5 (dk_at dksL_law_11 10 rfl rfl)
theorem dL_law_325 : decode cL_law 325 = .ok (.ifCond .ne 15, 3) := dk_154 0 15 (dk_at dksL_law_11 12 rfl rfl)
theorem dL_law_328 : decode cL_law 328 = .ok (.aload_n 3, 1) := dk_45 (dk_at dksL_law_11 15 rfl rfl)
theorem dL_law_329 : decode cL_law 329 = .ok (.iconst 0, 1) := dk_3 (dk_at dksL_law_11 16 rfl rfl)
theorem dL_law_330 : decode cL_law 330 = .ok (.laload, 1) := dk_47 (dk_at dksL_law_11 17 rfl rfl)
theorem dL_law_331 : decode cL_law 331 = .ok (.iload 6, 2) := dk_21 6 (dk_at dksL_law_11 18 rfl rfl)
theorem dL_law_333 : decode cL_law 333 = .ok (.i2l, 1) := dk_133 (dk_at dksL_law_11 20 rfl rfl)
theorem dL_law_334 : decode cL_law 334 = .ok (.lcmp, 1) := dk_148 (dk_at dksL_law_11 21 rfl rfl)
theorem dL_law_335 : decode cL_law 335 = .ok (.ifCond .eq 5, 3) := dk_153 0 5 (dk_at dksL_law_12 0 rfl rfl)
theorem dL_law_338 : decode cL_law 338 = .ok (.iconst 0, 1) := dk_3 (dk_at dksL_law_12 3 rfl rfl)
theorem dL_law_339 : decode cL_law 339 = .ok (.ireturn, 1) := dk_172 (dk_at dksL_law_12 4 rfl rfl)
theorem dL_law_340 : decode cL_law 340 = .ok (.goto 531, 3) := dk_167 2 19 (dk_at dksL_law_12 5 rfl rfl)
theorem dL_law_343 : decode cL_law 343 = .ok (.aload_n 1, 1) := dk_43 (dk_at dksL_law_12 8 rfl rfl)
theorem dL_law_344 : decode cL_law 344 = .ok (.aload_n 0, 1) := dk_42 (dk_at dksL_law_12 9 rfl rfl)
theorem dL_law_345 : decode cL_law 345 = .ok (.iload 4, 2) := dk_21 4 (dk_at dksL_law_12 10 rfl rfl)
theorem dL_law_347 : decode cL_law 347 = .ok (.iconst 1, 1) := dk_4 (dk_at dksL_law_12 12 rfl rfl)
theorem dL_law_348 : decode cL_law 348 = .ok (.iadd, 1) := dk_96 (dk_at dksL_law_12 13 rfl rfl)
theorem dL_law_349 : decode cL_law 349 = .ok (.iaload, 1) := dk_46 (dk_at dksL_law_12 14 rfl rfl)
theorem dL_law_350 : decode cL_law 350 = .ok (.aload_n 0, 1) := dk_42 (dk_at dksL_law_12 15 rfl rfl)
theorem dL_law_351 : decode cL_law 351 = .ok (.iload 4, 2) := dk_21 4 (dk_at dksL_law_12 16 rfl rfl)
theorem dL_law_353 : decode cL_law 353 = .ok (.iconst 2, 1) := dk_5 (dk_at dksL_law_12 18 rfl rfl)
theorem dL_law_354 : decode cL_law 354 = .ok (.iadd, 1) := dk_96 (dk_at dksL_law_12 19 rfl rfl)
theorem dL_law_355 : decode cL_law 355 = .ok (.iaload, 1) := dk_46 (dk_at dksL_law_12 20 rfl rfl)
theorem dL_law_356 : decode cL_law 356 = .ok (.aload_n 0, 1) := dk_42 (dk_at dksL_law_12 21 rfl rfl)
theorem dL_law_357 : decode cL_law 357 = .ok (.iload 4, 2) := dk_21 4 (dk_at dksL_law_12 22 rfl rfl)
theorem dL_law_359 : decode cL_law 359 = .ok (.iconst 3, 1) := dk_6 (dk_at dksL_law_13 0 rfl rfl)
theorem dL_law_360 : decode cL_law 360 = .ok (.iadd, 1) := dk_96 (dk_at dksL_law_13 1 rfl rfl)
theorem dL_law_361 : decode cL_law 361 = .ok (.iaload, 1) := dk_46 (dk_at dksL_law_13 2 rfl rfl)
theorem dL_law_362 : decode cL_law 362 = .ok (.aload_n 0, 1) := dk_42 (dk_at dksL_law_13 3 rfl rfl)
theorem dL_law_363 : decode cL_law 363 = .ok (.iload 4, 2) := dk_21 4 (dk_at dksL_law_13 4 rfl rfl)
theorem dL_law_365 : decode cL_law 365 = .ok (.iconst 4, 1) := dk_7 (dk_at dksL_law_13 6 rfl rfl)
theorem dL_law_366 : decode cL_law 366 = .ok (.iadd, 1) := dk_96 (dk_at dksL_law_13 7 rfl rfl)
theorem dL_law_367 : decode cL_law 367 = .ok (.iaload, 1) := dk_46 (dk_at dksL_law_13 8 rfl rfl)
theorem dL_law_368 : decode cL_law 368 = .ok (.aload_n 0, 1) := dk_42 (dk_at dksL_law_13 9 rfl rfl)
theorem dL_law_369 : decode cL_law 369 = .ok (.iload 4, 2) := dk_21 4 (dk_at dksL_law_13 10 rfl rfl)
theorem dL_law_371 : decode cL_law 371 = .ok (.iconst 5, 1) := dk_8 (dk_at dksL_law_13 12 rfl rfl)
theorem dL_law_372 : decode cL_law 372 = .ok (.iadd, 1) := dk_96 (dk_at dksL_law_13 13 rfl rfl)
theorem dL_law_373 : decode cL_law 373 = .ok (.iaload, 1) := dk_46 (dk_at dksL_law_13 14 rfl rfl)
theorem dL_law_374 : decode cL_law 374 = .ok (.aload_n 0, 1) := dk_42 (dk_at dksL_law_13 15 rfl rfl)
theorem dL_law_375 : decode cL_law 375 = .ok (.iload 4, 2) := dk_21 4 (dk_at dksL_law_13 16 rfl rfl)
theorem dL_law_377 : decode cL_law 377 = .ok (.bipush 6, 2) := dk_16 6 (dk_at dksL_law_13 18 rfl rfl)
theorem dL_law_379 : decode cL_law 379 = .ok (.iadd, 1) := dk_96 (dk_at dksL_law_13 20 rfl rfl)
theorem dL_law_380 : decode cL_law 380 = .ok (.iaload, 1) := dk_46 (dk_at dksL_law_13 21 rfl rfl)
theorem dL_law_381 : decode cL_law 381 = .ok (.aload_n 3, 1) := dk_45 (dk_at dksL_law_13 22 rfl rfl)
theorem dL_law_382 : decode cL_law 382 = .ok (.invokestatic 81, 3) := dk_184 0 81 (dk_at dksL_law_14 0 rfl rfl)
theorem dL_law_385 : decode cL_law 385 = .ok (.istore 5, 2) := dk_54 5 (dk_at dksL_law_14 3 rfl rfl)
theorem dL_law_387 : decode cL_law 387 = .ok (.aload_n 2, 1) := dk_44 (dk_at dksL_law_14 5 rfl rfl)
theorem dL_law_388 : decode cL_law 388 = .ok (.aload_n 0, 1) := dk_42 (dk_at dksL_law_14 6 rfl rfl)
theorem dL_law_389 : decode cL_law 389 = .ok (.iload 4, 2) := dk_21 4 (dk_at dksL_law_14 7 rfl rfl)
theorem dL_law_391 : decode cL_law 391 = .ok (.iconst 1, 1) := dk_4 (dk_at dksL_law_14 9 rfl rfl)
theorem dL_law_392 : decode cL_law 392 = .ok (.iadd, 1) := dk_96 (dk_at dksL_law_14 10 rfl rfl)
theorem dL_law_393 : decode cL_law 393 = .ok (.iaload, 1) := dk_46 (dk_at dksL_law_14 11 rfl rfl)
theorem dL_law_394 : decode cL_law 394 = .ok (.aload_n 0, 1) := dk_42 (dk_at dksL_law_14 12 rfl rfl)
theorem dL_law_395 : decode cL_law 395 = .ok (.iload 4, 2) := dk_21 4 (dk_at dksL_law_14 13 rfl rfl)
theorem dL_law_397 : decode cL_law 397 = .ok (.iconst 2, 1) := dk_5 (dk_at dksL_law_14 15 rfl rfl)
theorem dL_law_398 : decode cL_law 398 = .ok (.iadd, 1) := dk_96 (dk_at dksL_law_14 16 rfl rfl)
theorem dL_law_399 : decode cL_law 399 = .ok (.iaload, 1) := dk_46 (dk_at dksL_law_14 17 rfl rfl)
theorem dL_law_400 : decode cL_law 400 = .ok (.aload_n 0, 1) := dk_42 (dk_at dksL_law_14 18 rfl rfl)
theorem dL_law_401 : decode cL_law 401 = .ok (.iload 4, 2) := dk_21 4 (dk_at dksL_law_14 19 rfl rfl)
theorem dL_law_403 : decode cL_law 403 = .ok (.iconst 3, 1) := dk_6 (dk_at dksL_law_14 21 rfl rfl)
theorem dL_law_404 : decode cL_law 404 = .ok (.iadd, 1) := dk_96 (dk_at dksL_law_14 22 rfl rfl)
theorem dL_law_405 : decode cL_law 405 = .ok (.iaload, 1) := dk_46 (dk_at dksL_law_14 23 rfl rfl)
theorem dL_law_406 : decode cL_law 406 = .ok (.aload_n 0, 1) := dk_42 (dk_at dksL_law_15 0 rfl rfl)
theorem dL_law_407 : decode cL_law 407 = .ok (.iload 4, 2) := dk_21 4 (dk_at dksL_law_15 1 rfl rfl)
theorem dL_law_409 : decode cL_law 409 = .ok (.iconst 4, 1) := dk_7 (dk_at dksL_law_15 3 rfl rfl)
theorem dL_law_410 : decode cL_law 410 = .ok (.iadd, 1) := dk_96 (dk_at dksL_law_15 4 rfl rfl)
theorem dL_law_411 : decode cL_law 411 = .ok (.iaload, 1) := dk_46 (dk_at dksL_law_15 5 rfl rfl)
theorem dL_law_412 : decode cL_law 412 = .ok (.aload_n 0, 1) := dk_42 (dk_at dksL_law_15 6 rfl rfl)
theorem dL_law_413 : decode cL_law 413 = .ok (.iload 4, 2) := dk_21 4 (dk_at dksL_law_15 7 rfl rfl)
theorem dL_law_415 : decode cL_law 415 = .ok (.iconst 5, 1) := dk_8 (dk_at dksL_law_15 9 rfl rfl)
theorem dL_law_416 : decode cL_law 416 = .ok (.iadd, 1) := dk_96 (dk_at dksL_law_15 10 rfl rfl)
theorem dL_law_417 : decode cL_law 417 = .ok (.iaload, 1) := dk_46 (dk_at dksL_law_15 11 rfl rfl)
theorem dL_law_418 : decode cL_law 418 = .ok (.aload_n 0, 1) := dk_42 (dk_at dksL_law_15 12 rfl rfl)
theorem dL_law_419 : decode cL_law 419 = .ok (.iload 4, 2) := dk_21 4 (dk_at dksL_law_15 13 rfl rfl)
theorem dL_law_421 : decode cL_law 421 = .ok (.bipush 6, 2) := dk_16 6 (dk_at dksL_law_15 15 rfl rfl)
theorem dL_law_423 : decode cL_law 423 = .ok (.iadd, 1) := dk_96 (dk_at dksL_law_15 17 rfl rfl)
theorem dL_law_424 : decode cL_law 424 = .ok (.iaload, 1) := dk_46 (dk_at dksL_law_15 18 rfl rfl)
theorem dL_law_425 : decode cL_law 425 = .ok (.invokevirtual 84, 3) := dk_182 0 84 (dk_at dksL_law_15 19 rfl rfl)
theorem dL_law_428 : decode cL_law 428 = .ok (.istore 6, 2) := dk_54 6 (dk_at dksL_law_15 22 rfl rfl)
theorem dL_law_430 : decode cL_law 430 = .ok (.aload_n 2, 1) := dk_44 (dk_at dksL_law_16 0 rfl rfl)
theorem dL_law_431 : decode cL_law 431 = .ok (.invokevirtual 64, 3) := dk_182 0 64 (dk_at dksL_law_16 1 rfl rfl)
theorem dL_law_434 : decode cL_law 434 = .ok (.iload 5, 2) := dk_21 5 (dk_at dksL_law_16 4 rfl rfl)
theorem dL_law_436 : decode cL_law 436 = .ok (.if_icmp .eq 5, 3) := dk_159 0 5 (dk_at dksL_law_16 6 rfl rfl)
theorem dL_law_439 : decode cL_law 439 = .ok (.iconst 0, 1) := dk_3 (dk_at dksL_law_16 9 rfl rfl)
theorem dL_law_440 : decode cL_law 440 = .ok (.ireturn, 1) := dk_172 (dk_at dksL_law_16 10 rfl rfl)
theorem dL_law_441 : decode cL_law 441 = .ok (.iload 5, 2) := dk_21 5 (dk_at dksL_law_16 11 rfl rfl)
theorem dL_law_443 : decode cL_law 443 = .ok (.ifCond .ne 15, 3) := dk_154 0 15 (dk_at dksL_law_16 13 rfl rfl)
theorem dL_law_446 : decode cL_law 446 = .ok (.aload_n 3, 1) := dk_45 (dk_at dksL_law_16 16 rfl rfl)
theorem dL_law_447 : decode cL_law 447 = .ok (.iconst 0, 1) := dk_3 (dk_at dksL_law_16 17 rfl rfl)
theorem dL_law_448 : decode cL_law 448 = .ok (.laload, 1) := dk_47 (dk_at dksL_law_16 18 rfl rfl)
theorem dL_law_449 : decode cL_law 449 = .ok (.iload 6, 2) := dk_21 6 (dk_at dksL_law_16 19 rfl rfl)
theorem dL_law_451 : decode cL_law 451 = .ok (.i2l, 1) := dk_133 (dk_at dksL_law_16 21 rfl rfl)
theorem dL_law_452 : decode cL_law 452 = .ok (.lcmp, 1) := dk_148 (dk_at dksL_law_16 22 rfl rfl)
theorem dL_law_453 : decode cL_law 453 = .ok (.ifCond .eq 5, 3) := dk_153 0 5 (dk_at dksL_law_17 0 rfl rfl)
theorem dL_law_456 : decode cL_law 456 = .ok (.iconst 0, 1) := dk_3 (dk_at dksL_law_17 3 rfl rfl)
theorem dL_law_457 : decode cL_law 457 = .ok (.ireturn, 1) := dk_172 (dk_at dksL_law_17 4 rfl rfl)
theorem dL_law_458 : decode cL_law 458 = .ok (.goto 413, 3) := dk_167 1 157 (dk_at dksL_law_17 5 rfl rfl)
theorem dL_law_461 : decode cL_law 461 = .ok (.aload_n 1, 1) := dk_43 (dk_at dksL_law_17 8 rfl rfl)
theorem dL_law_462 : decode cL_law 462 = .ok (.aload_n 0, 1) := dk_42 (dk_at dksL_law_17 9 rfl rfl)
theorem dL_law_463 : decode cL_law 463 = .ok (.iload 4, 2) := dk_21 4 (dk_at dksL_law_17 10 rfl rfl)
theorem dL_law_465 : decode cL_law 465 = .ok (.iconst 1, 1) := dk_4 (dk_at dksL_law_17 12 rfl rfl)
theorem dL_law_466 : decode cL_law 466 = .ok (.iadd, 1) := dk_96 (dk_at dksL_law_17 13 rfl rfl)
theorem dL_law_467 : decode cL_law 467 = .ok (.iaload, 1) := dk_46 (dk_at dksL_law_17 14 rfl rfl)
theorem dL_law_468 : decode cL_law 468 = .ok (.aload_n 3, 1) := dk_45 (dk_at dksL_law_17 15 rfl rfl)
theorem dL_law_469 : decode cL_law 469 = .ok (.invokestatic 85, 3) := dk_184 0 85 (dk_at dksL_law_17 16 rfl rfl)
theorem dL_law_472 : decode cL_law 472 = .ok (.istore 5, 2) := dk_54 5 (dk_at dksL_law_17 19 rfl rfl)
theorem dL_law_474 : decode cL_law 474 = .ok (.aload_n 2, 1) := dk_44 (dk_at dksL_law_17 21 rfl rfl)
theorem dL_law_475 : decode cL_law 475 = .ok (.aload_n 0, 1) := dk_42 (dk_at dksL_law_17 22 rfl rfl)
theorem dL_law_476 : decode cL_law 476 = .ok (.iload 4, 2) := dk_21 4 (dk_at dksL_law_18 0 rfl rfl)
theorem dL_law_478 : decode cL_law 478 = .ok (.iconst 1, 1) := dk_4 (dk_at dksL_law_18 2 rfl rfl)
theorem dL_law_479 : decode cL_law 479 = .ok (.iadd, 1) := dk_96 (dk_at dksL_law_18 3 rfl rfl)
theorem dL_law_480 : decode cL_law 480 = .ok (.iaload, 1) := dk_46 (dk_at dksL_law_18 4 rfl rfl)
theorem dL_law_481 : decode cL_law 481 = .ok (.invokevirtual 87, 3) := dk_182 0 87 (dk_at dksL_law_18 5 rfl rfl)
theorem dL_law_484 : decode cL_law 484 = .ok (.istore 6, 2) := dk_54 6 (dk_at dksL_law_18 8 rfl rfl)
theorem dL_law_486 : decode cL_law 486 = .ok (.aload_n 2, 1) := dk_44 (dk_at dksL_law_18 10 rfl rfl)
theorem dL_law_487 : decode cL_law 487 = .ok (.invokevirtual 64, 3) := dk_182 0 64 (dk_at dksL_law_18 11 rfl rfl)
theorem dL_law_490 : decode cL_law 490 = .ok (.iload 5, 2) := dk_21 5 (dk_at dksL_law_18 14 rfl rfl)
theorem dL_law_492 : decode cL_law 492 = .ok (.if_icmp .eq 5, 3) := dk_159 0 5 (dk_at dksL_law_18 16 rfl rfl)
theorem dL_law_495 : decode cL_law 495 = .ok (.iconst 0, 1) := dk_3 (dk_at dksL_law_18 19 rfl rfl)
theorem dL_law_496 : decode cL_law 496 = .ok (.ireturn, 1) := dk_172 (dk_at dksL_law_18 20 rfl rfl)
theorem dL_law_497 : decode cL_law 497 = .ok (.iload 5, 2) := dk_21 5 (dk_at dksL_law_18 21 rfl rfl)
theorem dL_law_499 : decode cL_law 499 = .ok (.ifCond .ne 15, 3) := dk_154 0 15 (dk_at dksL_law_19 0 rfl rfl)
theorem dL_law_502 : decode cL_law 502 = .ok (.aload_n 3, 1) := dk_45 (dk_at dksL_law_19 3 rfl rfl)
theorem dL_law_503 : decode cL_law 503 = .ok (.iconst 0, 1) := dk_3 (dk_at dksL_law_19 4 rfl rfl)
theorem dL_law_504 : decode cL_law 504 = .ok (.laload, 1) := dk_47 (dk_at dksL_law_19 5 rfl rfl)
theorem dL_law_505 : decode cL_law 505 = .ok (.iload 6, 2) := dk_21 6 (dk_at dksL_law_19 6 rfl rfl)
theorem dL_law_507 : decode cL_law 507 = .ok (.i2l, 1) := dk_133 (dk_at dksL_law_19 8 rfl rfl)
theorem dL_law_508 : decode cL_law 508 = .ok (.lcmp, 1) := dk_148 (dk_at dksL_law_19 9 rfl rfl)
theorem dL_law_509 : decode cL_law 509 = .ok (.ifCond .eq 5, 3) := dk_153 0 5 (dk_at dksL_law_19 10 rfl rfl)
theorem dL_law_512 : decode cL_law 512 = .ok (.iconst 0, 1) := dk_3 (dk_at dksL_law_19 13 rfl rfl)
theorem dL_law_513 : decode cL_law 513 = .ok (.ireturn, 1) := dk_172 (dk_at dksL_law_19 14 rfl rfl)
theorem dL_law_514 : decode cL_law 514 = .ok (.goto 357, 3) := dk_167 1 101 (dk_at dksL_law_19 15 rfl rfl)
theorem dL_law_517 : decode cL_law 517 = .ok (.aload_n 1, 1) := dk_43 (dk_at dksL_law_19 18 rfl rfl)
theorem dL_law_518 : decode cL_law 518 = .ok (.aload_n 0, 1) := dk_42 (dk_at dksL_law_19 19 rfl rfl)
theorem dL_law_519 : decode cL_law 519 = .ok (.iload 4, 2) := dk_21 4 (dk_at dksL_law_19 20 rfl rfl)
theorem dL_law_521 : decode cL_law 521 = .ok (.iconst 1, 1) := dk_4 (dk_at dksL_law_19 22 rfl rfl)
theorem dL_law_522 : decode cL_law 522 = .ok (.iadd, 1) := dk_96 (dk_at dksL_law_19 23 rfl rfl)
theorem dL_law_523 : decode cL_law 523 = .ok (.iaload, 1) := dk_46 (dk_at dksL_law_20 0 rfl rfl)
theorem dL_law_524 : decode cL_law 524 = .ok (.aload_n 3, 1) := dk_45 (dk_at dksL_law_20 1 rfl rfl)
theorem dL_law_525 : decode cL_law 525 = .ok (.invokestatic 88, 3) := dk_184 0 88 (dk_at dksL_law_20 2 rfl rfl)
theorem dL_law_528 : decode cL_law 528 = .ok (.istore 5, 2) := dk_54 5 (dk_at dksL_law_20 5 rfl rfl)
theorem dL_law_530 : decode cL_law 530 = .ok (.aload_n 2, 1) := dk_44 (dk_at dksL_law_20 7 rfl rfl)
theorem dL_law_531 : decode cL_law 531 = .ok (.aload_n 0, 1) := dk_42 (dk_at dksL_law_20 8 rfl rfl)
theorem dL_law_532 : decode cL_law 532 = .ok (.iload 4, 2) := dk_21 4 (dk_at dksL_law_20 9 rfl rfl)
theorem dL_law_534 : decode cL_law 534 = .ok (.iconst 1, 1) := dk_4 (dk_at dksL_law_20 11 rfl rfl)
theorem dL_law_535 : decode cL_law 535 = .ok (.iadd, 1) := dk_96 (dk_at dksL_law_20 12 rfl rfl)
theorem dL_law_536 : decode cL_law 536 = .ok (.iaload, 1) := dk_46 (dk_at dksL_law_20 13 rfl rfl)
theorem dL_law_537 : decode cL_law 537 = .ok (.invokevirtual 90, 3) := dk_182 0 90 (dk_at dksL_law_20 14 rfl rfl)
theorem dL_law_540 : decode cL_law 540 = .ok (.istore 6, 2) := dk_54 6 (dk_at dksL_law_20 17 rfl rfl)
theorem dL_law_542 : decode cL_law 542 = .ok (.aload_n 2, 1) := dk_44 (dk_at dksL_law_20 19 rfl rfl)
theorem dL_law_543 : decode cL_law 543 = .ok (.invokevirtual 64, 3) := dk_182 0 64 (dk_at dksL_law_20 20 rfl rfl)
theorem dL_law_546 : decode cL_law 546 = .ok (.iload 5, 2) := dk_21 5 (dk_at dksL_law_21 0 rfl rfl)
theorem dL_law_548 : decode cL_law 548 = .ok (.if_icmp .eq 5, 3) := dk_159 0 5 (dk_at dksL_law_21 2 rfl rfl)
theorem dL_law_551 : decode cL_law 551 = .ok (.iconst 0, 1) := dk_3 (dk_at dksL_law_21 5 rfl rfl)
theorem dL_law_552 : decode cL_law 552 = .ok (.ireturn, 1) := dk_172 (dk_at dksL_law_21 6 rfl rfl)
theorem dL_law_553 : decode cL_law 553 = .ok (.iload 5, 2) := dk_21 5 (dk_at dksL_law_21 7 rfl rfl)
theorem dL_law_555 : decode cL_law 555 = .ok (.ifCond .ne 15, 3) := dk_154 0 15 (dk_at dksL_law_21 9 rfl rfl)
theorem dL_law_558 : decode cL_law 558 = .ok (.aload_n 3, 1) := dk_45 (dk_at dksL_law_21 12 rfl rfl)
theorem dL_law_559 : decode cL_law 559 = .ok (.iconst 0, 1) := dk_3 (dk_at dksL_law_21 13 rfl rfl)
theorem dL_law_560 : decode cL_law 560 = .ok (.laload, 1) := dk_47 (dk_at dksL_law_21 14 rfl rfl)
theorem dL_law_561 : decode cL_law 561 = .ok (.iload 6, 2) := dk_21 6 (dk_at dksL_law_21 15 rfl rfl)
theorem dL_law_563 : decode cL_law 563 = .ok (.i2l, 1) := dk_133 (dk_at dksL_law_21 17 rfl rfl)
theorem dL_law_564 : decode cL_law 564 = .ok (.lcmp, 1) := dk_148 (dk_at dksL_law_21 18 rfl rfl)
theorem dL_law_565 : decode cL_law 565 = .ok (.ifCond .eq 5, 3) := dk_153 0 5 (dk_at dksL_law_21 19 rfl rfl)
theorem dL_law_568 : decode cL_law 568 = .ok (.iconst 0, 1) := dk_3 (dk_at dksL_law_21 22 rfl rfl)
theorem dL_law_569 : decode cL_law 569 = .ok (.ireturn, 1) := dk_172 (dk_at dksL_law_21 23 rfl rfl)
theorem dL_law_570 : decode cL_law 570 = .ok (.goto 301, 3) := dk_167 1 45 (dk_at dksL_law_22 0 rfl rfl)
theorem dL_law_573 : decode cL_law 573 = .ok (.aload_n 1, 1) := dk_43 (dk_at dksL_law_22 3 rfl rfl)
theorem dL_law_574 : decode cL_law 574 = .ok (.aload_n 0, 1) := dk_42 (dk_at dksL_law_22 4 rfl rfl)
theorem dL_law_575 : decode cL_law 575 = .ok (.iload 4, 2) := dk_21 4 (dk_at dksL_law_22 5 rfl rfl)
theorem dL_law_577 : decode cL_law 577 = .ok (.iconst 1, 1) := dk_4 (dk_at dksL_law_22 7 rfl rfl)
theorem dL_law_578 : decode cL_law 578 = .ok (.iadd, 1) := dk_96 (dk_at dksL_law_22 8 rfl rfl)
theorem dL_law_579 : decode cL_law 579 = .ok (.iaload, 1) := dk_46 (dk_at dksL_law_22 9 rfl rfl)
theorem dL_law_580 : decode cL_law 580 = .ok (.aload_n 0, 1) := dk_42 (dk_at dksL_law_22 10 rfl rfl)
theorem dL_law_581 : decode cL_law 581 = .ok (.iload 4, 2) := dk_21 4 (dk_at dksL_law_22 11 rfl rfl)
theorem dL_law_583 : decode cL_law 583 = .ok (.iconst 2, 1) := dk_5 (dk_at dksL_law_22 13 rfl rfl)
theorem dL_law_584 : decode cL_law 584 = .ok (.iadd, 1) := dk_96 (dk_at dksL_law_22 14 rfl rfl)
theorem dL_law_585 : decode cL_law 585 = .ok (.iaload, 1) := dk_46 (dk_at dksL_law_22 15 rfl rfl)
theorem dL_law_586 : decode cL_law 586 = .ok (.invokestatic 91, 3) := dk_184 0 91 (dk_at dksL_law_22 16 rfl rfl)
theorem dL_law_589 : decode cL_law 589 = .ok (.istore 5, 2) := dk_54 5 (dk_at dksL_law_22 19 rfl rfl)
theorem dL_law_591 : decode cL_law 591 = .ok (.aload_n 2, 1) := dk_44 (dk_at dksL_law_22 21 rfl rfl)
theorem dL_law_592 : decode cL_law 592 = .ok (.aload_n 0, 1) := dk_42 (dk_at dksL_law_22 22 rfl rfl)
theorem dL_law_593 : decode cL_law 593 = .ok (.iload 4, 2) := dk_21 4 (dk_at dksL_law_23 0 rfl rfl)
theorem dL_law_595 : decode cL_law 595 = .ok (.iconst 1, 1) := dk_4 (dk_at dksL_law_23 2 rfl rfl)
theorem dL_law_596 : decode cL_law 596 = .ok (.iadd, 1) := dk_96 (dk_at dksL_law_23 3 rfl rfl)
theorem dL_law_597 : decode cL_law 597 = .ok (.iaload, 1) := dk_46 (dk_at dksL_law_23 4 rfl rfl)
theorem dL_law_598 : decode cL_law 598 = .ok (.aload_n 0, 1) := dk_42 (dk_at dksL_law_23 5 rfl rfl)
theorem dL_law_599 : decode cL_law 599 = .ok (.iload 4, 2) := dk_21 4 (dk_at dksL_law_23 6 rfl rfl)
theorem dL_law_601 : decode cL_law 601 = .ok (.iconst 2, 1) := dk_5 (dk_at dksL_law_23 8 rfl rfl)
theorem dL_law_602 : decode cL_law 602 = .ok (.iadd, 1) := dk_96 (dk_at dksL_law_23 9 rfl rfl)
theorem dL_law_603 : decode cL_law 603 = .ok (.iaload, 1) := dk_46 (dk_at dksL_law_23 10 rfl rfl)
theorem dL_law_604 : decode cL_law 604 = .ok (.invokevirtual 94, 3) := dk_182 0 94 (dk_at dksL_law_23 11 rfl rfl)
theorem dL_law_607 : decode cL_law 607 = .ok (.aload_n 2, 1) := dk_44 (dk_at dksL_law_23 14 rfl rfl)
theorem dL_law_608 : decode cL_law 608 = .ok (.invokevirtual 64, 3) := dk_182 0 64 (dk_at dksL_law_23 15 rfl rfl)
theorem dL_law_611 : decode cL_law 611 = .ok (.iload 5, 2) := dk_21 5 (dk_at dksL_law_23 18 rfl rfl)
theorem dL_law_613 : decode cL_law 613 = .ok (.if_icmp .eq 5, 3) := dk_159 0 5 (dk_at dksL_law_23 20 rfl rfl)
theorem dL_law_616 : decode cL_law 616 = .ok (.iconst 0, 1) := dk_3 (dk_at dksL_law_23 23 rfl rfl)
theorem dL_law_617 : decode cL_law 617 = .ok (.ireturn, 1) := dk_172 (dk_at dksL_law_24 0 rfl rfl)
theorem dL_law_618 : decode cL_law 618 = .ok (.goto 253, 3) := dk_167 0 253 (dk_at dksL_law_24 1 rfl rfl)
theorem dL_law_621 : decode cL_law 621 = .ok (.aload_n 1, 1) := dk_43 (dk_at dksL_law_24 4 rfl rfl)
theorem dL_law_622 : decode cL_law 622 = .ok (.aload_n 0, 1) := dk_42 (dk_at dksL_law_24 5 rfl rfl)
theorem dL_law_623 : decode cL_law 623 = .ok (.iload 4, 2) := dk_21 4 (dk_at dksL_law_24 6 rfl rfl)
theorem dL_law_625 : decode cL_law 625 = .ok (.iconst 1, 1) := dk_4 (dk_at dksL_law_24 8 rfl rfl)
theorem dL_law_626 : decode cL_law 626 = .ok (.iadd, 1) := dk_96 (dk_at dksL_law_24 9 rfl rfl)
theorem dL_law_627 : decode cL_law 627 = .ok (.iaload, 1) := dk_46 (dk_at dksL_law_24 10 rfl rfl)
theorem dL_law_628 : decode cL_law 628 = .ok (.aload_n 3, 1) := dk_45 (dk_at dksL_law_24 11 rfl rfl)
theorem dL_law_629 : decode cL_law 629 = .ok (.invokestatic 95, 3) := dk_184 0 95 (dk_at dksL_law_24 12 rfl rfl)
theorem dL_law_632 : decode cL_law 632 = .ok (.istore 5, 2) := dk_54 5 (dk_at dksL_law_24 15 rfl rfl)
theorem dL_law_634 : decode cL_law 634 = .ok (.aload_n 2, 1) := dk_44 (dk_at dksL_law_24 17 rfl rfl)
theorem dL_law_635 : decode cL_law 635 = .ok (.aload_n 0, 1) := dk_42 (dk_at dksL_law_24 18 rfl rfl)
theorem dL_law_636 : decode cL_law 636 = .ok (.iload 4, 2) := dk_21 4 (dk_at dksL_law_24 19 rfl rfl)
theorem dL_law_638 : decode cL_law 638 = .ok (.iconst 1, 1) := dk_4 (dk_at dksL_law_24 21 rfl rfl)
theorem dL_law_639 : decode cL_law 639 = .ok (.iadd, 1) := dk_96 (dk_at dksL_law_24 22 rfl rfl)
theorem dL_law_640 : decode cL_law 640 = .ok (.iaload, 1) := dk_46 (dk_at dksL_law_24 23 rfl rfl)
theorem dL_law_641 : decode cL_law 641 = .ok (.invokevirtual 97, 3) := dk_182 0 97 (dk_at dksL_law_25 0 rfl rfl)
theorem dL_law_644 : decode cL_law 644 = .ok (.istore 6, 2) := dk_54 6 (dk_at dksL_law_25 3 rfl rfl)
theorem dL_law_646 : decode cL_law 646 = .ok (.aload_n 2, 1) := dk_44 (dk_at dksL_law_25 5 rfl rfl)
theorem dL_law_647 : decode cL_law 647 = .ok (.invokevirtual 64, 3) := dk_182 0 64 (dk_at dksL_law_25 6 rfl rfl)
theorem dL_law_650 : decode cL_law 650 = .ok (.iload 5, 2) := dk_21 5 (dk_at dksL_law_25 9 rfl rfl)
theorem dL_law_652 : decode cL_law 652 = .ok (.if_icmp .eq 5, 3) := dk_159 0 5 (dk_at dksL_law_25 11 rfl rfl)
theorem dL_law_655 : decode cL_law 655 = .ok (.iconst 0, 1) := dk_3 (dk_at dksL_law_25 14 rfl rfl)
theorem dL_law_656 : decode cL_law 656 = .ok (.ireturn, 1) := dk_172 (dk_at dksL_law_25 15 rfl rfl)
theorem dL_law_657 : decode cL_law 657 = .ok (.iload 5, 2) := dk_21 5 (dk_at dksL_law_25 16 rfl rfl)
theorem dL_law_659 : decode cL_law 659 = .ok (.ifCond .ne 15, 3) := dk_154 0 15 (dk_at dksL_law_25 18 rfl rfl)
theorem dL_law_662 : decode cL_law 662 = .ok (.aload_n 3, 1) := dk_45 (dk_at dksL_law_25 21 rfl rfl)
theorem dL_law_663 : decode cL_law 663 = .ok (.iconst 0, 1) := dk_3 (dk_at dksL_law_25 22 rfl rfl)
theorem dL_law_664 : decode cL_law 664 = .ok (.laload, 1) := dk_47 (dk_at dksL_law_25 23 rfl rfl)
theorem dL_law_665 : decode cL_law 665 = .ok (.iload 6, 2) := dk_21 6 (dk_at dksL_law_26 0 rfl rfl)
theorem dL_law_667 : decode cL_law 667 = .ok (.i2l, 1) := dk_133 (dk_at dksL_law_26 2 rfl rfl)
theorem dL_law_668 : decode cL_law 668 = .ok (.lcmp, 1) := dk_148 (dk_at dksL_law_26 3 rfl rfl)
theorem dL_law_669 : decode cL_law 669 = .ok (.ifCond .eq 5, 3) := dk_153 0 5 (dk_at dksL_law_26 4 rfl rfl)
theorem dL_law_672 : decode cL_law 672 = .ok (.iconst 0, 1) := dk_3 (dk_at dksL_law_26 7 rfl rfl)
theorem dL_law_673 : decode cL_law 673 = .ok (.ireturn, 1) := dk_172 (dk_at dksL_law_26 8 rfl rfl)
theorem dL_law_674 : decode cL_law 674 = .ok (.goto 197, 3) := dk_167 0 197 (dk_at dksL_law_26 9 rfl rfl)
theorem dL_law_677 : decode cL_law 677 = .ok (.aload_n 1, 1) := dk_43 (dk_at dksL_law_26 12 rfl rfl)
theorem dL_law_678 : decode cL_law 678 = .ok (.aload_n 0, 1) := dk_42 (dk_at dksL_law_26 13 rfl rfl)
theorem dL_law_679 : decode cL_law 679 = .ok (.iload 4, 2) := dk_21 4 (dk_at dksL_law_26 14 rfl rfl)
theorem dL_law_681 : decode cL_law 681 = .ok (.iconst 1, 1) := dk_4 (dk_at dksL_law_26 16 rfl rfl)
theorem dL_law_682 : decode cL_law 682 = .ok (.iadd, 1) := dk_96 (dk_at dksL_law_26 17 rfl rfl)
theorem dL_law_683 : decode cL_law 683 = .ok (.iaload, 1) := dk_46 (dk_at dksL_law_26 18 rfl rfl)
theorem dL_law_684 : decode cL_law 684 = .ok (.invokevirtual 98, 3) := dk_182 0 98 (dk_at dksL_law_26 19 rfl rfl)
theorem dL_law_687 : decode cL_law 687 = .ok (.aload_n 2, 1) := dk_44 (dk_at dksL_law_26 22 rfl rfl)
theorem dL_law_688 : decode cL_law 688 = .ok (.aload_n 0, 1) := dk_42 (dk_at dksL_law_26 23 rfl rfl)
theorem dL_law_689 : decode cL_law 689 = .ok (.iload 4, 2) := dk_21 4 (dk_at dksL_law_27 0 rfl rfl)
theorem dL_law_691 : decode cL_law 691 = .ok (.iconst 1, 1) := dk_4 (dk_at dksL_law_27 2 rfl rfl)
theorem dL_law_692 : decode cL_law 692 = .ok (.iadd, 1) := dk_96 (dk_at dksL_law_27 3 rfl rfl)
theorem dL_law_693 : decode cL_law 693 = .ok (.iaload, 1) := dk_46 (dk_at dksL_law_27 4 rfl rfl)
theorem dL_law_694 : decode cL_law 694 = .ok (.invokevirtual 101, 3) := dk_182 0 101 (dk_at dksL_law_27 5 rfl rfl)
theorem dL_law_697 : decode cL_law 697 = .ok (.if_icmp .eq 174, 3) := dk_159 0 174 (dk_at dksL_law_27 8 rfl rfl)
theorem dL_law_700 : decode cL_law 700 = .ok (.iconst 0, 1) := dk_3 (dk_at dksL_law_27 11 rfl rfl)
theorem dL_law_701 : decode cL_law 701 = .ok (.ireturn, 1) := dk_172 (dk_at dksL_law_27 12 rfl rfl)
theorem dL_law_702 : decode cL_law 702 = .ok (.aload_n 1, 1) := dk_43 (dk_at dksL_law_27 13 rfl rfl)
theorem dL_law_703 : decode cL_law 703 = .ok (.aload_n 0, 1) := dk_42 (dk_at dksL_law_27 14 rfl rfl)
theorem dL_law_704 : decode cL_law 704 = .ok (.iload 4, 2) := dk_21 4 (dk_at dksL_law_27 15 rfl rfl)
theorem dL_law_706 : decode cL_law 706 = .ok (.iconst 1, 1) := dk_4 (dk_at dksL_law_27 17 rfl rfl)
theorem dL_law_707 : decode cL_law 707 = .ok (.iadd, 1) := dk_96 (dk_at dksL_law_27 18 rfl rfl)
theorem dL_law_708 : decode cL_law 708 = .ok (.iaload, 1) := dk_46 (dk_at dksL_law_27 19 rfl rfl)
theorem dL_law_709 : decode cL_law 709 = .ok (.invokevirtual 102, 3) := dk_182 0 102 (dk_at dksL_law_27 20 rfl rfl)
theorem dL_law_712 : decode cL_law 712 = .ok (.aload_n 2, 1) := dk_44 (dk_at dksL_law_27 23 rfl rfl)
theorem dL_law_713 : decode cL_law 713 = .ok (.aload_n 0, 1) := dk_42 (dk_at dksL_law_28 0 rfl rfl)
theorem dL_law_714 : decode cL_law 714 = .ok (.iload 4, 2) := dk_21 4 (dk_at dksL_law_28 1 rfl rfl)
theorem dL_law_716 : decode cL_law 716 = .ok (.iconst 1, 1) := dk_4 (dk_at dksL_law_28 3 rfl rfl)
theorem dL_law_717 : decode cL_law 717 = .ok (.iadd, 1) := dk_96 (dk_at dksL_law_28 4 rfl rfl)
theorem dL_law_718 : decode cL_law 718 = .ok (.iaload, 1) := dk_46 (dk_at dksL_law_28 5 rfl rfl)
theorem dL_law_719 : decode cL_law 719 = .ok (.invokevirtual 105, 3) := dk_182 0 105 (dk_at dksL_law_28 6 rfl rfl)
theorem dL_law_722 : decode cL_law 722 = .ok (.if_icmp .eq 149, 3) := dk_159 0 149 (dk_at dksL_law_28 9 rfl rfl)
theorem dL_law_725 : decode cL_law 725 = .ok (.iconst 0, 1) := dk_3 (dk_at dksL_law_28 12 rfl rfl)
theorem dL_law_726 : decode cL_law 726 = .ok (.ireturn, 1) := dk_172 (dk_at dksL_law_28 13 rfl rfl)
theorem dL_law_727 : decode cL_law 727 = .ok (.aload_n 1, 1) := dk_43 (dk_at dksL_law_28 14 rfl rfl)
theorem dL_law_728 : decode cL_law 728 = .ok (.aload_n 0, 1) := dk_42 (dk_at dksL_law_28 15 rfl rfl)
theorem dL_law_729 : decode cL_law 729 = .ok (.iload 4, 2) := dk_21 4 (dk_at dksL_law_28 16 rfl rfl)
theorem dL_law_731 : decode cL_law 731 = .ok (.iconst 1, 1) := dk_4 (dk_at dksL_law_28 18 rfl rfl)
theorem dL_law_732 : decode cL_law 732 = .ok (.iadd, 1) := dk_96 (dk_at dksL_law_28 19 rfl rfl)
theorem dL_law_733 : decode cL_law 733 = .ok (.iaload, 1) := dk_46 (dk_at dksL_law_28 20 rfl rfl)
theorem dL_law_734 : decode cL_law 734 = .ok (.invokestatic 106, 3) := dk_184 0 106 (dk_at dksL_law_28 21 rfl rfl)
theorem dL_law_737 : decode cL_law 737 = .ok (.istore 5, 2) := dk_54 5 (dk_at dksL_law_29 0 rfl rfl)
theorem dL_law_739 : decode cL_law 739 = .ok (.aload_n 2, 1) := dk_44 (dk_at dksL_law_29 2 rfl rfl)
theorem dL_law_740 : decode cL_law 740 = .ok (.aload_n 0, 1) := dk_42 (dk_at dksL_law_29 3 rfl rfl)
theorem dL_law_741 : decode cL_law 741 = .ok (.iload 4, 2) := dk_21 4 (dk_at dksL_law_29 4 rfl rfl)
theorem dL_law_743 : decode cL_law 743 = .ok (.iconst 1, 1) := dk_4 (dk_at dksL_law_29 6 rfl rfl)
theorem dL_law_744 : decode cL_law 744 = .ok (.iadd, 1) := dk_96 (dk_at dksL_law_29 7 rfl rfl)
theorem dL_law_745 : decode cL_law 745 = .ok (.iaload, 1) := dk_46 (dk_at dksL_law_29 8 rfl rfl)
theorem dL_law_746 : decode cL_law 746 = .ok (.invokevirtual 109, 3) := dk_182 0 109 (dk_at dksL_law_29 9 rfl rfl)
theorem dL_law_749 : decode cL_law 749 = .ok (.aload_n 2, 1) := dk_44 (dk_at dksL_law_29 12 rfl rfl)
theorem dL_law_750 : decode cL_law 750 = .ok (.invokevirtual 64, 3) := dk_182 0 64 (dk_at dksL_law_29 13 rfl rfl)
theorem dL_law_753 : decode cL_law 753 = .ok (.iload 5, 2) := dk_21 5 (dk_at dksL_law_29 16 rfl rfl)
theorem dL_law_755 : decode cL_law 755 = .ok (.if_icmp .eq 5, 3) := dk_159 0 5 (dk_at dksL_law_29 18 rfl rfl)
theorem dL_law_758 : decode cL_law 758 = .ok (.iconst 0, 1) := dk_3 (dk_at dksL_law_29 21 rfl rfl)
theorem dL_law_759 : decode cL_law 759 = .ok (.ireturn, 1) := dk_172 (dk_at dksL_law_29 22 rfl rfl)
theorem dL_law_760 : decode cL_law 760 = .ok (.goto 111, 3) := dk_167 0 111 (dk_at dksL_law_30 0 rfl rfl)
theorem dL_law_763 : decode cL_law 763 = .ok (.aload_n 1, 1) := dk_43 (dk_at dksL_law_30 3 rfl rfl)
theorem dL_law_764 : decode cL_law 764 = .ok (.invokevirtual 110, 3) := dk_182 0 110 (dk_at dksL_law_30 4 rfl rfl)
theorem dL_law_767 : decode cL_law 767 = .ok (.aload_n 2, 1) := dk_44 (dk_at dksL_law_30 7 rfl rfl)
theorem dL_law_768 : decode cL_law 768 = .ok (.invokevirtual 113, 3) := dk_182 0 113 (dk_at dksL_law_30 8 rfl rfl)
theorem dL_law_771 : decode cL_law 771 = .ok (.goto 100, 3) := dk_167 0 100 (dk_at dksL_law_30 11 rfl rfl)
theorem dL_law_774 : decode cL_law 774 = .ok (.aload_n 1, 1) := dk_43 (dk_at dksL_law_30 14 rfl rfl)
theorem dL_law_775 : decode cL_law 775 = .ok (.aload_n 0, 1) := dk_42 (dk_at dksL_law_30 15 rfl rfl)
theorem dL_law_776 : decode cL_law 776 = .ok (.iload 4, 2) := dk_21 4 (dk_at dksL_law_30 16 rfl rfl)
theorem dL_law_778 : decode cL_law 778 = .ok (.iconst 1, 1) := dk_4 (dk_at dksL_law_30 18 rfl rfl)
theorem dL_law_779 : decode cL_law 779 = .ok (.iadd, 1) := dk_96 (dk_at dksL_law_30 19 rfl rfl)
theorem dL_law_780 : decode cL_law 780 = .ok (.iaload, 1) := dk_46 (dk_at dksL_law_30 20 rfl rfl)
theorem dL_law_781 : decode cL_law 781 = .ok (.ifCond .eq 7, 3) := dk_153 0 7 (dk_at dksL_law_30 21 rfl rfl)
theorem dL_law_784 : decode cL_law 784 = .ok (.iconst 1, 1) := dk_4 (dk_at dksL_law_31 0 rfl rfl)
theorem dL_law_785 : decode cL_law 785 = .ok (.goto 4, 3) := dk_167 0 4 (dk_at dksL_law_31 1 rfl rfl)
theorem dL_law_788 : decode cL_law 788 = .ok (.iconst 0, 1) := dk_3 (dk_at dksL_law_31 4 rfl rfl)
theorem dL_law_789 : decode cL_law 789 = .ok (.invokevirtual 114, 3) := dk_182 0 114 (dk_at dksL_law_31 5 rfl rfl)
theorem dL_law_792 : decode cL_law 792 = .ok (.aload_n 2, 1) := dk_44 (dk_at dksL_law_31 8 rfl rfl)
theorem dL_law_793 : decode cL_law 793 = .ok (.aload_n 0, 1) := dk_42 (dk_at dksL_law_31 9 rfl rfl)
theorem dL_law_794 : decode cL_law 794 = .ok (.iload 4, 2) := dk_21 4 (dk_at dksL_law_31 10 rfl rfl)
theorem dL_law_796 : decode cL_law 796 = .ok (.iconst 1, 1) := dk_4 (dk_at dksL_law_31 12 rfl rfl)
theorem dL_law_797 : decode cL_law 797 = .ok (.iadd, 1) := dk_96 (dk_at dksL_law_31 13 rfl rfl)
theorem dL_law_798 : decode cL_law 798 = .ok (.iaload, 1) := dk_46 (dk_at dksL_law_31 14 rfl rfl)
theorem dL_law_799 : decode cL_law 799 = .ok (.ifCond .eq 7, 3) := dk_153 0 7 (dk_at dksL_law_31 15 rfl rfl)
theorem dL_law_802 : decode cL_law 802 = .ok (.iconst 1, 1) := dk_4 (dk_at dksL_law_31 18 rfl rfl)
theorem dL_law_803 : decode cL_law 803 = .ok (.goto 4, 3) := dk_167 0 4 (dk_at dksL_law_31 19 rfl rfl)
theorem dL_law_806 : decode cL_law 806 = .ok (.iconst 0, 1) := dk_3 (dk_at dksL_law_31 22 rfl rfl)
theorem dL_law_807 : decode cL_law 807 = .ok (.invokevirtual 118, 3) := dk_182 0 118 (dk_at dksL_law_32 0 rfl rfl)
theorem dL_law_810 : decode cL_law 810 = .ok (.if_icmp .eq 61, 3) := dk_159 0 61 (dk_at dksL_law_32 3 rfl rfl)
theorem dL_law_813 : decode cL_law 813 = .ok (.iconst 0, 1) := dk_3 (dk_at dksL_law_32 6 rfl rfl)
theorem dL_law_814 : decode cL_law 814 = .ok (.ireturn, 1) := dk_172 (dk_at dksL_law_32 7 rfl rfl)
theorem dL_law_815 : decode cL_law 815 = .ok (.aload_n 1, 1) := dk_43 (dk_at dksL_law_32 8 rfl rfl)
theorem dL_law_816 : decode cL_law 816 = .ok (.aload_n 0, 1) := dk_42 (dk_at dksL_law_32 9 rfl rfl)
theorem dL_law_817 : decode cL_law 817 = .ok (.iload 4, 2) := dk_21 4 (dk_at dksL_law_32 10 rfl rfl)
theorem dL_law_819 : decode cL_law 819 = .ok (.iconst 1, 1) := dk_4 (dk_at dksL_law_32 12 rfl rfl)
theorem dL_law_820 : decode cL_law 820 = .ok (.iadd, 1) := dk_96 (dk_at dksL_law_32 13 rfl rfl)
theorem dL_law_821 : decode cL_law 821 = .ok (.iaload, 1) := dk_46 (dk_at dksL_law_32 14 rfl rfl)
theorem dL_law_822 : decode cL_law 822 = .ok (.aload_n 3, 1) := dk_45 (dk_at dksL_law_32 15 rfl rfl)
theorem dL_law_823 : decode cL_law 823 = .ok (.invokestatic 119, 3) := dk_184 0 119 (dk_at dksL_law_32 16 rfl rfl)
theorem dL_law_826 : decode cL_law 826 = .ok (.istore 5, 2) := dk_54 5 (dk_at dksL_law_32 19 rfl rfl)
theorem dL_law_828 : decode cL_law 828 = .ok (.aload_n 2, 1) := dk_44 (dk_at dksL_law_32 21 rfl rfl)
theorem dL_law_829 : decode cL_law 829 = .ok (.aload_n 0, 1) := dk_42 (dk_at dksL_law_32 22 rfl rfl)
theorem dL_law_830 : decode cL_law 830 = .ok (.iload 4, 2) := dk_21 4 (dk_at dksL_law_33 0 rfl rfl)
theorem dL_law_832 : decode cL_law 832 = .ok (.iconst 1, 1) := dk_4 (dk_at dksL_law_33 2 rfl rfl)
theorem dL_law_833 : decode cL_law 833 = .ok (.iadd, 1) := dk_96 (dk_at dksL_law_33 3 rfl rfl)
theorem dL_law_834 : decode cL_law 834 = .ok (.iaload, 1) := dk_46 (dk_at dksL_law_33 4 rfl rfl)
theorem dL_law_835 : decode cL_law 835 = .ok (.invokevirtual 121, 3) := dk_182 0 121 (dk_at dksL_law_33 5 rfl rfl)
theorem dL_law_838 : decode cL_law 838 = .ok (.istore 6, 2) := dk_54 6 (dk_at dksL_law_33 8 rfl rfl)
theorem dL_law_840 : decode cL_law 840 = .ok (.aload_n 2, 1) := dk_44 (dk_at dksL_law_33 10 rfl rfl)
theorem dL_law_841 : decode cL_law 841 = .ok (.invokevirtual 64, 3) := dk_182 0 64 (dk_at dksL_law_33 11 rfl rfl)
theorem dL_law_844 : decode cL_law 844 = .ok (.iload 5, 2) := dk_21 5 (dk_at dksL_law_33 14 rfl rfl)
theorem dL_law_846 : decode cL_law 846 = .ok (.if_icmp .eq 5, 3) := dk_159 0 5 (dk_at dksL_law_33 16 rfl rfl)
theorem dL_law_849 : decode cL_law 849 = .ok (.iconst 0, 1) := dk_3 (dk_at dksL_law_33 19 rfl rfl)
theorem dL_law_850 : decode cL_law 850 = .ok (.ireturn, 1) := dk_172 (dk_at dksL_law_33 20 rfl rfl)
theorem dL_law_851 : decode cL_law 851 = .ok (.iload 5, 2) := dk_21 5 (dk_at dksL_law_33 21 rfl rfl)
theorem dL_law_853 : decode cL_law 853 = .ok (.ifCond .ne 15, 3) := dk_154 0 15 (dk_at dksL_law_34 0 rfl rfl)
theorem dL_law_856 : decode cL_law 856 = .ok (.aload_n 3, 1) := dk_45 (dk_at dksL_law_34 3 rfl rfl)
theorem dL_law_857 : decode cL_law 857 = .ok (.iconst 0, 1) := dk_3 (dk_at dksL_law_34 4 rfl rfl)
theorem dL_law_858 : decode cL_law 858 = .ok (.laload, 1) := dk_47 (dk_at dksL_law_34 5 rfl rfl)
theorem dL_law_859 : decode cL_law 859 = .ok (.iload 6, 2) := dk_21 6 (dk_at dksL_law_34 6 rfl rfl)
theorem dL_law_861 : decode cL_law 861 = .ok (.i2l, 1) := dk_133 (dk_at dksL_law_34 8 rfl rfl)
theorem dL_law_862 : decode cL_law 862 = .ok (.lcmp, 1) := dk_148 (dk_at dksL_law_34 9 rfl rfl)
theorem dL_law_863 : decode cL_law 863 = .ok (.ifCond .eq 5, 3) := dk_153 0 5 (dk_at dksL_law_34 10 rfl rfl)
theorem dL_law_866 : decode cL_law 866 = .ok (.iconst 0, 1) := dk_3 (dk_at dksL_law_34 13 rfl rfl)
theorem dL_law_867 : decode cL_law 867 = .ok (.ireturn, 1) := dk_172 (dk_at dksL_law_34 14 rfl rfl)
theorem dL_law_868 : decode cL_law 868 = .ok (.goto 3, 3) := dk_167 0 3 (dk_at dksL_law_34 15 rfl rfl)
theorem dL_law_871 : decode cL_law 871 = .ok (.iinc 4 7, 3) := dk_132 4 7 (dk_at dksL_law_34 18 rfl rfl)
theorem dL_law_874 : decode cL_law 874 = .ok (.goto (-851), 3) := dk_167 252 173 (dk_at dksL_law_34 21 rfl rfl)
theorem dL_law_877 : decode cL_law 877 = .ok (.iconst 1, 1) := dk_4 (dk_at dksL_law_35 0 rfl rfl)
theorem dL_law_878 : decode cL_law 878 = .ok (.ireturn, 1) := dk_172 (dk_at dksL_law_35 1 rfl rfl)

/-! FlashBoardLaw -/
set_option maxRecDepth 100000
def RX0 : String := "FlashBoardLaw"
abbrev cX0_run : ByteArray := method_3_code
def yX0_run : MethodName := ⟨RX0, "run", "(LFlashBoard;I[J)I"⟩
def dkwX0_run_0 : List UInt8 := [44, 3, 42, 27, 182, 0, 7, 133, 80, 167, 0, 6, 78, 4, 172, 3, 172]
abbrev dktX0_run_0 : List UInt8 := dkwX0_run_0 ++ []
theorem dksX0_run_0 : cX0_run.data.toList.drop 0 = dktX0_run_0 := by decide +kernel
theorem dX0_run_0 : decode cX0_run 0 = .ok (.aload_n 2, 1) := dk_44 (dk_at dksX0_run_0 0 rfl rfl)
theorem dX0_run_1 : decode cX0_run 1 = .ok (.iconst 0, 1) := dk_3 (dk_at dksX0_run_0 1 rfl rfl)
theorem dX0_run_2 : decode cX0_run 2 = .ok (.aload_n 0, 1) := dk_42 (dk_at dksX0_run_0 2 rfl rfl)
theorem dX0_run_3 : decode cX0_run 3 = .ok (.iload_n 1, 1) := dk_27 (dk_at dksX0_run_0 3 rfl rfl)
theorem dX0_run_4 : decode cX0_run 4 = .ok (.invokevirtual 7, 3) := dk_182 0 7 (dk_at dksX0_run_0 4 rfl rfl)
theorem dX0_run_7 : decode cX0_run 7 = .ok (.i2l, 1) := dk_133 (dk_at dksX0_run_0 7 rfl rfl)
theorem dX0_run_8 : decode cX0_run 8 = .ok (.lastore, 1) := dk_80 (dk_at dksX0_run_0 8 rfl rfl)
theorem dX0_run_9 : decode cX0_run 9 = .ok (.goto 6, 3) := dk_167 0 6 (dk_at dksX0_run_0 9 rfl rfl)
theorem dX0_run_12 : decode cX0_run 12 = .ok (.astore_n 3, 1) := dk_78 (dk_at dksX0_run_0 12 rfl rfl)
theorem dX0_run_13 : decode cX0_run 13 = .ok (.iconst 1, 1) := dk_4 (dk_at dksX0_run_0 13 rfl rfl)
theorem dX0_run_14 : decode cX0_run 14 = .ok (.ireturn, 1) := dk_172 (dk_at dksX0_run_0 14 rfl rfl)
theorem dX0_run_15 : decode cX0_run 15 = .ok (.iconst 0, 1) := dk_3 (dk_at dksX0_run_0 15 rfl rfl)
theorem dX0_run_16 : decode cX0_run 16 = .ok (.ireturn, 1) := dk_172 (dk_at dksX0_run_0 16 rfl rfl)
abbrev cX0_pass : ByteArray := method_4_code
def yX0_pass : MethodName := ⟨RX0, "pass", "(LFlashBoard;I[J)I"⟩
def dkwX0_pass_0 : List UInt8 := [44, 3, 42, 27, 182, 0, 15, 133, 80, 167, 0, 6, 78, 4, 172, 3, 172]
abbrev dktX0_pass_0 : List UInt8 := dkwX0_pass_0 ++ []
theorem dksX0_pass_0 : cX0_pass.data.toList.drop 0 = dktX0_pass_0 := by decide +kernel
theorem dX0_pass_0 : decode cX0_pass 0 = .ok (.aload_n 2, 1) := dk_44 (dk_at dksX0_pass_0 0 rfl rfl)
theorem dX0_pass_1 : decode cX0_pass 1 = .ok (.iconst 0, 1) := dk_3 (dk_at dksX0_pass_0 1 rfl rfl)
theorem dX0_pass_2 : decode cX0_pass 2 = .ok (.aload_n 0, 1) := dk_42 (dk_at dksX0_pass_0 2 rfl rfl)
theorem dX0_pass_3 : decode cX0_pass 3 = .ok (.iload_n 1, 1) := dk_27 (dk_at dksX0_pass_0 3 rfl rfl)
theorem dX0_pass_4 : decode cX0_pass 4 = .ok (.invokevirtual 15, 3) := dk_182 0 15 (dk_at dksX0_pass_0 4 rfl rfl)
theorem dX0_pass_7 : decode cX0_pass 7 = .ok (.i2l, 1) := dk_133 (dk_at dksX0_pass_0 7 rfl rfl)
theorem dX0_pass_8 : decode cX0_pass 8 = .ok (.lastore, 1) := dk_80 (dk_at dksX0_pass_0 8 rfl rfl)
theorem dX0_pass_9 : decode cX0_pass 9 = .ok (.goto 6, 3) := dk_167 0 6 (dk_at dksX0_pass_0 9 rfl rfl)
theorem dX0_pass_12 : decode cX0_pass 12 = .ok (.astore_n 3, 1) := dk_78 (dk_at dksX0_pass_0 12 rfl rfl)
theorem dX0_pass_13 : decode cX0_pass 13 = .ok (.iconst 1, 1) := dk_4 (dk_at dksX0_pass_0 13 rfl rfl)
theorem dX0_pass_14 : decode cX0_pass 14 = .ok (.ireturn, 1) := dk_172 (dk_at dksX0_pass_0 14 rfl rfl)
theorem dX0_pass_15 : decode cX0_pass 15 = .ok (.iconst 0, 1) := dk_3 (dk_at dksX0_pass_0 15 rfl rfl)
theorem dX0_pass_16 : decode cX0_pass 16 = .ok (.ireturn, 1) := dk_172 (dk_at dksX0_pass_0 16 rfl rfl)
abbrev cX0_got : ByteArray := method_5_code
def yX0_got : MethodName := ⟨RX0, "got", "(LFlashBoard;I[J)I"⟩
def dkwX0_got_0 : List UInt8 := [44, 3, 42, 27, 182, 0, 18, 133, 80, 167, 0, 6, 78, 4, 172, 3, 172]
abbrev dktX0_got_0 : List UInt8 := dkwX0_got_0 ++ []
theorem dksX0_got_0 : cX0_got.data.toList.drop 0 = dktX0_got_0 := by decide +kernel
theorem dX0_got_0 : decode cX0_got 0 = .ok (.aload_n 2, 1) := dk_44 (dk_at dksX0_got_0 0 rfl rfl)
theorem dX0_got_1 : decode cX0_got 1 = .ok (.iconst 0, 1) := dk_3 (dk_at dksX0_got_0 1 rfl rfl)
theorem dX0_got_2 : decode cX0_got 2 = .ok (.aload_n 0, 1) := dk_42 (dk_at dksX0_got_0 2 rfl rfl)
theorem dX0_got_3 : decode cX0_got 3 = .ok (.iload_n 1, 1) := dk_27 (dk_at dksX0_got_0 3 rfl rfl)
theorem dX0_got_4 : decode cX0_got 4 = .ok (.invokevirtual 18, 3) := dk_182 0 18 (dk_at dksX0_got_0 4 rfl rfl)
theorem dX0_got_7 : decode cX0_got 7 = .ok (.i2l, 1) := dk_133 (dk_at dksX0_got_0 7 rfl rfl)
theorem dX0_got_8 : decode cX0_got 8 = .ok (.lastore, 1) := dk_80 (dk_at dksX0_got_0 8 rfl rfl)
theorem dX0_got_9 : decode cX0_got 9 = .ok (.goto 6, 3) := dk_167 0 6 (dk_at dksX0_got_0 9 rfl rfl)
theorem dX0_got_12 : decode cX0_got 12 = .ok (.astore_n 3, 1) := dk_78 (dk_at dksX0_got_0 12 rfl rfl)
theorem dX0_got_13 : decode cX0_got 13 = .ok (.iconst 1, 1) := dk_4 (dk_at dksX0_got_0 13 rfl rfl)
theorem dX0_got_14 : decode cX0_got 14 = .ok (.ireturn, 1) := dk_172 (dk_at dksX0_got_0 14 rfl rfl)
theorem dX0_got_15 : decode cX0_got 15 = .ok (.iconst 0, 1) := dk_3 (dk_at dksX0_got_0 15 rfl rfl)
theorem dX0_got_16 : decode cX0_got 16 = .ok (.ireturn, 1) := dk_172 (dk_at dksX0_got_0 16 rfl rfl)
abbrev cX0_burn : ByteArray := method_6_code
def yX0_burn : MethodName := ⟨RX0, "burn", "(LFlashBoard;IIIIII[J)I"⟩
def dkwX0_burn_1 : List UInt8 := [172, 3, 172]
abbrev dktX0_burn_1 : List UInt8 := dkwX0_burn_1 ++ []
def dkwX0_burn_0 : List UInt8 := [25, 7, 3, 42, 27, 28, 29, 21, 4, 21, 5, 21, 6, 182, 0, 23, 133, 80, 167, 0, 7, 58, 8, 4]
abbrev dktX0_burn_0 : List UInt8 := dkwX0_burn_0 ++ dktX0_burn_1
theorem dksX0_burn_0 : cX0_burn.data.toList.drop 0 = dktX0_burn_0 := by decide +kernel
theorem dksX0_burn_1 : cX0_burn.data.toList.drop 24 = dktX0_burn_1 := dk_seg dksX0_burn_0 24 rfl rfl
theorem dX0_burn_0 : decode cX0_burn 0 = .ok (.aload 7, 2) := dk_25 7 (dk_at dksX0_burn_0 0 rfl rfl)
theorem dX0_burn_2 : decode cX0_burn 2 = .ok (.iconst 0, 1) := dk_3 (dk_at dksX0_burn_0 2 rfl rfl)
theorem dX0_burn_3 : decode cX0_burn 3 = .ok (.aload_n 0, 1) := dk_42 (dk_at dksX0_burn_0 3 rfl rfl)
theorem dX0_burn_4 : decode cX0_burn 4 = .ok (.iload_n 1, 1) := dk_27 (dk_at dksX0_burn_0 4 rfl rfl)
theorem dX0_burn_5 : decode cX0_burn 5 = .ok (.iload_n 2, 1) := dk_28 (dk_at dksX0_burn_0 5 rfl rfl)
theorem dX0_burn_6 : decode cX0_burn 6 = .ok (.iload_n 3, 1) := dk_29 (dk_at dksX0_burn_0 6 rfl rfl)
theorem dX0_burn_7 : decode cX0_burn 7 = .ok (.iload 4, 2) := dk_21 4 (dk_at dksX0_burn_0 7 rfl rfl)
theorem dX0_burn_9 : decode cX0_burn 9 = .ok (.iload 5, 2) := dk_21 5 (dk_at dksX0_burn_0 9 rfl rfl)
theorem dX0_burn_11 : decode cX0_burn 11 = .ok (.iload 6, 2) := dk_21 6 (dk_at dksX0_burn_0 11 rfl rfl)
theorem dX0_burn_13 : decode cX0_burn 13 = .ok (.invokevirtual 23, 3) := dk_182 0 23 (dk_at dksX0_burn_0 13 rfl rfl)
theorem dX0_burn_16 : decode cX0_burn 16 = .ok (.i2l, 1) := dk_133 (dk_at dksX0_burn_0 16 rfl rfl)
theorem dX0_burn_17 : decode cX0_burn 17 = .ok (.lastore, 1) := dk_80 (dk_at dksX0_burn_0 17 rfl rfl)
theorem dX0_burn_18 : decode cX0_burn 18 = .ok (.goto 7, 3) := dk_167 0 7 (dk_at dksX0_burn_0 18 rfl rfl)
theorem dX0_burn_21 : decode cX0_burn 21 = .ok (.astore 8, 2) := dk_58 8 (dk_at dksX0_burn_0 21 rfl rfl)
theorem dX0_burn_23 : decode cX0_burn 23 = .ok (.iconst 1, 1) := dk_4 (dk_at dksX0_burn_0 23 rfl rfl)
theorem dX0_burn_24 : decode cX0_burn 24 = .ok (.ireturn, 1) := dk_172 (dk_at dksX0_burn_1 0 rfl rfl)
theorem dX0_burn_25 : decode cX0_burn 25 = .ok (.iconst 0, 1) := dk_3 (dk_at dksX0_burn_1 1 rfl rfl)
theorem dX0_burn_26 : decode cX0_burn 26 = .ok (.ireturn, 1) := dk_172 (dk_at dksX0_burn_1 2 rfl rfl)
abbrev cX0_word : ByteArray := method_7_code
def yX0_word : MethodName := ⟨RX0, "word", "(LFlashBoard;I[J)I"⟩
def dkwX0_word_0 : List UInt8 := [44, 3, 42, 27, 182, 0, 29, 133, 80, 167, 0, 6, 78, 4, 172, 3, 172]
abbrev dktX0_word_0 : List UInt8 := dkwX0_word_0 ++ []
theorem dksX0_word_0 : cX0_word.data.toList.drop 0 = dktX0_word_0 := by decide +kernel
theorem dX0_word_0 : decode cX0_word 0 = .ok (.aload_n 2, 1) := dk_44 (dk_at dksX0_word_0 0 rfl rfl)
theorem dX0_word_1 : decode cX0_word 1 = .ok (.iconst 0, 1) := dk_3 (dk_at dksX0_word_0 1 rfl rfl)
theorem dX0_word_2 : decode cX0_word 2 = .ok (.aload_n 0, 1) := dk_42 (dk_at dksX0_word_0 2 rfl rfl)
theorem dX0_word_3 : decode cX0_word 3 = .ok (.iload_n 1, 1) := dk_27 (dk_at dksX0_word_0 3 rfl rfl)
theorem dX0_word_4 : decode cX0_word 4 = .ok (.invokevirtual 29, 3) := dk_182 0 29 (dk_at dksX0_word_0 4 rfl rfl)
theorem dX0_word_7 : decode cX0_word 7 = .ok (.i2l, 1) := dk_133 (dk_at dksX0_word_0 7 rfl rfl)
theorem dX0_word_8 : decode cX0_word 8 = .ok (.lastore, 1) := dk_80 (dk_at dksX0_word_0 8 rfl rfl)
theorem dX0_word_9 : decode cX0_word 9 = .ok (.goto 6, 3) := dk_167 0 6 (dk_at dksX0_word_0 9 rfl rfl)
theorem dX0_word_12 : decode cX0_word 12 = .ok (.astore_n 3, 1) := dk_78 (dk_at dksX0_word_0 12 rfl rfl)
theorem dX0_word_13 : decode cX0_word 13 = .ok (.iconst 1, 1) := dk_4 (dk_at dksX0_word_0 13 rfl rfl)
theorem dX0_word_14 : decode cX0_word 14 = .ok (.ireturn, 1) := dk_172 (dk_at dksX0_word_0 14 rfl rfl)
theorem dX0_word_15 : decode cX0_word 15 = .ok (.iconst 0, 1) := dk_3 (dk_at dksX0_word_0 15 rfl rfl)
theorem dX0_word_16 : decode cX0_word 16 = .ok (.ireturn, 1) := dk_172 (dk_at dksX0_word_0 16 rfl rfl)
abbrev cX0_data : ByteArray := method_8_code
def yX0_data : MethodName := ⟨RX0, "data", "(LFlashBoard;I[J)I"⟩
def dkwX0_data_0 : List UInt8 := [44, 3, 42, 27, 182, 0, 32, 133, 80, 167, 0, 6, 78, 4, 172, 3, 172]
abbrev dktX0_data_0 : List UInt8 := dkwX0_data_0 ++ []
theorem dksX0_data_0 : cX0_data.data.toList.drop 0 = dktX0_data_0 := by decide +kernel
theorem dX0_data_0 : decode cX0_data 0 = .ok (.aload_n 2, 1) := dk_44 (dk_at dksX0_data_0 0 rfl rfl)
theorem dX0_data_1 : decode cX0_data 1 = .ok (.iconst 0, 1) := dk_3 (dk_at dksX0_data_0 1 rfl rfl)
theorem dX0_data_2 : decode cX0_data 2 = .ok (.aload_n 0, 1) := dk_42 (dk_at dksX0_data_0 2 rfl rfl)
theorem dX0_data_3 : decode cX0_data 3 = .ok (.iload_n 1, 1) := dk_27 (dk_at dksX0_data_0 3 rfl rfl)
theorem dX0_data_4 : decode cX0_data 4 = .ok (.invokevirtual 32, 3) := dk_182 0 32 (dk_at dksX0_data_0 4 rfl rfl)
theorem dX0_data_7 : decode cX0_data 7 = .ok (.i2l, 1) := dk_133 (dk_at dksX0_data_0 7 rfl rfl)
theorem dX0_data_8 : decode cX0_data 8 = .ok (.lastore, 1) := dk_80 (dk_at dksX0_data_0 8 rfl rfl)
theorem dX0_data_9 : decode cX0_data 9 = .ok (.goto 6, 3) := dk_167 0 6 (dk_at dksX0_data_0 9 rfl rfl)
theorem dX0_data_12 : decode cX0_data 12 = .ok (.astore_n 3, 1) := dk_78 (dk_at dksX0_data_0 12 rfl rfl)
theorem dX0_data_13 : decode cX0_data 13 = .ok (.iconst 1, 1) := dk_4 (dk_at dksX0_data_0 13 rfl rfl)
theorem dX0_data_14 : decode cX0_data 14 = .ok (.ireturn, 1) := dk_172 (dk_at dksX0_data_0 14 rfl rfl)
theorem dX0_data_15 : decode cX0_data 15 = .ok (.iconst 0, 1) := dk_3 (dk_at dksX0_data_0 15 rfl rfl)
theorem dX0_data_16 : decode cX0_data 16 = .ok (.ireturn, 1) := dk_172 (dk_at dksX0_data_0 16 rfl rfl)
abbrev cX0_put : ByteArray := method_9_code
def yX0_put : MethodName := ⟨RX0, "put", "(LFlashBoard;II)I"⟩
def dkwX0_put_0 : List UInt8 := [42, 27, 28, 182, 0, 35, 167, 0, 6, 78, 4, 172, 3, 172]
abbrev dktX0_put_0 : List UInt8 := dkwX0_put_0 ++ []
theorem dksX0_put_0 : cX0_put.data.toList.drop 0 = dktX0_put_0 := by decide +kernel
theorem dX0_put_0 : decode cX0_put 0 = .ok (.aload_n 0, 1) := dk_42 (dk_at dksX0_put_0 0 rfl rfl)
theorem dX0_put_1 : decode cX0_put 1 = .ok (.iload_n 1, 1) := dk_27 (dk_at dksX0_put_0 1 rfl rfl)
theorem dX0_put_2 : decode cX0_put 2 = .ok (.iload_n 2, 1) := dk_28 (dk_at dksX0_put_0 2 rfl rfl)
theorem dX0_put_3 : decode cX0_put 3 = .ok (.invokevirtual 35, 3) := dk_182 0 35 (dk_at dksX0_put_0 3 rfl rfl)
theorem dX0_put_6 : decode cX0_put 6 = .ok (.goto 6, 3) := dk_167 0 6 (dk_at dksX0_put_0 6 rfl rfl)
theorem dX0_put_9 : decode cX0_put 9 = .ok (.astore_n 3, 1) := dk_78 (dk_at dksX0_put_0 9 rfl rfl)
theorem dX0_put_10 : decode cX0_put 10 = .ok (.iconst 1, 1) := dk_4 (dk_at dksX0_put_0 10 rfl rfl)
theorem dX0_put_11 : decode cX0_put 11 = .ok (.ireturn, 1) := dk_172 (dk_at dksX0_put_0 11 rfl rfl)
theorem dX0_put_12 : decode cX0_put 12 = .ok (.iconst 0, 1) := dk_3 (dk_at dksX0_put_0 12 rfl rfl)
theorem dX0_put_13 : decode cX0_put 13 = .ok (.ireturn, 1) := dk_172 (dk_at dksX0_put_0 13 rfl rfl)
abbrev cX0_eeprom : ByteArray := method_10_code
def yX0_eeprom : MethodName := ⟨RX0, "eeprom", "(LFlashBoard;I[J)I"⟩
def dkwX0_eeprom_0 : List UInt8 := [44, 3, 42, 27, 182, 0, 39, 133, 80, 167, 0, 6, 78, 4, 172, 3, 172]
abbrev dktX0_eeprom_0 : List UInt8 := dkwX0_eeprom_0 ++ []
theorem dksX0_eeprom_0 : cX0_eeprom.data.toList.drop 0 = dktX0_eeprom_0 := by decide +kernel
theorem dX0_eeprom_0 : decode cX0_eeprom 0 = .ok (.aload_n 2, 1) := dk_44 (dk_at dksX0_eeprom_0 0 rfl rfl)
theorem dX0_eeprom_1 : decode cX0_eeprom 1 = .ok (.iconst 0, 1) := dk_3 (dk_at dksX0_eeprom_0 1 rfl rfl)
theorem dX0_eeprom_2 : decode cX0_eeprom 2 = .ok (.aload_n 0, 1) := dk_42 (dk_at dksX0_eeprom_0 2 rfl rfl)
theorem dX0_eeprom_3 : decode cX0_eeprom 3 = .ok (.iload_n 1, 1) := dk_27 (dk_at dksX0_eeprom_0 3 rfl rfl)
theorem dX0_eeprom_4 : decode cX0_eeprom 4 = .ok (.invokevirtual 39, 3) := dk_182 0 39 (dk_at dksX0_eeprom_0 4 rfl rfl)
theorem dX0_eeprom_7 : decode cX0_eeprom 7 = .ok (.i2l, 1) := dk_133 (dk_at dksX0_eeprom_0 7 rfl rfl)
theorem dX0_eeprom_8 : decode cX0_eeprom 8 = .ok (.lastore, 1) := dk_80 (dk_at dksX0_eeprom_0 8 rfl rfl)
theorem dX0_eeprom_9 : decode cX0_eeprom 9 = .ok (.goto 6, 3) := dk_167 0 6 (dk_at dksX0_eeprom_0 9 rfl rfl)
theorem dX0_eeprom_12 : decode cX0_eeprom 12 = .ok (.astore_n 3, 1) := dk_78 (dk_at dksX0_eeprom_0 12 rfl rfl)
theorem dX0_eeprom_13 : decode cX0_eeprom 13 = .ok (.iconst 1, 1) := dk_4 (dk_at dksX0_eeprom_0 13 rfl rfl)
theorem dX0_eeprom_14 : decode cX0_eeprom 14 = .ok (.ireturn, 1) := dk_172 (dk_at dksX0_eeprom_0 14 rfl rfl)
theorem dX0_eeprom_15 : decode cX0_eeprom 15 = .ok (.iconst 0, 1) := dk_3 (dk_at dksX0_eeprom_0 15 rfl rfl)
theorem dX0_eeprom_16 : decode cX0_eeprom 16 = .ok (.ireturn, 1) := dk_172 (dk_at dksX0_eeprom_0 16 rfl rfl)
abbrev cX0_start : ByteArray := method_11_code
def yX0_start : MethodName := ⟨RX0, "start", "(LFlashBoard;I)I"⟩
def dkwX0_start_0 : List UInt8 := [42, 27, 182, 0, 42, 167, 0, 6, 77, 4, 172, 3, 172]
abbrev dktX0_start_0 : List UInt8 := dkwX0_start_0 ++ []
theorem dksX0_start_0 : cX0_start.data.toList.drop 0 = dktX0_start_0 := by decide +kernel
theorem dX0_start_0 : decode cX0_start 0 = .ok (.aload_n 0, 1) := dk_42 (dk_at dksX0_start_0 0 rfl rfl)
theorem dX0_start_1 : decode cX0_start 1 = .ok (.iload_n 1, 1) := dk_27 (dk_at dksX0_start_0 1 rfl rfl)
theorem dX0_start_2 : decode cX0_start 2 = .ok (.invokevirtual 42, 3) := dk_182 0 42 (dk_at dksX0_start_0 2 rfl rfl)
theorem dX0_start_5 : decode cX0_start 5 = .ok (.goto 6, 3) := dk_167 0 6 (dk_at dksX0_start_0 5 rfl rfl)
theorem dX0_start_8 : decode cX0_start 8 = .ok (.astore_n 2, 1) := dk_77 (dk_at dksX0_start_0 8 rfl rfl)
theorem dX0_start_9 : decode cX0_start 9 = .ok (.iconst 1, 1) := dk_4 (dk_at dksX0_start_0 9 rfl rfl)
theorem dX0_start_10 : decode cX0_start 10 = .ok (.ireturn, 1) := dk_172 (dk_at dksX0_start_0 10 rfl rfl)
theorem dX0_start_11 : decode cX0_start 11 = .ok (.iconst 0, 1) := dk_3 (dk_at dksX0_start_0 11 rfl rfl)
theorem dX0_start_12 : decode cX0_start 12 = .ok (.ireturn, 1) := dk_172 (dk_at dksX0_start_0 12 rfl rfl)
abbrev cX0_about : ByteArray := method_12_code
def yX0_about : MethodName := ⟨RX0, "about", "(LFlashBoard;I[J)I"⟩
def dkwX0_about_0 : List UInt8 := [44, 3, 42, 27, 182, 0, 46, 133, 80, 167, 0, 6, 78, 4, 172, 3, 172]
abbrev dktX0_about_0 : List UInt8 := dkwX0_about_0 ++ []
theorem dksX0_about_0 : cX0_about.data.toList.drop 0 = dktX0_about_0 := by decide +kernel
theorem dX0_about_0 : decode cX0_about 0 = .ok (.aload_n 2, 1) := dk_44 (dk_at dksX0_about_0 0 rfl rfl)
theorem dX0_about_1 : decode cX0_about 1 = .ok (.iconst 0, 1) := dk_3 (dk_at dksX0_about_0 1 rfl rfl)
theorem dX0_about_2 : decode cX0_about 2 = .ok (.aload_n 0, 1) := dk_42 (dk_at dksX0_about_0 2 rfl rfl)
theorem dX0_about_3 : decode cX0_about 3 = .ok (.iload_n 1, 1) := dk_27 (dk_at dksX0_about_0 3 rfl rfl)
theorem dX0_about_4 : decode cX0_about 4 = .ok (.invokevirtual 46, 3) := dk_182 0 46 (dk_at dksX0_about_0 4 rfl rfl)
theorem dX0_about_7 : decode cX0_about 7 = .ok (.i2l, 1) := dk_133 (dk_at dksX0_about_0 7 rfl rfl)
theorem dX0_about_8 : decode cX0_about 8 = .ok (.lastore, 1) := dk_80 (dk_at dksX0_about_0 8 rfl rfl)
theorem dX0_about_9 : decode cX0_about 9 = .ok (.goto 6, 3) := dk_167 0 6 (dk_at dksX0_about_0 9 rfl rfl)
theorem dX0_about_12 : decode cX0_about 12 = .ok (.astore_n 3, 1) := dk_78 (dk_at dksX0_about_0 12 rfl rfl)
theorem dX0_about_13 : decode cX0_about 13 = .ok (.iconst 1, 1) := dk_4 (dk_at dksX0_about_0 13 rfl rfl)
theorem dX0_about_14 : decode cX0_about 14 = .ok (.ireturn, 1) := dk_172 (dk_at dksX0_about_0 14 rfl rfl)
theorem dX0_about_15 : decode cX0_about 15 = .ok (.iconst 0, 1) := dk_3 (dk_at dksX0_about_0 15 rfl rfl)
theorem dX0_about_16 : decode cX0_about 16 = .ok (.ireturn, 1) := dk_172 (dk_at dksX0_about_0 16 rfl rfl)
theorem q105 : (Jvm.Cond.initialized "FlashBoardLaw") ∈ lw_all := lw_g (lw_at lw_m1 0 rfl) rfl
theorem q131 : (Jvm.Cond.classLink "FlashBoardLaw" (8 : Nat) "FlashBoard") ∈ lw_all := lw_g (lw_at lw_m1 26 rfl) rfl
theorem q133 : (Jvm.Cond.methodLink "FlashBoardLaw" (49 : Nat) ({ cls := "FlashBoard", name := "<init>", desc := "()V" } : Jvm.MethodName)) ∈ lw_all := lw_g (lw_at lw_m1 28 rfl) rfl
theorem q576 : (Jvm.Cond.methodLink "FlashBoardLaw" (53 : Nat) ({ cls := "FlashBoard", name := "step", desc := "()I" } : Jvm.MethodName)) ∈ lw_all := lw_g (lw_at lw_m2 231 rfl) rfl
theorem q873 : (Jvm.Cond.methodLink "FlashBoardLaw" (70 : Nat) ({ cls := "FlashBoard", name := "host", desc := "(I)I" } : Jvm.MethodName)) ∈ lw_all := lw_g (lw_at lw_m4 48 rfl) rfl
theorem q881 : (Jvm.Cond.methodLink "FlashBoardLaw" (74 : Nat) ({ cls := "FlashBoard", name := "sent", desc := "()I" } : Jvm.MethodName)) ∈ lw_all := lw_g (lw_at lw_m4 56 rfl) rfl
theorem q885 : (Jvm.Cond.methodLink "FlashBoardLaw" (98 : Nat) ({ cls := "FlashBoard", name := "pins", desc := "(I)I" } : Jvm.MethodName)) ∈ lw_all := lw_g (lw_at lw_m4 60 rfl) rfl
theorem q889 : (Jvm.Cond.methodLink "FlashBoardLaw" (102 : Nat) ({ cls := "FlashBoard", name := "fuses", desc := "(I)I" } : Jvm.MethodName)) ∈ lw_all := lw_g (lw_at lw_m4 64 rfl) rfl
theorem q893 : (Jvm.Cond.methodLink "FlashBoardLaw" (110 : Nat) ({ cls := "FlashBoard", name := "reset", desc := "()V" } : Jvm.MethodName)) ∈ lw_all := lw_g (lw_at lw_m4 68 rfl) rfl
theorem q898 : (Jvm.Cond.methodLink "FlashBoardLaw" (114 : Nat) ({ cls := "FlashBoard", name := "power", desc := "(Z)Z" } : Jvm.MethodName)) ∈ lw_all := lw_g (lw_at lw_m4 73 rfl) rfl
theorem q902 : (Jvm.Cond.methodLink "FlashBoardLaw" (58 : Nat) ({ cls := "FlashBoardLaw", name := "run", desc := "(LFlashBoard;I[J)I" } : Jvm.MethodName)) ∈ lw_all := lw_g (lw_at lw_m4 77 rfl) rfl
theorem q903 : (Jvm.Cond.static ({ cls := "FlashBoardLaw", name := "run", desc := "(LFlashBoard;I[J)I" } : Jvm.MethodName)) ∈ lw_all := lw_g (lw_at lw_m4 78 rfl) rfl
theorem q904 : (Jvm.Cond.codeWith ({ cls := "FlashBoardLaw", name := "run", desc := "(LFlashBoard;I[J)I" } : Jvm.MethodName) method_3_code (4 : Nat) (Option.some Jvm.ClassFile.FieldType.int) [((0 : Nat), (9 : Nat), (12 : Nat), (13 : Nat))]) ∈ lw_all := lw_g (lw_at lw_m4 79 rfl) rfl
theorem q905 : (Jvm.Cond.classLink "FlashBoardLaw" (13 : Nat) "java/lang/IllegalArgumentException") ∈ lw_all := lw_g (lw_at lw_m4 80 rfl) rfl
theorem q906 : (Jvm.Cond.methodLink "FlashBoardLaw" (7 : Nat) ({ cls := "FlashBoard", name := "run", desc := "(I)I" } : Jvm.MethodName)) ∈ lw_all := lw_g (lw_at lw_m4 81 rfl) rfl
theorem q978 : (Jvm.Cond.methodLink "FlashBoardLaw" (67 : Nat) ({ cls := "FlashBoardLaw", name := "pass", desc := "(LFlashBoard;I[J)I" } : Jvm.MethodName)) ∈ lw_all := lw_g (lw_at lw_m4 153 rfl) rfl
theorem q979 : (Jvm.Cond.static ({ cls := "FlashBoardLaw", name := "pass", desc := "(LFlashBoard;I[J)I" } : Jvm.MethodName)) ∈ lw_all := lw_g (lw_at lw_m4 154 rfl) rfl
theorem q980 : (Jvm.Cond.codeWith ({ cls := "FlashBoardLaw", name := "pass", desc := "(LFlashBoard;I[J)I" } : Jvm.MethodName) method_4_code (4 : Nat) (Option.some Jvm.ClassFile.FieldType.int) [((0 : Nat), (9 : Nat), (12 : Nat), (13 : Nat))]) ∈ lw_all := lw_g (lw_at lw_m4 155 rfl) rfl
theorem q981 : (Jvm.Cond.methodLink "FlashBoardLaw" (15 : Nat) ({ cls := "FlashBoard", name := "pass", desc := "(I)I" } : Jvm.MethodName)) ∈ lw_all := lw_g (lw_at lw_m4 156 rfl) rfl
theorem q986 : (Jvm.Cond.methodLink "FlashBoardLaw" (78 : Nat) ({ cls := "FlashBoardLaw", name := "got", desc := "(LFlashBoard;I[J)I" } : Jvm.MethodName)) ∈ lw_all := lw_g (lw_at lw_m4 161 rfl) rfl
theorem q987 : (Jvm.Cond.static ({ cls := "FlashBoardLaw", name := "got", desc := "(LFlashBoard;I[J)I" } : Jvm.MethodName)) ∈ lw_all := lw_g (lw_at lw_m4 162 rfl) rfl
theorem q988 : (Jvm.Cond.codeWith ({ cls := "FlashBoardLaw", name := "got", desc := "(LFlashBoard;I[J)I" } : Jvm.MethodName) method_5_code (4 : Nat) (Option.some Jvm.ClassFile.FieldType.int) [((0 : Nat), (9 : Nat), (12 : Nat), (21 : Nat))]) ∈ lw_all := lw_g (lw_at lw_m4 163 rfl) rfl
theorem q989 : (Jvm.Cond.classLink "FlashBoardLaw" (21 : Nat) "java/util/NoSuchElementException") ∈ lw_all := lw_g (lw_at lw_m4 164 rfl) rfl
theorem q990 : (Jvm.Cond.methodLink "FlashBoardLaw" (18 : Nat) ({ cls := "FlashBoard", name := "got", desc := "(I)I" } : Jvm.MethodName)) ∈ lw_all := lw_g (lw_at lw_m4 165 rfl) rfl
theorem q1010 : (Jvm.Cond.methodLink "FlashBoardLaw" (81 : Nat) ({ cls := "FlashBoardLaw", name := "burn", desc := "(LFlashBoard;IIIIII[J)I" } : Jvm.MethodName)) ∈ lw_all := lw_g (lw_at lw_m4 185 rfl) rfl
theorem q1011 : (Jvm.Cond.static ({ cls := "FlashBoardLaw", name := "burn", desc := "(LFlashBoard;IIIIII[J)I" } : Jvm.MethodName)) ∈ lw_all := lw_g (lw_at lw_m4 186 rfl) rfl
theorem q1012 : (Jvm.Cond.codeWith ({ cls := "FlashBoardLaw", name := "burn", desc := "(LFlashBoard;IIIIII[J)I" } : Jvm.MethodName) method_6_code (9 : Nat) (Option.some Jvm.ClassFile.FieldType.int) [((0 : Nat), (18 : Nat), (21 : Nat), (27 : Nat))]) ∈ lw_all := lw_g (lw_at lw_m4 187 rfl) rfl
theorem q1013 : (Jvm.Cond.classLink "FlashBoardLaw" (27 : Nat) "java/lang/IndexOutOfBoundsException") ∈ lw_all := lw_g (lw_at lw_m4 188 rfl) rfl
theorem q1046 : (Jvm.Cond.methodLink "FlashBoardLaw" (23 : Nat) ({ cls := "FlashBoard", name := "burn", desc := "(IIIIII)I" } : Jvm.MethodName)) ∈ lw_all := lw_g (lw_at lw_m4 221 rfl) rfl
theorem q1068 : (Jvm.Cond.methodLink "FlashBoardLaw" (85 : Nat) ({ cls := "FlashBoardLaw", name := "word", desc := "(LFlashBoard;I[J)I" } : Jvm.MethodName)) ∈ lw_all := lw_g (lw_at lw_m5 3 rfl) rfl
theorem q1069 : (Jvm.Cond.static ({ cls := "FlashBoardLaw", name := "word", desc := "(LFlashBoard;I[J)I" } : Jvm.MethodName)) ∈ lw_all := lw_g (lw_at lw_m5 4 rfl) rfl
theorem q1070 : (Jvm.Cond.codeWith ({ cls := "FlashBoardLaw", name := "word", desc := "(LFlashBoard;I[J)I" } : Jvm.MethodName) method_7_code (4 : Nat) (Option.some Jvm.ClassFile.FieldType.int) [((0 : Nat), (9 : Nat), (12 : Nat), (27 : Nat))]) ∈ lw_all := lw_g (lw_at lw_m5 5 rfl) rfl
theorem q1071 : (Jvm.Cond.methodLink "FlashBoardLaw" (29 : Nat) ({ cls := "FlashBoard", name := "word", desc := "(I)I" } : Jvm.MethodName)) ∈ lw_all := lw_g (lw_at lw_m5 6 rfl) rfl
theorem q1075 : (Jvm.Cond.methodLink "FlashBoardLaw" (88 : Nat) ({ cls := "FlashBoardLaw", name := "data", desc := "(LFlashBoard;I[J)I" } : Jvm.MethodName)) ∈ lw_all := lw_g (lw_at lw_m5 10 rfl) rfl
theorem q1076 : (Jvm.Cond.static ({ cls := "FlashBoardLaw", name := "data", desc := "(LFlashBoard;I[J)I" } : Jvm.MethodName)) ∈ lw_all := lw_g (lw_at lw_m5 11 rfl) rfl
theorem q1077 : (Jvm.Cond.codeWith ({ cls := "FlashBoardLaw", name := "data", desc := "(LFlashBoard;I[J)I" } : Jvm.MethodName) method_8_code (4 : Nat) (Option.some Jvm.ClassFile.FieldType.int) [((0 : Nat), (9 : Nat), (12 : Nat), (27 : Nat))]) ∈ lw_all := lw_g (lw_at lw_m5 12 rfl) rfl
theorem q1078 : (Jvm.Cond.methodLink "FlashBoardLaw" (32 : Nat) ({ cls := "FlashBoard", name := "data", desc := "(I)I" } : Jvm.MethodName)) ∈ lw_all := lw_g (lw_at lw_m5 13 rfl) rfl
theorem q1083 : (Jvm.Cond.methodLink "FlashBoardLaw" (91 : Nat) ({ cls := "FlashBoardLaw", name := "put", desc := "(LFlashBoard;II)I" } : Jvm.MethodName)) ∈ lw_all := lw_g (lw_at lw_m5 18 rfl) rfl
theorem q1084 : (Jvm.Cond.static ({ cls := "FlashBoardLaw", name := "put", desc := "(LFlashBoard;II)I" } : Jvm.MethodName)) ∈ lw_all := lw_g (lw_at lw_m5 19 rfl) rfl
theorem q1085 : (Jvm.Cond.codeWith ({ cls := "FlashBoardLaw", name := "put", desc := "(LFlashBoard;II)I" } : Jvm.MethodName) method_9_code (4 : Nat) (Option.some Jvm.ClassFile.FieldType.int) [((0 : Nat), (6 : Nat), (9 : Nat), (27 : Nat))]) ∈ lw_all := lw_g (lw_at lw_m5 20 rfl) rfl
theorem q1086 : (Jvm.Cond.methodLink "FlashBoardLaw" (35 : Nat) ({ cls := "FlashBoard", name := "put", desc := "(II)V" } : Jvm.MethodName)) ∈ lw_all := lw_g (lw_at lw_m5 21 rfl) rfl
theorem q1090 : (Jvm.Cond.methodLink "FlashBoardLaw" (95 : Nat) ({ cls := "FlashBoardLaw", name := "eeprom", desc := "(LFlashBoard;I[J)I" } : Jvm.MethodName)) ∈ lw_all := lw_g (lw_at lw_m5 25 rfl) rfl
theorem q1091 : (Jvm.Cond.static ({ cls := "FlashBoardLaw", name := "eeprom", desc := "(LFlashBoard;I[J)I" } : Jvm.MethodName)) ∈ lw_all := lw_g (lw_at lw_m5 26 rfl) rfl
theorem q1092 : (Jvm.Cond.codeWith ({ cls := "FlashBoardLaw", name := "eeprom", desc := "(LFlashBoard;I[J)I" } : Jvm.MethodName) method_10_code (4 : Nat) (Option.some Jvm.ClassFile.FieldType.int) [((0 : Nat), (9 : Nat), (12 : Nat), (27 : Nat))]) ∈ lw_all := lw_g (lw_at lw_m5 27 rfl) rfl
theorem q1093 : (Jvm.Cond.methodLink "FlashBoardLaw" (39 : Nat) ({ cls := "FlashBoard", name := "eeprom", desc := "(I)I" } : Jvm.MethodName)) ∈ lw_all := lw_g (lw_at lw_m5 28 rfl) rfl
theorem q1097 : (Jvm.Cond.methodLink "FlashBoardLaw" (106 : Nat) ({ cls := "FlashBoardLaw", name := "start", desc := "(LFlashBoard;I)I" } : Jvm.MethodName)) ∈ lw_all := lw_g (lw_at lw_m5 32 rfl) rfl
theorem q1098 : (Jvm.Cond.static ({ cls := "FlashBoardLaw", name := "start", desc := "(LFlashBoard;I)I" } : Jvm.MethodName)) ∈ lw_all := lw_g (lw_at lw_m5 33 rfl) rfl
theorem q1099 : (Jvm.Cond.codeWith ({ cls := "FlashBoardLaw", name := "start", desc := "(LFlashBoard;I)I" } : Jvm.MethodName) method_11_code (3 : Nat) (Option.some Jvm.ClassFile.FieldType.int) [((0 : Nat), (5 : Nat), (8 : Nat), (27 : Nat))]) ∈ lw_all := lw_g (lw_at lw_m5 34 rfl) rfl
theorem q1100 : (Jvm.Cond.methodLink "FlashBoardLaw" (42 : Nat) ({ cls := "FlashBoard", name := "start", desc := "(I)V" } : Jvm.MethodName)) ∈ lw_all := lw_g (lw_at lw_m5 35 rfl) rfl
theorem q1104 : (Jvm.Cond.methodLink "FlashBoardLaw" (119 : Nat) ({ cls := "FlashBoardLaw", name := "about", desc := "(LFlashBoard;I[J)I" } : Jvm.MethodName)) ∈ lw_all := lw_g (lw_at lw_m5 39 rfl) rfl
theorem q1105 : (Jvm.Cond.static ({ cls := "FlashBoardLaw", name := "about", desc := "(LFlashBoard;I[J)I" } : Jvm.MethodName)) ∈ lw_all := lw_g (lw_at lw_m5 40 rfl) rfl
theorem q1106 : (Jvm.Cond.codeWith ({ cls := "FlashBoardLaw", name := "about", desc := "(LFlashBoard;I[J)I" } : Jvm.MethodName) method_12_code (4 : Nat) (Option.some Jvm.ClassFile.FieldType.int) [((0 : Nat), (9 : Nat), (12 : Nat), (21 : Nat))]) ∈ lw_all := lw_g (lw_at lw_m5 41 rfl) rfl
theorem q1107 : (Jvm.Cond.methodLink "FlashBoardLaw" (46 : Nat) ({ cls := "FlashBoard", name := "about", desc := "(I)I" } : Jvm.MethodName)) ∈ lw_all := lw_g (lw_at lw_m5 42 rfl) rfl
theorem q1117 : (Jvm.Cond.classLink "FlashBoardLaw" (50 : Nat) "FlashBoardModel") ∈ lw_all := lw_g (lw_at lw_m5 52 rfl) rfl
theorem q1119 : (Jvm.Cond.methodLink "FlashBoardLaw" (52 : Nat) ({ cls := "FlashBoardModel", name := "<init>", desc := "()V" } : Jvm.MethodName)) ∈ lw_all := lw_g (lw_at lw_m5 54 rfl) rfl
theorem q1314 : (Jvm.Cond.methodLink "FlashBoardLaw" (64 : Nat) ({ cls := "FlashBoardModel", name := "thrown", desc := "()I" } : Jvm.MethodName)) ∈ lw_all := lw_g (lw_at lw_m6 9 rfl) rfl
theorem q1318 : (Jvm.Cond.methodLink "FlashBoardLaw" (57 : Nat) ({ cls := "FlashBoardModel", name := "step", desc := "()I" } : Jvm.MethodName)) ∈ lw_all := lw_g (lw_at lw_m6 13 rfl) rfl
theorem q1562 : (Jvm.Cond.methodLink "FlashBoardLaw" (63 : Nat) ({ cls := "FlashBoardModel", name := "run", desc := "(I)I" } : Jvm.MethodName)) ∈ lw_all := lw_g (lw_at lw_m7 17 rfl) rfl
theorem q1570 : (Jvm.Cond.methodLink "FlashBoardLaw" (69 : Nat) ({ cls := "FlashBoardModel", name := "pass", desc := "(I)I" } : Jvm.MethodName)) ∈ lw_all := lw_g (lw_at lw_m7 25 rfl) rfl
theorem q1575 : (Jvm.Cond.methodLink "FlashBoardLaw" (73 : Nat) ({ cls := "FlashBoardModel", name := "host", desc := "(I)I" } : Jvm.MethodName)) ∈ lw_all := lw_g (lw_at lw_m7 30 rfl) rfl
theorem q1579 : (Jvm.Cond.methodLink "FlashBoardLaw" (77 : Nat) ({ cls := "FlashBoardModel", name := "sent", desc := "()I" } : Jvm.MethodName)) ∈ lw_all := lw_g (lw_at lw_m7 34 rfl) rfl
theorem q1583 : (Jvm.Cond.methodLink "FlashBoardLaw" (80 : Nat) ({ cls := "FlashBoardModel", name := "got", desc := "(I)I" } : Jvm.MethodName)) ∈ lw_all := lw_g (lw_at lw_m7 38 rfl) rfl
theorem q1587 : (Jvm.Cond.methodLink "FlashBoardLaw" (84 : Nat) ({ cls := "FlashBoardModel", name := "burn", desc := "(IIIIII)I" } : Jvm.MethodName)) ∈ lw_all := lw_g (lw_at lw_m7 42 rfl) rfl
theorem q1595 : (Jvm.Cond.methodLink "FlashBoardLaw" (87 : Nat) ({ cls := "FlashBoardModel", name := "word", desc := "(I)I" } : Jvm.MethodName)) ∈ lw_all := lw_g (lw_at lw_m7 50 rfl) rfl
theorem q1599 : (Jvm.Cond.methodLink "FlashBoardLaw" (90 : Nat) ({ cls := "FlashBoardModel", name := "data", desc := "(I)I" } : Jvm.MethodName)) ∈ lw_all := lw_g (lw_at lw_m7 54 rfl) rfl
theorem q1603 : (Jvm.Cond.methodLink "FlashBoardLaw" (94 : Nat) ({ cls := "FlashBoardModel", name := "put", desc := "(II)V" } : Jvm.MethodName)) ∈ lw_all := lw_g (lw_at lw_m7 58 rfl) rfl
theorem q1607 : (Jvm.Cond.methodLink "FlashBoardLaw" (97 : Nat) ({ cls := "FlashBoardModel", name := "eeprom", desc := "(I)I" } : Jvm.MethodName)) ∈ lw_all := lw_g (lw_at lw_m7 62 rfl) rfl
theorem q1611 : (Jvm.Cond.methodLink "FlashBoardLaw" (101 : Nat) ({ cls := "FlashBoardModel", name := "pins", desc := "(I)I" } : Jvm.MethodName)) ∈ lw_all := lw_g (lw_at lw_m7 66 rfl) rfl
theorem q1615 : (Jvm.Cond.methodLink "FlashBoardLaw" (105 : Nat) ({ cls := "FlashBoardModel", name := "fuses", desc := "(I)I" } : Jvm.MethodName)) ∈ lw_all := lw_g (lw_at lw_m7 70 rfl) rfl
theorem q1619 : (Jvm.Cond.methodLink "FlashBoardLaw" (109 : Nat) ({ cls := "FlashBoardModel", name := "start", desc := "(I)V" } : Jvm.MethodName)) ∈ lw_all := lw_g (lw_at lw_m7 74 rfl) rfl
theorem q1623 : (Jvm.Cond.methodLink "FlashBoardLaw" (113 : Nat) ({ cls := "FlashBoardModel", name := "reset", desc := "()V" } : Jvm.MethodName)) ∈ lw_all := lw_g (lw_at lw_m7 78 rfl) rfl
theorem q1627 : (Jvm.Cond.methodLink "FlashBoardLaw" (118 : Nat) ({ cls := "FlashBoardModel", name := "power", desc := "(Z)Z" } : Jvm.MethodName)) ∈ lw_all := lw_g (lw_at lw_m7 82 rfl) rfl
theorem q1631 : (Jvm.Cond.methodLink "FlashBoardLaw" (121 : Nat) ({ cls := "FlashBoardModel", name := "about", desc := "(I)I" } : Jvm.MethodName)) ∈ lw_all := lw_g (lw_at lw_m7 86 rfl) rfl
