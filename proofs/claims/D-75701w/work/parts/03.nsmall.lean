section
/-! java/lang/Object -/
set_option maxRecDepth 100000
def RJ6 : String := "java/lang/Object"
abbrev cJ6_init : ByteArray := object_method_1_code
def yJ6_init : MethodName := ⟨RJ6, "<init>", "()V"⟩
theorem dJ6_init_0 : decode cJ6_init 0 = .ok (.return_, 1) := by decide +kernel
theorem q147 : (Jvm.Cond.instanceMethod ({ cls := "java/lang/Object", name := "<init>", desc := "()V" } : Jvm.MethodName)) ∈ lw_all := lw_g (lw_at lw_m1 31 rfl) rfl
theorem q148 : (Jvm.Cond.code ({ cls := "java/lang/Object", name := "<init>", desc := "()V" } : Jvm.MethodName) object_method_1_code (1 : Nat) (Option.none : Option Jvm.ClassFile.FieldType)) ∈ lw_all := lw_g (lw_at lw_m1 32 rfl) rfl

end
section
/-! java/lang/Math -/
set_option maxRecDepth 100000
def RJ2 : String := "java/lang/Math"
abbrev cJ2_max : ByteArray := prog_21_method_65_code
def yJ2_max : MethodName := ⟨RJ2, "max", "(II)I"⟩
def dkwJ2_max_0 : List UInt8 := [26, 27, 161, 0, 7, 26, 167, 0, 4, 27, 172]
abbrev dktJ2_max_0 : List UInt8 := dkwJ2_max_0 ++ []
theorem dksJ2_max_0 : cJ2_max.data.toList.drop 0 = dktJ2_max_0 := by decide +kernel
theorem dJ2_max_0 : decode cJ2_max 0 = .ok (.iload_n 0, 1) := dk_26 (dk_at dksJ2_max_0 0 rfl rfl)
theorem dJ2_max_1 : decode cJ2_max 1 = .ok (.iload_n 1, 1) := dk_27 (dk_at dksJ2_max_0 1 rfl rfl)
theorem dJ2_max_2 : decode cJ2_max 2 = .ok (.if_icmp .lt 7, 3) := dk_161 0 7 (dk_at dksJ2_max_0 2 rfl rfl)
theorem dJ2_max_5 : decode cJ2_max 5 = .ok (.iload_n 0, 1) := dk_26 (dk_at dksJ2_max_0 5 rfl rfl)
theorem dJ2_max_6 : decode cJ2_max 6 = .ok (.goto 4, 3) := dk_167 0 4 (dk_at dksJ2_max_0 6 rfl rfl)
theorem dJ2_max_9 : decode cJ2_max 9 = .ok (.iload_n 1, 1) := dk_27 (dk_at dksJ2_max_0 9 rfl rfl)
theorem dJ2_max_10 : decode cJ2_max 10 = .ok (.ireturn, 1) := dk_172 (dk_at dksJ2_max_0 10 rfl rfl)
abbrev cJ2_min : ByteArray := prog_21_method_69_code
def yJ2_min : MethodName := ⟨RJ2, "min", "(II)I"⟩
def dkwJ2_min_0 : List UInt8 := [26, 27, 163, 0, 7, 26, 167, 0, 4, 27, 172]
abbrev dktJ2_min_0 : List UInt8 := dkwJ2_min_0 ++ []
theorem dksJ2_min_0 : cJ2_min.data.toList.drop 0 = dktJ2_min_0 := by decide +kernel
theorem dJ2_min_0 : decode cJ2_min 0 = .ok (.iload_n 0, 1) := dk_26 (dk_at dksJ2_min_0 0 rfl rfl)
theorem dJ2_min_1 : decode cJ2_min 1 = .ok (.iload_n 1, 1) := dk_27 (dk_at dksJ2_min_0 1 rfl rfl)
theorem dJ2_min_2 : decode cJ2_min 2 = .ok (.if_icmp .gt 7, 3) := dk_163 0 7 (dk_at dksJ2_min_0 2 rfl rfl)
theorem dJ2_min_5 : decode cJ2_min 5 = .ok (.iload_n 0, 1) := dk_26 (dk_at dksJ2_min_0 5 rfl rfl)
theorem dJ2_min_6 : decode cJ2_min 6 = .ok (.goto 4, 3) := dk_167 0 4 (dk_at dksJ2_min_0 6 rfl rfl)
theorem dJ2_min_9 : decode cJ2_min 9 = .ok (.iload_n 1, 1) := dk_27 (dk_at dksJ2_min_0 9 rfl rfl)
theorem dJ2_min_10 : decode cJ2_min 10 = .ok (.ireturn, 1) := dk_172 (dk_at dksJ2_min_0 10 rfl rfl)
abbrev cJ2_abs : ByteArray := prog_21_method_59_code
def yJ2_abs : MethodName := ⟨RJ2, "abs", "(I)I"⟩
def dkwJ2_abs_0 : List UInt8 := [26, 156, 0, 8, 26, 116, 167, 0, 4, 26, 172]
abbrev dktJ2_abs_0 : List UInt8 := dkwJ2_abs_0 ++ []
theorem dksJ2_abs_0 : cJ2_abs.data.toList.drop 0 = dktJ2_abs_0 := by decide +kernel
theorem dJ2_abs_0 : decode cJ2_abs 0 = .ok (.iload_n 0, 1) := dk_26 (dk_at dksJ2_abs_0 0 rfl rfl)
theorem dJ2_abs_1 : decode cJ2_abs 1 = .ok (.ifCond .ge 8, 3) := dk_156 0 8 (dk_at dksJ2_abs_0 1 rfl rfl)
theorem dJ2_abs_4 : decode cJ2_abs 4 = .ok (.iload_n 0, 1) := dk_26 (dk_at dksJ2_abs_0 4 rfl rfl)
theorem dJ2_abs_5 : decode cJ2_abs 5 = .ok (.ineg, 1) := dk_116 (dk_at dksJ2_abs_0 5 rfl rfl)
theorem dJ2_abs_6 : decode cJ2_abs 6 = .ok (.goto 4, 3) := dk_167 0 4 (dk_at dksJ2_abs_0 6 rfl rfl)
theorem dJ2_abs_9 : decode cJ2_abs 9 = .ok (.iload_n 0, 1) := dk_26 (dk_at dksJ2_abs_0 9 rfl rfl)
theorem dJ2_abs_10 : decode cJ2_abs 10 = .ok (.ireturn, 1) := dk_172 (dk_at dksJ2_abs_0 10 rfl rfl)
theorem q126 : (Jvm.Cond.initialized "java/lang/Math") ∈ lw_all := lw_g (lw_at lw_m1 10 rfl) rfl
theorem q413 : (Jvm.Cond.static ({ cls := "java/lang/Math", name := "max", desc := "(II)I" } : Jvm.MethodName)) ∈ lw_all := lw_g (lw_at lw_m2 57 rfl) rfl
theorem q414 : (Jvm.Cond.code ({ cls := "java/lang/Math", name := "max", desc := "(II)I" } : Jvm.MethodName) prog_21_method_65_code (2 : Nat) (Option.some Jvm.ClassFile.FieldType.int)) ∈ lw_all := lw_g (lw_at lw_m2 58 rfl) rfl
theorem q416 : (Jvm.Cond.static ({ cls := "java/lang/Math", name := "min", desc := "(II)I" } : Jvm.MethodName)) ∈ lw_all := lw_g (lw_at lw_m2 60 rfl) rfl
theorem q417 : (Jvm.Cond.code ({ cls := "java/lang/Math", name := "min", desc := "(II)I" } : Jvm.MethodName) prog_21_method_69_code (2 : Nat) (Option.some Jvm.ClassFile.FieldType.int)) ∈ lw_all := lw_g (lw_at lw_m2 61 rfl) rfl
theorem q950 : (Jvm.Cond.static ({ cls := "java/lang/Math", name := "abs", desc := "(I)I" } : Jvm.MethodName)) ∈ lw_all := lw_g (lw_at lw_m4 114 rfl) rfl
theorem q951 : (Jvm.Cond.code ({ cls := "java/lang/Math", name := "abs", desc := "(I)I" } : Jvm.MethodName) prog_21_method_59_code (1 : Nat) (Option.some Jvm.ClassFile.FieldType.int)) ∈ lw_all := lw_g (lw_at lw_m4 115 rfl) rfl

end
section
/-! java/lang/String -/
set_option maxRecDepth 100000
def RJ0 : String := "java/lang/String"
abbrev cJ0_indexOf : ByteArray := prog_22_method_79_code
def yJ0_indexOf : MethodName := ⟨RJ0, "indexOf", "(I)I"⟩
def dkwJ0_indexOf_0 : List UInt8 := [42, 27, 3, 182, 2, 121, 172]
abbrev dktJ0_indexOf_0 : List UInt8 := dkwJ0_indexOf_0 ++ []
theorem dksJ0_indexOf_0 : cJ0_indexOf.data.toList.drop 0 = dktJ0_indexOf_0 := by decide +kernel
theorem dJ0_indexOf_0 : decode cJ0_indexOf 0 = .ok (.aload_n 0, 1) := dk_42 (dk_at dksJ0_indexOf_0 0 rfl rfl)
theorem dJ0_indexOf_1 : decode cJ0_indexOf 1 = .ok (.iload_n 1, 1) := dk_27 (dk_at dksJ0_indexOf_0 1 rfl rfl)
theorem dJ0_indexOf_2 : decode cJ0_indexOf 2 = .ok (.iconst 0, 1) := dk_3 (dk_at dksJ0_indexOf_0 2 rfl rfl)
theorem dJ0_indexOf_3 : decode cJ0_indexOf 3 = .ok (.invokevirtual 633, 3) := dk_182 2 121 (dk_at dksJ0_indexOf_0 3 rfl rfl)
theorem dJ0_indexOf_6 : decode cJ0_indexOf 6 = .ok (.ireturn, 1) := dk_172 (dk_at dksJ0_indexOf_0 6 rfl rfl)
abbrev cJ0_indexOf_2 : ByteArray := prog_22_method_80_code
def yJ0_indexOf_2 : MethodName := ⟨RJ0, "indexOf", "(II)I"⟩
def dkwJ0_indexOf_2_1 : List UInt8 := [180, 0, 9, 27, 28, 42, 182, 1, 249, 184, 2, 128, 172]
abbrev dktJ0_indexOf_2_1 : List UInt8 := dkwJ0_indexOf_2_1 ++ []
def dkwJ0_indexOf_2_0 : List UInt8 := [42, 182, 1, 236, 153, 0, 19, 42, 180, 0, 9, 27, 28, 42, 182, 1, 249, 184, 2, 125, 167, 0, 16, 42]
abbrev dktJ0_indexOf_2_0 : List UInt8 := dkwJ0_indexOf_2_0 ++ dktJ0_indexOf_2_1
theorem dksJ0_indexOf_2_0 : cJ0_indexOf_2.data.toList.drop 0 = dktJ0_indexOf_2_0 := by decide +kernel
theorem dksJ0_indexOf_2_1 : cJ0_indexOf_2.data.toList.drop 24 = dktJ0_indexOf_2_1 := dk_seg dksJ0_indexOf_2_0 24 rfl rfl
theorem dJ0_indexOf_2_0 : decode cJ0_indexOf_2 0 = .ok (.aload_n 0, 1) := dk_42 (dk_at dksJ0_indexOf_2_0 0 rfl rfl)
theorem dJ0_indexOf_2_1 : decode cJ0_indexOf_2 1 = .ok (.invokevirtual 492, 3) := dk_182 1 236 (dk_at dksJ0_indexOf_2_0 1 rfl rfl)
theorem dJ0_indexOf_2_4 : decode cJ0_indexOf_2 4 = .ok (.ifCond .eq 19, 3) := dk_153 0 19 (dk_at dksJ0_indexOf_2_0 4 rfl rfl)
theorem dJ0_indexOf_2_7 : decode cJ0_indexOf_2 7 = .ok (.aload_n 0, 1) := dk_42 (dk_at dksJ0_indexOf_2_0 7 rfl rfl)
theorem dJ0_indexOf_2_8 : decode cJ0_indexOf_2 8 = .ok (.getfield 9, 3) := dk_180 0 9 (dk_at dksJ0_indexOf_2_0 8 rfl rfl)
theorem dJ0_indexOf_2_11 : decode cJ0_indexOf_2 11 = .ok (.iload_n 1, 1) := dk_27 (dk_at dksJ0_indexOf_2_0 11 rfl rfl)
theorem dJ0_indexOf_2_12 : decode cJ0_indexOf_2 12 = .ok (.iload_n 2, 1) := dk_28 (dk_at dksJ0_indexOf_2_0 12 rfl rfl)
theorem dJ0_indexOf_2_13 : decode cJ0_indexOf_2 13 = .ok (.aload_n 0, 1) := dk_42 (dk_at dksJ0_indexOf_2_0 13 rfl rfl)
theorem dJ0_indexOf_2_14 : decode cJ0_indexOf_2 14 = .ok (.invokevirtual 505, 3) := dk_182 1 249 (dk_at dksJ0_indexOf_2_0 14 rfl rfl)
theorem dJ0_indexOf_2_17 : decode cJ0_indexOf_2 17 = .ok (.invokestatic 637, 3) := dk_184 2 125 (dk_at dksJ0_indexOf_2_0 17 rfl rfl)
theorem dJ0_indexOf_2_20 : decode cJ0_indexOf_2 20 = .ok (.goto 16, 3) := dk_167 0 16 (dk_at dksJ0_indexOf_2_0 20 rfl rfl)
theorem dJ0_indexOf_2_23 : decode cJ0_indexOf_2 23 = .ok (.aload_n 0, 1) := dk_42 (dk_at dksJ0_indexOf_2_0 23 rfl rfl)
theorem dJ0_indexOf_2_24 : decode cJ0_indexOf_2 24 = .ok (.getfield 9, 3) := dk_180 0 9 (dk_at dksJ0_indexOf_2_1 0 rfl rfl)
theorem dJ0_indexOf_2_27 : decode cJ0_indexOf_2 27 = .ok (.iload_n 1, 1) := dk_27 (dk_at dksJ0_indexOf_2_1 3 rfl rfl)
theorem dJ0_indexOf_2_28 : decode cJ0_indexOf_2 28 = .ok (.iload_n 2, 1) := dk_28 (dk_at dksJ0_indexOf_2_1 4 rfl rfl)
theorem dJ0_indexOf_2_29 : decode cJ0_indexOf_2 29 = .ok (.aload_n 0, 1) := dk_42 (dk_at dksJ0_indexOf_2_1 5 rfl rfl)
theorem dJ0_indexOf_2_30 : decode cJ0_indexOf_2 30 = .ok (.invokevirtual 505, 3) := dk_182 1 249 (dk_at dksJ0_indexOf_2_1 6 rfl rfl)
theorem dJ0_indexOf_2_33 : decode cJ0_indexOf_2 33 = .ok (.invokestatic 640, 3) := dk_184 2 128 (dk_at dksJ0_indexOf_2_1 9 rfl rfl)
theorem dJ0_indexOf_2_36 : decode cJ0_indexOf_2 36 = .ok (.ireturn, 1) := dk_172 (dk_at dksJ0_indexOf_2_1 12 rfl rfl)
abbrev cJ0_isLatin1 : ByteArray := prog_22_method_154_code
def yJ0_isLatin1 : MethodName := ⟨RJ0, "isLatin1", "()Z"⟩
def dkwJ0_isLatin1_0 : List UInt8 := [178, 0, 38, 153, 0, 14, 42, 180, 0, 15, 154, 0, 7, 4, 167, 0, 4, 3, 172]
abbrev dktJ0_isLatin1_0 : List UInt8 := dkwJ0_isLatin1_0 ++ []
theorem dksJ0_isLatin1_0 : cJ0_isLatin1.data.toList.drop 0 = dktJ0_isLatin1_0 := by decide +kernel
theorem dJ0_isLatin1_0 : decode cJ0_isLatin1 0 = .ok (.getstatic 38, 3) := dk_178 0 38 (dk_at dksJ0_isLatin1_0 0 rfl rfl)
theorem dJ0_isLatin1_3 : decode cJ0_isLatin1 3 = .ok (.ifCond .eq 14, 3) := dk_153 0 14 (dk_at dksJ0_isLatin1_0 3 rfl rfl)
theorem dJ0_isLatin1_6 : decode cJ0_isLatin1 6 = .ok (.aload_n 0, 1) := dk_42 (dk_at dksJ0_isLatin1_0 6 rfl rfl)
theorem dJ0_isLatin1_7 : decode cJ0_isLatin1 7 = .ok (.getfield 15, 3) := dk_180 0 15 (dk_at dksJ0_isLatin1_0 7 rfl rfl)
theorem dJ0_isLatin1_10 : decode cJ0_isLatin1 10 = .ok (.ifCond .ne 7, 3) := dk_154 0 7 (dk_at dksJ0_isLatin1_0 10 rfl rfl)
theorem dJ0_isLatin1_13 : decode cJ0_isLatin1 13 = .ok (.iconst 1, 1) := dk_4 (dk_at dksJ0_isLatin1_0 13 rfl rfl)
theorem dJ0_isLatin1_14 : decode cJ0_isLatin1 14 = .ok (.goto 4, 3) := dk_167 0 4 (dk_at dksJ0_isLatin1_0 14 rfl rfl)
theorem dJ0_isLatin1_17 : decode cJ0_isLatin1 17 = .ok (.iconst 0, 1) := dk_3 (dk_at dksJ0_isLatin1_0 17 rfl rfl)
theorem dJ0_isLatin1_18 : decode cJ0_isLatin1 18 = .ok (.ireturn, 1) := dk_172 (dk_at dksJ0_isLatin1_0 18 rfl rfl)
abbrev cJ0_length : ByteArray := prog_22_method_54_code
def yJ0_length : MethodName := ⟨RJ0, "length", "()I"⟩
def dkwJ0_length_0 : List UInt8 := [42, 180, 0, 9, 190, 42, 182, 1, 79, 122, 172]
abbrev dktJ0_length_0 : List UInt8 := dkwJ0_length_0 ++ []
theorem dksJ0_length_0 : cJ0_length.data.toList.drop 0 = dktJ0_length_0 := by decide +kernel
theorem dJ0_length_0 : decode cJ0_length 0 = .ok (.aload_n 0, 1) := dk_42 (dk_at dksJ0_length_0 0 rfl rfl)
theorem dJ0_length_1 : decode cJ0_length 1 = .ok (.getfield 9, 3) := dk_180 0 9 (dk_at dksJ0_length_0 1 rfl rfl)
theorem dJ0_length_4 : decode cJ0_length 4 = .ok (.arraylength, 1) := dk_190 (dk_at dksJ0_length_0 4 rfl rfl)
theorem dJ0_length_5 : decode cJ0_length 5 = .ok (.aload_n 0, 1) := dk_42 (dk_at dksJ0_length_0 5 rfl rfl)
theorem dJ0_length_6 : decode cJ0_length 6 = .ok (.invokevirtual 335, 3) := dk_182 1 79 (dk_at dksJ0_length_0 6 rfl rfl)
theorem dJ0_length_9 : decode cJ0_length 9 = .ok (.ishr, 1) := dk_122 (dk_at dksJ0_length_0 9 rfl rfl)
theorem dJ0_length_10 : decode cJ0_length 10 = .ok (.ireturn, 1) := dk_172 (dk_at dksJ0_length_0 10 rfl rfl)
abbrev cJ0_coder : ByteArray := prog_22_method_152_code
def yJ0_coder : MethodName := ⟨RJ0, "coder", "()B"⟩
def dkwJ0_coder_0 : List UInt8 := [178, 0, 38, 153, 0, 10, 42, 180, 0, 15, 167, 0, 4, 4, 172]
abbrev dktJ0_coder_0 : List UInt8 := dkwJ0_coder_0 ++ []
theorem dksJ0_coder_0 : cJ0_coder.data.toList.drop 0 = dktJ0_coder_0 := by decide +kernel
theorem dJ0_coder_0 : decode cJ0_coder 0 = .ok (.getstatic 38, 3) := dk_178 0 38 (dk_at dksJ0_coder_0 0 rfl rfl)
theorem dJ0_coder_3 : decode cJ0_coder 3 = .ok (.ifCond .eq 10, 3) := dk_153 0 10 (dk_at dksJ0_coder_0 3 rfl rfl)
theorem dJ0_coder_6 : decode cJ0_coder 6 = .ok (.aload_n 0, 1) := dk_42 (dk_at dksJ0_coder_0 6 rfl rfl)
theorem dJ0_coder_7 : decode cJ0_coder 7 = .ok (.getfield 15, 3) := dk_180 0 15 (dk_at dksJ0_coder_0 7 rfl rfl)
theorem dJ0_coder_10 : decode cJ0_coder 10 = .ok (.goto 4, 3) := dk_167 0 4 (dk_at dksJ0_coder_0 10 rfl rfl)
theorem dJ0_coder_13 : decode cJ0_coder 13 = .ok (.iconst 1, 1) := dk_4 (dk_at dksJ0_coder_0 13 rfl rfl)
theorem dJ0_coder_14 : decode cJ0_coder 14 = .ok (.ireturn, 1) := dk_172 (dk_at dksJ0_coder_0 14 rfl rfl)
abbrev cJ0_checkBoundsBeginEnd : ByteArray := prog_22_method_158_code
def yJ0_checkBoundsBeginEnd : MethodName := ⟨RJ0, "checkBoundsBeginEnd", "(III)V"⟩
def dkwJ0_checkBoundsBeginEnd_0 : List UInt8 := [26, 27, 28, 178, 4, 29, 184, 4, 38, 87, 177]
abbrev dktJ0_checkBoundsBeginEnd_0 : List UInt8 := dkwJ0_checkBoundsBeginEnd_0 ++ []
theorem dksJ0_checkBoundsBeginEnd_0 : cJ0_checkBoundsBeginEnd.data.toList.drop 0 = dktJ0_checkBoundsBeginEnd_0 := by decide +kernel
theorem dJ0_checkBoundsBeginEnd_0 : decode cJ0_checkBoundsBeginEnd 0 = .ok (.iload_n 0, 1) := dk_26 (dk_at dksJ0_checkBoundsBeginEnd_0 0 rfl rfl)
theorem dJ0_checkBoundsBeginEnd_1 : decode cJ0_checkBoundsBeginEnd 1 = .ok (.iload_n 1, 1) := dk_27 (dk_at dksJ0_checkBoundsBeginEnd_0 1 rfl rfl)
theorem dJ0_checkBoundsBeginEnd_2 : decode cJ0_checkBoundsBeginEnd 2 = .ok (.iload_n 2, 1) := dk_28 (dk_at dksJ0_checkBoundsBeginEnd_0 2 rfl rfl)
theorem dJ0_checkBoundsBeginEnd_3 : decode cJ0_checkBoundsBeginEnd 3 = .ok (.getstatic 1053, 3) := dk_178 4 29 (dk_at dksJ0_checkBoundsBeginEnd_0 3 rfl rfl)
theorem dJ0_checkBoundsBeginEnd_6 : decode cJ0_checkBoundsBeginEnd 6 = .ok (.invokestatic 1062, 3) := dk_184 4 38 (dk_at dksJ0_checkBoundsBeginEnd_0 6 rfl rfl)
theorem dJ0_checkBoundsBeginEnd_9 : decode cJ0_checkBoundsBeginEnd 9 = .ok (.pop, 1) := dk_87 (dk_at dksJ0_checkBoundsBeginEnd_0 9 rfl rfl)
theorem dJ0_checkBoundsBeginEnd_10 : decode cJ0_checkBoundsBeginEnd 10 = .ok (.return_, 1) := dk_177 (dk_at dksJ0_checkBoundsBeginEnd_0 10 rfl rfl)
theorem q124 : (Jvm.Cond.initialized "java/lang/String") ∈ lw_all := lw_g (lw_at lw_m1 8 rfl) rfl
theorem q385 : (Jvm.Cond.instanceMethod ({ cls := "java/lang/String", name := "indexOf", desc := "(I)I" } : Jvm.MethodName)) ∈ lw_all := lw_g (lw_at lw_m2 29 rfl) rfl
theorem q386 : (Jvm.Cond.selects "java/lang/String" ({ cls := "java/lang/String", name := "indexOf", desc := "(I)I" } : Jvm.MethodName) ({ cls := "java/lang/String", name := "indexOf", desc := "(I)I" } : Jvm.MethodName)) ∈ lw_all := lw_g (lw_at lw_m2 30 rfl) rfl
theorem q387 : (Jvm.Cond.code ({ cls := "java/lang/String", name := "indexOf", desc := "(I)I" } : Jvm.MethodName) prog_22_method_79_code (2 : Nat) (Option.some Jvm.ClassFile.FieldType.int)) ∈ lw_all := lw_g (lw_at lw_m2 31 rfl) rfl
theorem q388 : (Jvm.Cond.methodLink "java/lang/String" (633 : Nat) ({ cls := "java/lang/String", name := "indexOf", desc := "(II)I" } : Jvm.MethodName)) ∈ lw_all := lw_g (lw_at lw_m2 32 rfl) rfl
theorem q389 : (Jvm.Cond.instanceMethod ({ cls := "java/lang/String", name := "indexOf", desc := "(II)I" } : Jvm.MethodName)) ∈ lw_all := lw_g (lw_at lw_m2 33 rfl) rfl
theorem q390 : (Jvm.Cond.selects "java/lang/String" ({ cls := "java/lang/String", name := "indexOf", desc := "(II)I" } : Jvm.MethodName) ({ cls := "java/lang/String", name := "indexOf", desc := "(II)I" } : Jvm.MethodName)) ∈ lw_all := lw_g (lw_at lw_m2 34 rfl) rfl
theorem q391 : (Jvm.Cond.code ({ cls := "java/lang/String", name := "indexOf", desc := "(II)I" } : Jvm.MethodName) prog_22_method_80_code (3 : Nat) (Option.some Jvm.ClassFile.FieldType.int)) ∈ lw_all := lw_g (lw_at lw_m2 35 rfl) rfl
theorem q392 : (Jvm.Cond.methodLink "java/lang/String" (492 : Nat) ({ cls := "java/lang/String", name := "isLatin1", desc := "()Z" } : Jvm.MethodName)) ∈ lw_all := lw_g (lw_at lw_m2 36 rfl) rfl
theorem q393 : (Jvm.Cond.instanceMethod ({ cls := "java/lang/String", name := "isLatin1", desc := "()Z" } : Jvm.MethodName)) ∈ lw_all := lw_g (lw_at lw_m2 37 rfl) rfl
theorem q394 : (Jvm.Cond.selects "java/lang/String" ({ cls := "java/lang/String", name := "isLatin1", desc := "()Z" } : Jvm.MethodName) ({ cls := "java/lang/String", name := "isLatin1", desc := "()Z" } : Jvm.MethodName)) ∈ lw_all := lw_g (lw_at lw_m2 38 rfl) rfl
theorem q395 : (Jvm.Cond.code ({ cls := "java/lang/String", name := "isLatin1", desc := "()Z" } : Jvm.MethodName) prog_22_method_154_code (1 : Nat) (Option.some Jvm.ClassFile.FieldType.boolean)) ∈ lw_all := lw_g (lw_at lw_m2 39 rfl) rfl
theorem q396 : (Jvm.Cond.fieldLink "java/lang/String" (38 : Nat) "java/lang/String" "COMPACT_STRINGS" "Z") ∈ lw_all := lw_g (lw_at lw_m2 40 rfl) rfl
theorem q397 : (Jvm.Cond.laysStatic "java/lang/String" "COMPACT_STRINGS" "Z") ∈ lw_tbl := lw_at lw_m2 41 rfl
theorem q398 : (Jvm.Cond.methodLink "java/lang/String" (505 : Nat) ({ cls := "java/lang/String", name := "length", desc := "()I" } : Jvm.MethodName)) ∈ lw_all := lw_g (lw_at lw_m2 42 rfl) rfl
theorem q399 : (Jvm.Cond.instanceMethod ({ cls := "java/lang/String", name := "length", desc := "()I" } : Jvm.MethodName)) ∈ lw_all := lw_g (lw_at lw_m2 43 rfl) rfl
theorem q400 : (Jvm.Cond.selects "java/lang/String" ({ cls := "java/lang/String", name := "length", desc := "()I" } : Jvm.MethodName) ({ cls := "java/lang/String", name := "length", desc := "()I" } : Jvm.MethodName)) ∈ lw_all := lw_g (lw_at lw_m2 44 rfl) rfl
theorem q401 : (Jvm.Cond.code ({ cls := "java/lang/String", name := "length", desc := "()I" } : Jvm.MethodName) prog_22_method_54_code (1 : Nat) (Option.some Jvm.ClassFile.FieldType.int)) ∈ lw_all := lw_g (lw_at lw_m2 45 rfl) rfl
theorem q402 : (Jvm.Cond.methodLink "java/lang/String" (335 : Nat) ({ cls := "java/lang/String", name := "coder", desc := "()B" } : Jvm.MethodName)) ∈ lw_all := lw_g (lw_at lw_m2 46 rfl) rfl
theorem q403 : (Jvm.Cond.instanceMethod ({ cls := "java/lang/String", name := "coder", desc := "()B" } : Jvm.MethodName)) ∈ lw_all := lw_g (lw_at lw_m2 47 rfl) rfl
theorem q404 : (Jvm.Cond.selects "java/lang/String" ({ cls := "java/lang/String", name := "coder", desc := "()B" } : Jvm.MethodName) ({ cls := "java/lang/String", name := "coder", desc := "()B" } : Jvm.MethodName)) ∈ lw_all := lw_g (lw_at lw_m2 48 rfl) rfl
theorem q405 : (Jvm.Cond.code ({ cls := "java/lang/String", name := "coder", desc := "()B" } : Jvm.MethodName) prog_22_method_152_code (1 : Nat) (Option.some Jvm.ClassFile.FieldType.byte)) ∈ lw_all := lw_g (lw_at lw_m2 49 rfl) rfl
theorem q406 : (Jvm.Cond.methodLink "java/lang/String" (637 : Nat) ({ cls := "java/lang/StringLatin1", name := "indexOf", desc := "([BIII)I" } : Jvm.MethodName)) ∈ lw_all := lw_g (lw_at lw_m2 50 rfl) rfl
theorem q421 : (Jvm.Cond.methodLink "java/lang/String" (640 : Nat) ({ cls := "java/lang/StringUTF16", name := "indexOf", desc := "([BIII)I" } : Jvm.MethodName)) ∈ lw_all := lw_g (lw_at lw_m2 65 rfl) rfl
theorem q437 : (Jvm.Cond.static ({ cls := "java/lang/String", name := "checkBoundsBeginEnd", desc := "(III)V" } : Jvm.MethodName)) ∈ lw_all := lw_g (lw_at lw_m2 81 rfl) rfl
theorem q438 : (Jvm.Cond.code ({ cls := "java/lang/String", name := "checkBoundsBeginEnd", desc := "(III)V" } : Jvm.MethodName) prog_22_method_158_code (3 : Nat) (Option.none : Option Jvm.ClassFile.FieldType)) ∈ lw_all := lw_g (lw_at lw_m2 82 rfl) rfl
theorem q439 : (Jvm.Cond.fieldLink "java/lang/String" (1053 : Nat) "jdk/internal/util/Preconditions" "SIOOBE_FORMATTER" "Ljava/util/function/BiFunction;") ∈ lw_all := lw_g (lw_at lw_m2 83 rfl) rfl
theorem q441 : (Jvm.Cond.methodLink "java/lang/String" (1062 : Nat) ({ cls := "jdk/internal/util/Preconditions", name := "checkFromToIndex", desc := "(IIILjava/util/function/BiFunction;)I" } : Jvm.MethodName)) ∈ lw_all := lw_g (lw_at lw_m2 85 rfl) rfl
theorem q1872 : (Jvm.Cond.fieldLink "java/lang/String" (15 : Nat) "java/lang/String" "coder" "B") ∈ lw_all := lw_g (lw_at lw_m8 76 rfl) rfl
theorem q1873 : (Jvm.Cond.fieldLink "java/lang/String" (9 : Nat) "java/lang/String" "value" "[B") ∈ lw_all := lw_g (lw_at lw_m8 77 rfl) rfl

end
section
/-! java/lang/StringLatin1 -/
set_option maxRecDepth 100000
def RJ1 : String := "java/lang/StringLatin1"
abbrev cJ1_indexOf : ByteArray := prog_23_method_22_code
def yJ1_indexOf : MethodName := ⟨RJ1, "indexOf", "([BIII)I"⟩
def dkwJ1_indexOf_1 : List UInt8 := [161, 0, 5, 2, 172, 42, 27, 28, 29, 184, 0, 95, 172]
abbrev dktJ1_indexOf_1 : List UInt8 := dkwJ1_indexOf_1 ++ []
def dkwJ1_indexOf_0 : List UInt8 := [27, 184, 0, 88, 154, 0, 5, 2, 172, 28, 3, 184, 0, 92, 61, 29, 42, 190, 184, 0, 38, 62, 28, 29]
abbrev dktJ1_indexOf_0 : List UInt8 := dkwJ1_indexOf_0 ++ dktJ1_indexOf_1
theorem dksJ1_indexOf_0 : cJ1_indexOf.data.toList.drop 0 = dktJ1_indexOf_0 := by decide +kernel
theorem dksJ1_indexOf_1 : cJ1_indexOf.data.toList.drop 24 = dktJ1_indexOf_1 := dk_seg dksJ1_indexOf_0 24 rfl rfl
theorem dJ1_indexOf_0 : decode cJ1_indexOf 0 = .ok (.iload_n 1, 1) := dk_27 (dk_at dksJ1_indexOf_0 0 rfl rfl)
theorem dJ1_indexOf_1 : decode cJ1_indexOf 1 = .ok (.invokestatic 88, 3) := dk_184 0 88 (dk_at dksJ1_indexOf_0 1 rfl rfl)
theorem dJ1_indexOf_4 : decode cJ1_indexOf 4 = .ok (.ifCond .ne 5, 3) := dk_154 0 5 (dk_at dksJ1_indexOf_0 4 rfl rfl)
theorem dJ1_indexOf_7 : decode cJ1_indexOf 7 = .ok (.iconst (-1), 1) := dk_2 (dk_at dksJ1_indexOf_0 7 rfl rfl)
theorem dJ1_indexOf_8 : decode cJ1_indexOf 8 = .ok (.ireturn, 1) := dk_172 (dk_at dksJ1_indexOf_0 8 rfl rfl)
theorem dJ1_indexOf_9 : decode cJ1_indexOf 9 = .ok (.iload_n 2, 1) := dk_28 (dk_at dksJ1_indexOf_0 9 rfl rfl)
theorem dJ1_indexOf_10 : decode cJ1_indexOf 10 = .ok (.iconst 0, 1) := dk_3 (dk_at dksJ1_indexOf_0 10 rfl rfl)
theorem dJ1_indexOf_11 : decode cJ1_indexOf 11 = .ok (.invokestatic 92, 3) := dk_184 0 92 (dk_at dksJ1_indexOf_0 11 rfl rfl)
theorem dJ1_indexOf_14 : decode cJ1_indexOf 14 = .ok (.istore_n 2, 1) := dk_61 (dk_at dksJ1_indexOf_0 14 rfl rfl)
theorem dJ1_indexOf_15 : decode cJ1_indexOf 15 = .ok (.iload_n 3, 1) := dk_29 (dk_at dksJ1_indexOf_0 15 rfl rfl)
theorem dJ1_indexOf_16 : decode cJ1_indexOf 16 = .ok (.aload_n 0, 1) := dk_42 (dk_at dksJ1_indexOf_0 16 rfl rfl)
theorem dJ1_indexOf_17 : decode cJ1_indexOf 17 = .ok (.arraylength, 1) := dk_190 (dk_at dksJ1_indexOf_0 17 rfl rfl)
theorem dJ1_indexOf_18 : decode cJ1_indexOf 18 = .ok (.invokestatic 38, 3) := dk_184 0 38 (dk_at dksJ1_indexOf_0 18 rfl rfl)
theorem dJ1_indexOf_21 : decode cJ1_indexOf 21 = .ok (.istore_n 3, 1) := dk_62 (dk_at dksJ1_indexOf_0 21 rfl rfl)
theorem dJ1_indexOf_22 : decode cJ1_indexOf 22 = .ok (.iload_n 2, 1) := dk_28 (dk_at dksJ1_indexOf_0 22 rfl rfl)
theorem dJ1_indexOf_23 : decode cJ1_indexOf 23 = .ok (.iload_n 3, 1) := dk_29 (dk_at dksJ1_indexOf_0 23 rfl rfl)
theorem dJ1_indexOf_24 : decode cJ1_indexOf 24 = .ok (.if_icmp .lt 5, 3) := dk_161 0 5 (dk_at dksJ1_indexOf_1 0 rfl rfl)
theorem dJ1_indexOf_27 : decode cJ1_indexOf 27 = .ok (.iconst (-1), 1) := dk_2 (dk_at dksJ1_indexOf_1 3 rfl rfl)
theorem dJ1_indexOf_28 : decode cJ1_indexOf 28 = .ok (.ireturn, 1) := dk_172 (dk_at dksJ1_indexOf_1 4 rfl rfl)
theorem dJ1_indexOf_29 : decode cJ1_indexOf 29 = .ok (.aload_n 0, 1) := dk_42 (dk_at dksJ1_indexOf_1 5 rfl rfl)
theorem dJ1_indexOf_30 : decode cJ1_indexOf 30 = .ok (.iload_n 1, 1) := dk_27 (dk_at dksJ1_indexOf_1 6 rfl rfl)
theorem dJ1_indexOf_31 : decode cJ1_indexOf 31 = .ok (.iload_n 2, 1) := dk_28 (dk_at dksJ1_indexOf_1 7 rfl rfl)
theorem dJ1_indexOf_32 : decode cJ1_indexOf 32 = .ok (.iload_n 3, 1) := dk_29 (dk_at dksJ1_indexOf_1 8 rfl rfl)
theorem dJ1_indexOf_33 : decode cJ1_indexOf 33 = .ok (.invokestatic 95, 3) := dk_184 0 95 (dk_at dksJ1_indexOf_1 9 rfl rfl)
theorem dJ1_indexOf_36 : decode cJ1_indexOf 36 = .ok (.ireturn, 1) := dk_172 (dk_at dksJ1_indexOf_1 12 rfl rfl)
abbrev cJ1_canEncode : ByteArray := prog_23_method_4_code
def yJ1_canEncode : MethodName := ⟨RJ1, "canEncode", "(I)Z"⟩
def dkwJ1_canEncode_0 : List UInt8 := [26, 155, 0, 14, 26, 17, 0, 255, 163, 0, 7, 4, 167, 0, 4, 3, 172]
abbrev dktJ1_canEncode_0 : List UInt8 := dkwJ1_canEncode_0 ++ []
theorem dksJ1_canEncode_0 : cJ1_canEncode.data.toList.drop 0 = dktJ1_canEncode_0 := by decide +kernel
theorem dJ1_canEncode_0 : decode cJ1_canEncode 0 = .ok (.iload_n 0, 1) := dk_26 (dk_at dksJ1_canEncode_0 0 rfl rfl)
theorem dJ1_canEncode_1 : decode cJ1_canEncode 1 = .ok (.ifCond .lt 14, 3) := dk_155 0 14 (dk_at dksJ1_canEncode_0 1 rfl rfl)
theorem dJ1_canEncode_4 : decode cJ1_canEncode 4 = .ok (.iload_n 0, 1) := dk_26 (dk_at dksJ1_canEncode_0 4 rfl rfl)
theorem dJ1_canEncode_5 : decode cJ1_canEncode 5 = .ok (.sipush 255, 3) := dk_17 0 255 (dk_at dksJ1_canEncode_0 5 rfl rfl)
theorem dJ1_canEncode_8 : decode cJ1_canEncode 8 = .ok (.if_icmp .gt 7, 3) := dk_163 0 7 (dk_at dksJ1_canEncode_0 8 rfl rfl)
theorem dJ1_canEncode_11 : decode cJ1_canEncode 11 = .ok (.iconst 1, 1) := dk_4 (dk_at dksJ1_canEncode_0 11 rfl rfl)
theorem dJ1_canEncode_12 : decode cJ1_canEncode 12 = .ok (.goto 4, 3) := dk_167 0 4 (dk_at dksJ1_canEncode_0 12 rfl rfl)
theorem dJ1_canEncode_15 : decode cJ1_canEncode 15 = .ok (.iconst 0, 1) := dk_3 (dk_at dksJ1_canEncode_0 15 rfl rfl)
theorem dJ1_canEncode_16 : decode cJ1_canEncode 16 = .ok (.ireturn, 1) := dk_172 (dk_at dksJ1_canEncode_0 16 rfl rfl)
abbrev cJ1_indexOfChar : ByteArray := prog_23_method_23_code
def yJ1_indexOfChar : MethodName := ⟨RJ1, "indexOfChar", "([BIII)I"⟩
def dkwJ1_indexOfChar_1 : List UInt8 := [172, 132, 5, 1, 167, 255, 235, 2, 172]
abbrev dktJ1_indexOfChar_1 : List UInt8 := dkwJ1_indexOfChar_1 ++ []
def dkwJ1_indexOfChar_0 : List UInt8 := [27, 145, 54, 4, 28, 54, 5, 21, 5, 29, 162, 0, 21, 42, 21, 5, 51, 21, 4, 160, 0, 6, 21, 5]
abbrev dktJ1_indexOfChar_0 : List UInt8 := dkwJ1_indexOfChar_0 ++ dktJ1_indexOfChar_1
theorem dksJ1_indexOfChar_0 : cJ1_indexOfChar.data.toList.drop 0 = dktJ1_indexOfChar_0 := by decide +kernel
theorem dksJ1_indexOfChar_1 : cJ1_indexOfChar.data.toList.drop 24 = dktJ1_indexOfChar_1 := dk_seg dksJ1_indexOfChar_0 24 rfl rfl
theorem dJ1_indexOfChar_0 : decode cJ1_indexOfChar 0 = .ok (.iload_n 1, 1) := dk_27 (dk_at dksJ1_indexOfChar_0 0 rfl rfl)
theorem dJ1_indexOfChar_1 : decode cJ1_indexOfChar 1 = .ok (.i2b, 1) := dk_145 (dk_at dksJ1_indexOfChar_0 1 rfl rfl)
theorem dJ1_indexOfChar_2 : decode cJ1_indexOfChar 2 = .ok (.istore 4, 2) := dk_54 4 (dk_at dksJ1_indexOfChar_0 2 rfl rfl)
theorem dJ1_indexOfChar_4 : decode cJ1_indexOfChar 4 = .ok (.iload_n 2, 1) := dk_28 (dk_at dksJ1_indexOfChar_0 4 rfl rfl)
theorem dJ1_indexOfChar_5 : decode cJ1_indexOfChar 5 = .ok (.istore 5, 2) := dk_54 5 (dk_at dksJ1_indexOfChar_0 5 rfl rfl)
theorem dJ1_indexOfChar_7 : decode cJ1_indexOfChar 7 = .ok (.iload 5, 2) := dk_21 5 (dk_at dksJ1_indexOfChar_0 7 rfl rfl)
theorem dJ1_indexOfChar_9 : decode cJ1_indexOfChar 9 = .ok (.iload_n 3, 1) := dk_29 (dk_at dksJ1_indexOfChar_0 9 rfl rfl)
theorem dJ1_indexOfChar_10 : decode cJ1_indexOfChar 10 = .ok (.if_icmp .ge 21, 3) := dk_162 0 21 (dk_at dksJ1_indexOfChar_0 10 rfl rfl)
theorem dJ1_indexOfChar_13 : decode cJ1_indexOfChar 13 = .ok (.aload_n 0, 1) := dk_42 (dk_at dksJ1_indexOfChar_0 13 rfl rfl)
theorem dJ1_indexOfChar_14 : decode cJ1_indexOfChar 14 = .ok (.iload 5, 2) := dk_21 5 (dk_at dksJ1_indexOfChar_0 14 rfl rfl)
theorem dJ1_indexOfChar_16 : decode cJ1_indexOfChar 16 = .ok (.baload, 1) := dk_51 (dk_at dksJ1_indexOfChar_0 16 rfl rfl)
theorem dJ1_indexOfChar_17 : decode cJ1_indexOfChar 17 = .ok (.iload 4, 2) := dk_21 4 (dk_at dksJ1_indexOfChar_0 17 rfl rfl)
theorem dJ1_indexOfChar_19 : decode cJ1_indexOfChar 19 = .ok (.if_icmp .ne 6, 3) := dk_160 0 6 (dk_at dksJ1_indexOfChar_0 19 rfl rfl)
theorem dJ1_indexOfChar_22 : decode cJ1_indexOfChar 22 = .ok (.iload 5, 2) := dk_21 5 (dk_at dksJ1_indexOfChar_0 22 rfl rfl)
theorem dJ1_indexOfChar_24 : decode cJ1_indexOfChar 24 = .ok (.ireturn, 1) := dk_172 (dk_at dksJ1_indexOfChar_1 0 rfl rfl)
theorem dJ1_indexOfChar_25 : decode cJ1_indexOfChar 25 = .ok (.iinc 5 1, 3) := dk_132 5 1 (dk_at dksJ1_indexOfChar_1 1 rfl rfl)
theorem dJ1_indexOfChar_28 : decode cJ1_indexOfChar 28 = .ok (.goto (-21), 3) := dk_167 255 235 (dk_at dksJ1_indexOfChar_1 4 rfl rfl)
theorem dJ1_indexOfChar_31 : decode cJ1_indexOfChar 31 = .ok (.iconst (-1), 1) := dk_2 (dk_at dksJ1_indexOfChar_1 7 rfl rfl)
theorem dJ1_indexOfChar_32 : decode cJ1_indexOfChar 32 = .ok (.ireturn, 1) := dk_172 (dk_at dksJ1_indexOfChar_1 8 rfl rfl)
theorem q125 : (Jvm.Cond.initialized "java/lang/StringLatin1") ∈ lw_all := lw_g (lw_at lw_m1 9 rfl) rfl
theorem q407 : (Jvm.Cond.static ({ cls := "java/lang/StringLatin1", name := "indexOf", desc := "([BIII)I" } : Jvm.MethodName)) ∈ lw_all := lw_g (lw_at lw_m2 51 rfl) rfl
theorem q408 : (Jvm.Cond.code ({ cls := "java/lang/StringLatin1", name := "indexOf", desc := "([BIII)I" } : Jvm.MethodName) prog_23_method_22_code (4 : Nat) (Option.some Jvm.ClassFile.FieldType.int)) ∈ lw_all := lw_g (lw_at lw_m2 52 rfl) rfl
theorem q409 : (Jvm.Cond.methodLink "java/lang/StringLatin1" (88 : Nat) ({ cls := "java/lang/StringLatin1", name := "canEncode", desc := "(I)Z" } : Jvm.MethodName)) ∈ lw_all := lw_g (lw_at lw_m2 53 rfl) rfl
theorem q410 : (Jvm.Cond.static ({ cls := "java/lang/StringLatin1", name := "canEncode", desc := "(I)Z" } : Jvm.MethodName)) ∈ lw_all := lw_g (lw_at lw_m2 54 rfl) rfl
theorem q411 : (Jvm.Cond.code ({ cls := "java/lang/StringLatin1", name := "canEncode", desc := "(I)Z" } : Jvm.MethodName) prog_23_method_4_code (1 : Nat) (Option.some Jvm.ClassFile.FieldType.boolean)) ∈ lw_all := lw_g (lw_at lw_m2 55 rfl) rfl
theorem q412 : (Jvm.Cond.methodLink "java/lang/StringLatin1" (92 : Nat) ({ cls := "java/lang/Math", name := "max", desc := "(II)I" } : Jvm.MethodName)) ∈ lw_all := lw_g (lw_at lw_m2 56 rfl) rfl
theorem q415 : (Jvm.Cond.methodLink "java/lang/StringLatin1" (38 : Nat) ({ cls := "java/lang/Math", name := "min", desc := "(II)I" } : Jvm.MethodName)) ∈ lw_all := lw_g (lw_at lw_m2 59 rfl) rfl
theorem q418 : (Jvm.Cond.methodLink "java/lang/StringLatin1" (95 : Nat) ({ cls := "java/lang/StringLatin1", name := "indexOfChar", desc := "([BIII)I" } : Jvm.MethodName)) ∈ lw_all := lw_g (lw_at lw_m2 62 rfl) rfl
theorem q419 : (Jvm.Cond.static ({ cls := "java/lang/StringLatin1", name := "indexOfChar", desc := "([BIII)I" } : Jvm.MethodName)) ∈ lw_all := lw_g (lw_at lw_m2 63 rfl) rfl
theorem q420 : (Jvm.Cond.code ({ cls := "java/lang/StringLatin1", name := "indexOfChar", desc := "([BIII)I" } : Jvm.MethodName) prog_23_method_23_code (6 : Nat) (Option.some Jvm.ClassFile.FieldType.int)) ∈ lw_all := lw_g (lw_at lw_m2 64 rfl) rfl

end
section
/-! java/lang/StringUTF16 -/
set_option maxRecDepth 100000
def RJ3 : String := "java/lang/StringUTF16"
abbrev cJ3_indexOf : ByteArray := prog_24_method_40_code
def yJ3_indexOf : MethodName := ⟨RJ3, "indexOf", "([BIII)I"⟩
def dkwJ3_indexOf_1 : List UInt8 := [18, 227, 162, 0, 11, 42, 27, 28, 29, 184, 0, 228, 172, 42, 27, 28, 29, 184, 0, 232, 172]
abbrev dktJ3_indexOf_1 : List UInt8 := dkwJ3_indexOf_1 ++ []
def dkwJ3_indexOf_0 : List UInt8 := [28, 3, 184, 0, 224, 61, 29, 42, 190, 4, 122, 184, 0, 183, 62, 28, 29, 161, 0, 5, 2, 172, 27]
abbrev dktJ3_indexOf_0 : List UInt8 := dkwJ3_indexOf_0 ++ dktJ3_indexOf_1
theorem dksJ3_indexOf_0 : cJ3_indexOf.data.toList.drop 0 = dktJ3_indexOf_0 := by decide +kernel
theorem dksJ3_indexOf_1 : cJ3_indexOf.data.toList.drop 23 = dktJ3_indexOf_1 := dk_seg dksJ3_indexOf_0 23 rfl rfl
theorem dJ3_indexOf_0 : decode cJ3_indexOf 0 = .ok (.iload_n 2, 1) := dk_28 (dk_at dksJ3_indexOf_0 0 rfl rfl)
theorem dJ3_indexOf_1 : decode cJ3_indexOf 1 = .ok (.iconst 0, 1) := dk_3 (dk_at dksJ3_indexOf_0 1 rfl rfl)
theorem dJ3_indexOf_2 : decode cJ3_indexOf 2 = .ok (.invokestatic 224, 3) := dk_184 0 224 (dk_at dksJ3_indexOf_0 2 rfl rfl)
theorem dJ3_indexOf_5 : decode cJ3_indexOf 5 = .ok (.istore_n 2, 1) := dk_61 (dk_at dksJ3_indexOf_0 5 rfl rfl)
theorem dJ3_indexOf_6 : decode cJ3_indexOf 6 = .ok (.iload_n 3, 1) := dk_29 (dk_at dksJ3_indexOf_0 6 rfl rfl)
theorem dJ3_indexOf_7 : decode cJ3_indexOf 7 = .ok (.aload_n 0, 1) := dk_42 (dk_at dksJ3_indexOf_0 7 rfl rfl)
theorem dJ3_indexOf_8 : decode cJ3_indexOf 8 = .ok (.arraylength, 1) := dk_190 (dk_at dksJ3_indexOf_0 8 rfl rfl)
theorem dJ3_indexOf_9 : decode cJ3_indexOf 9 = .ok (.iconst 1, 1) := dk_4 (dk_at dksJ3_indexOf_0 9 rfl rfl)
theorem dJ3_indexOf_10 : decode cJ3_indexOf 10 = .ok (.ishr, 1) := dk_122 (dk_at dksJ3_indexOf_0 10 rfl rfl)
theorem dJ3_indexOf_11 : decode cJ3_indexOf 11 = .ok (.invokestatic 183, 3) := dk_184 0 183 (dk_at dksJ3_indexOf_0 11 rfl rfl)
theorem dJ3_indexOf_14 : decode cJ3_indexOf 14 = .ok (.istore_n 3, 1) := dk_62 (dk_at dksJ3_indexOf_0 14 rfl rfl)
theorem dJ3_indexOf_15 : decode cJ3_indexOf 15 = .ok (.iload_n 2, 1) := dk_28 (dk_at dksJ3_indexOf_0 15 rfl rfl)
theorem dJ3_indexOf_16 : decode cJ3_indexOf 16 = .ok (.iload_n 3, 1) := dk_29 (dk_at dksJ3_indexOf_0 16 rfl rfl)
theorem dJ3_indexOf_17 : decode cJ3_indexOf 17 = .ok (.if_icmp .lt 5, 3) := dk_161 0 5 (dk_at dksJ3_indexOf_0 17 rfl rfl)
theorem dJ3_indexOf_20 : decode cJ3_indexOf 20 = .ok (.iconst (-1), 1) := dk_2 (dk_at dksJ3_indexOf_0 20 rfl rfl)
theorem dJ3_indexOf_21 : decode cJ3_indexOf 21 = .ok (.ireturn, 1) := dk_172 (dk_at dksJ3_indexOf_0 21 rfl rfl)
theorem dJ3_indexOf_22 : decode cJ3_indexOf 22 = .ok (.iload_n 1, 1) := dk_27 (dk_at dksJ3_indexOf_0 22 rfl rfl)
theorem dJ3_indexOf_23 : decode cJ3_indexOf 23 = .ok (.ldc 227, 2) := dk_18 227 (dk_at dksJ3_indexOf_1 0 rfl rfl)
theorem dJ3_indexOf_25 : decode cJ3_indexOf 25 = .ok (.if_icmp .ge 11, 3) := dk_162 0 11 (dk_at dksJ3_indexOf_1 2 rfl rfl)
theorem dJ3_indexOf_28 : decode cJ3_indexOf 28 = .ok (.aload_n 0, 1) := dk_42 (dk_at dksJ3_indexOf_1 5 rfl rfl)
theorem dJ3_indexOf_29 : decode cJ3_indexOf 29 = .ok (.iload_n 1, 1) := dk_27 (dk_at dksJ3_indexOf_1 6 rfl rfl)
theorem dJ3_indexOf_30 : decode cJ3_indexOf 30 = .ok (.iload_n 2, 1) := dk_28 (dk_at dksJ3_indexOf_1 7 rfl rfl)
theorem dJ3_indexOf_31 : decode cJ3_indexOf 31 = .ok (.iload_n 3, 1) := dk_29 (dk_at dksJ3_indexOf_1 8 rfl rfl)
theorem dJ3_indexOf_32 : decode cJ3_indexOf 32 = .ok (.invokestatic 228, 3) := dk_184 0 228 (dk_at dksJ3_indexOf_1 9 rfl rfl)
theorem dJ3_indexOf_35 : decode cJ3_indexOf 35 = .ok (.ireturn, 1) := dk_172 (dk_at dksJ3_indexOf_1 12 rfl rfl)
theorem dJ3_indexOf_36 : decode cJ3_indexOf 36 = .ok (.aload_n 0, 1) := dk_42 (dk_at dksJ3_indexOf_1 13 rfl rfl)
theorem dJ3_indexOf_37 : decode cJ3_indexOf 37 = .ok (.iload_n 1, 1) := dk_27 (dk_at dksJ3_indexOf_1 14 rfl rfl)
theorem dJ3_indexOf_38 : decode cJ3_indexOf 38 = .ok (.iload_n 2, 1) := dk_28 (dk_at dksJ3_indexOf_1 15 rfl rfl)
theorem dJ3_indexOf_39 : decode cJ3_indexOf 39 = .ok (.iload_n 3, 1) := dk_29 (dk_at dksJ3_indexOf_1 16 rfl rfl)
theorem dJ3_indexOf_40 : decode cJ3_indexOf 40 = .ok (.invokestatic 232, 3) := dk_184 0 232 (dk_at dksJ3_indexOf_1 17 rfl rfl)
theorem dJ3_indexOf_43 : decode cJ3_indexOf 43 = .ok (.ireturn, 1) := dk_172 (dk_at dksJ3_indexOf_1 20 rfl rfl)
abbrev cJ3_indexOfChar : ByteArray := prog_24_method_47_code
def yJ3_indexOfChar : MethodName := ⟨RJ3, "indexOfChar", "([BIII)I"⟩
def dkwJ3_indexOfChar_0 : List UInt8 := [28, 29, 42, 184, 0, 96, 42, 27, 28, 29, 184, 0, 244, 172]
abbrev dktJ3_indexOfChar_0 : List UInt8 := dkwJ3_indexOfChar_0 ++ []
theorem dksJ3_indexOfChar_0 : cJ3_indexOfChar.data.toList.drop 0 = dktJ3_indexOfChar_0 := by decide +kernel
theorem dJ3_indexOfChar_0 : decode cJ3_indexOfChar 0 = .ok (.iload_n 2, 1) := dk_28 (dk_at dksJ3_indexOfChar_0 0 rfl rfl)
theorem dJ3_indexOfChar_1 : decode cJ3_indexOfChar 1 = .ok (.iload_n 3, 1) := dk_29 (dk_at dksJ3_indexOfChar_0 1 rfl rfl)
theorem dJ3_indexOfChar_2 : decode cJ3_indexOfChar 2 = .ok (.aload_n 0, 1) := dk_42 (dk_at dksJ3_indexOfChar_0 2 rfl rfl)
theorem dJ3_indexOfChar_3 : decode cJ3_indexOfChar 3 = .ok (.invokestatic 96, 3) := dk_184 0 96 (dk_at dksJ3_indexOfChar_0 3 rfl rfl)
theorem dJ3_indexOfChar_6 : decode cJ3_indexOfChar 6 = .ok (.aload_n 0, 1) := dk_42 (dk_at dksJ3_indexOfChar_0 6 rfl rfl)
theorem dJ3_indexOfChar_7 : decode cJ3_indexOfChar 7 = .ok (.iload_n 1, 1) := dk_27 (dk_at dksJ3_indexOfChar_0 7 rfl rfl)
theorem dJ3_indexOfChar_8 : decode cJ3_indexOfChar 8 = .ok (.iload_n 2, 1) := dk_28 (dk_at dksJ3_indexOfChar_0 8 rfl rfl)
theorem dJ3_indexOfChar_9 : decode cJ3_indexOfChar 9 = .ok (.iload_n 3, 1) := dk_29 (dk_at dksJ3_indexOfChar_0 9 rfl rfl)
theorem dJ3_indexOfChar_10 : decode cJ3_indexOfChar 10 = .ok (.invokestatic 244, 3) := dk_184 0 244 (dk_at dksJ3_indexOfChar_0 10 rfl rfl)
theorem dJ3_indexOfChar_13 : decode cJ3_indexOfChar 13 = .ok (.ireturn, 1) := dk_172 (dk_at dksJ3_indexOfChar_0 13 rfl rfl)
abbrev cJ3_checkBoundsBeginEnd : ByteArray := prog_24_method_93_code
def yJ3_checkBoundsBeginEnd : MethodName := ⟨RJ3, "checkBoundsBeginEnd", "(II[B)V"⟩
def dkwJ3_checkBoundsBeginEnd_0 : List UInt8 := [26, 27, 44, 184, 0, 48, 184, 0, 241, 177]
abbrev dktJ3_checkBoundsBeginEnd_0 : List UInt8 := dkwJ3_checkBoundsBeginEnd_0 ++ []
theorem dksJ3_checkBoundsBeginEnd_0 : cJ3_checkBoundsBeginEnd.data.toList.drop 0 = dktJ3_checkBoundsBeginEnd_0 := by decide +kernel
theorem dJ3_checkBoundsBeginEnd_0 : decode cJ3_checkBoundsBeginEnd 0 = .ok (.iload_n 0, 1) := dk_26 (dk_at dksJ3_checkBoundsBeginEnd_0 0 rfl rfl)
theorem dJ3_checkBoundsBeginEnd_1 : decode cJ3_checkBoundsBeginEnd 1 = .ok (.iload_n 1, 1) := dk_27 (dk_at dksJ3_checkBoundsBeginEnd_0 1 rfl rfl)
theorem dJ3_checkBoundsBeginEnd_2 : decode cJ3_checkBoundsBeginEnd 2 = .ok (.aload_n 2, 1) := dk_44 (dk_at dksJ3_checkBoundsBeginEnd_0 2 rfl rfl)
theorem dJ3_checkBoundsBeginEnd_3 : decode cJ3_checkBoundsBeginEnd 3 = .ok (.invokestatic 48, 3) := dk_184 0 48 (dk_at dksJ3_checkBoundsBeginEnd_0 3 rfl rfl)
theorem dJ3_checkBoundsBeginEnd_6 : decode cJ3_checkBoundsBeginEnd 6 = .ok (.invokestatic 241, 3) := dk_184 0 241 (dk_at dksJ3_checkBoundsBeginEnd_0 6 rfl rfl)
theorem dJ3_checkBoundsBeginEnd_9 : decode cJ3_checkBoundsBeginEnd 9 = .ok (.return_, 1) := dk_177 (dk_at dksJ3_checkBoundsBeginEnd_0 9 rfl rfl)
abbrev cJ3_length : ByteArray := prog_24_method_6_code
def yJ3_length : MethodName := ⟨RJ3, "length", "([B)I"⟩
def dkwJ3_length_0 : List UInt8 := [42, 190, 4, 122, 172]
abbrev dktJ3_length_0 : List UInt8 := dkwJ3_length_0 ++ []
theorem dksJ3_length_0 : cJ3_length.data.toList.drop 0 = dktJ3_length_0 := by decide +kernel
theorem dJ3_length_0 : decode cJ3_length 0 = .ok (.aload_n 0, 1) := dk_42 (dk_at dksJ3_length_0 0 rfl rfl)
theorem dJ3_length_1 : decode cJ3_length 1 = .ok (.arraylength, 1) := dk_190 (dk_at dksJ3_length_0 1 rfl rfl)
theorem dJ3_length_2 : decode cJ3_length 2 = .ok (.iconst 1, 1) := dk_4 (dk_at dksJ3_length_0 2 rfl rfl)
theorem dJ3_length_3 : decode cJ3_length 3 = .ok (.ishr, 1) := dk_122 (dk_at dksJ3_length_0 3 rfl rfl)
theorem dJ3_length_4 : decode cJ3_length 4 = .ok (.ireturn, 1) := dk_172 (dk_at dksJ3_length_0 4 rfl rfl)
abbrev cJ3_indexOfCharUnsafe : ByteArray := prog_24_method_48_code
def yJ3_indexOfCharUnsafe : MethodName := ⟨RJ3, "indexOfCharUnsafe", "([BIII)I"⟩
def dkwJ3_indexOfCharUnsafe_1 : List UInt8 := [132, 4, 1, 167, 255, 234, 2, 172]
abbrev dktJ3_indexOfCharUnsafe_1 : List UInt8 := dkwJ3_indexOfCharUnsafe_1 ++ []
def dkwJ3_indexOfCharUnsafe_0 : List UInt8 := [28, 54, 4, 21, 4, 29, 162, 0, 22, 42, 21, 4, 184, 0, 71, 27, 160, 0, 6, 21, 4, 172]
abbrev dktJ3_indexOfCharUnsafe_0 : List UInt8 := dkwJ3_indexOfCharUnsafe_0 ++ dktJ3_indexOfCharUnsafe_1
theorem dksJ3_indexOfCharUnsafe_0 : cJ3_indexOfCharUnsafe.data.toList.drop 0 = dktJ3_indexOfCharUnsafe_0 := by decide +kernel
theorem dksJ3_indexOfCharUnsafe_1 : cJ3_indexOfCharUnsafe.data.toList.drop 22 = dktJ3_indexOfCharUnsafe_1 := dk_seg dksJ3_indexOfCharUnsafe_0 22 rfl rfl
theorem dJ3_indexOfCharUnsafe_0 : decode cJ3_indexOfCharUnsafe 0 = .ok (.iload_n 2, 1) := dk_28 (dk_at dksJ3_indexOfCharUnsafe_0 0 rfl rfl)
theorem dJ3_indexOfCharUnsafe_1 : decode cJ3_indexOfCharUnsafe 1 = .ok (.istore 4, 2) := dk_54 4 (dk_at dksJ3_indexOfCharUnsafe_0 1 rfl rfl)
theorem dJ3_indexOfCharUnsafe_3 : decode cJ3_indexOfCharUnsafe 3 = .ok (.iload 4, 2) := dk_21 4 (dk_at dksJ3_indexOfCharUnsafe_0 3 rfl rfl)
theorem dJ3_indexOfCharUnsafe_5 : decode cJ3_indexOfCharUnsafe 5 = .ok (.iload_n 3, 1) := dk_29 (dk_at dksJ3_indexOfCharUnsafe_0 5 rfl rfl)
theorem dJ3_indexOfCharUnsafe_6 : decode cJ3_indexOfCharUnsafe 6 = .ok (.if_icmp .ge 22, 3) := dk_162 0 22 (dk_at dksJ3_indexOfCharUnsafe_0 6 rfl rfl)
theorem dJ3_indexOfCharUnsafe_9 : decode cJ3_indexOfCharUnsafe 9 = .ok (.aload_n 0, 1) := dk_42 (dk_at dksJ3_indexOfCharUnsafe_0 9 rfl rfl)
theorem dJ3_indexOfCharUnsafe_10 : decode cJ3_indexOfCharUnsafe 10 = .ok (.iload 4, 2) := dk_21 4 (dk_at dksJ3_indexOfCharUnsafe_0 10 rfl rfl)
theorem dJ3_indexOfCharUnsafe_12 : decode cJ3_indexOfCharUnsafe 12 = .ok (.invokestatic 71, 3) := dk_184 0 71 (dk_at dksJ3_indexOfCharUnsafe_0 12 rfl rfl)
theorem dJ3_indexOfCharUnsafe_15 : decode cJ3_indexOfCharUnsafe 15 = .ok (.iload_n 1, 1) := dk_27 (dk_at dksJ3_indexOfCharUnsafe_0 15 rfl rfl)
theorem dJ3_indexOfCharUnsafe_16 : decode cJ3_indexOfCharUnsafe 16 = .ok (.if_icmp .ne 6, 3) := dk_160 0 6 (dk_at dksJ3_indexOfCharUnsafe_0 16 rfl rfl)
theorem dJ3_indexOfCharUnsafe_19 : decode cJ3_indexOfCharUnsafe 19 = .ok (.iload 4, 2) := dk_21 4 (dk_at dksJ3_indexOfCharUnsafe_0 19 rfl rfl)
theorem dJ3_indexOfCharUnsafe_21 : decode cJ3_indexOfCharUnsafe 21 = .ok (.ireturn, 1) := dk_172 (dk_at dksJ3_indexOfCharUnsafe_0 21 rfl rfl)
theorem dJ3_indexOfCharUnsafe_22 : decode cJ3_indexOfCharUnsafe 22 = .ok (.iinc 4 1, 3) := dk_132 4 1 (dk_at dksJ3_indexOfCharUnsafe_1 0 rfl rfl)
theorem dJ3_indexOfCharUnsafe_25 : decode cJ3_indexOfCharUnsafe 25 = .ok (.goto (-22), 3) := dk_167 255 234 (dk_at dksJ3_indexOfCharUnsafe_1 3 rfl rfl)
theorem dJ3_indexOfCharUnsafe_28 : decode cJ3_indexOfCharUnsafe 28 = .ok (.iconst (-1), 1) := dk_2 (dk_at dksJ3_indexOfCharUnsafe_1 6 rfl rfl)
theorem dJ3_indexOfCharUnsafe_29 : decode cJ3_indexOfCharUnsafe 29 = .ok (.ireturn, 1) := dk_172 (dk_at dksJ3_indexOfCharUnsafe_1 7 rfl rfl)
abbrev cJ3_getChar : ByteArray := prog_24_method_5_code
def yJ3_getChar : MethodName := ⟨RJ3, "getChar", "([BI)C"⟩
def dkwJ3_getChar_2 : List UInt8 := [51, 17, 0, 255, 126, 178, 0, 63, 120, 128, 146, 172]
abbrev dktJ3_getChar_2 : List UInt8 := dkwJ3_getChar_2 ++ []
def dkwJ3_getChar_1 : List UInt8 := [183, 0, 56, 191, 27, 4, 120, 60, 42, 27, 132, 1, 1, 51, 17, 0, 255, 126, 178, 0, 59, 120, 42, 27]
abbrev dktJ3_getChar_1 : List UInt8 := dkwJ3_getChar_1 ++ dktJ3_getChar_2
def dkwJ3_getChar_0 : List UInt8 := [178, 0, 44, 154, 0, 25, 27, 155, 0, 11, 27, 42, 184, 0, 48, 161, 0, 13, 187, 0, 52, 89, 18, 54]
abbrev dktJ3_getChar_0 : List UInt8 := dkwJ3_getChar_0 ++ dktJ3_getChar_1
theorem dksJ3_getChar_0 : cJ3_getChar.data.toList.drop 0 = dktJ3_getChar_0 := by decide +kernel
theorem dksJ3_getChar_1 : cJ3_getChar.data.toList.drop 24 = dktJ3_getChar_1 := dk_seg dksJ3_getChar_0 24 rfl rfl
theorem dksJ3_getChar_2 : cJ3_getChar.data.toList.drop 48 = dktJ3_getChar_2 := dk_seg dksJ3_getChar_1 24 rfl rfl
theorem dJ3_getChar_0 : decode cJ3_getChar 0 = .ok (.getstatic 44, 3) := dk_178 0 44 (dk_at dksJ3_getChar_0 0 rfl rfl)
theorem dJ3_getChar_3 : decode cJ3_getChar 3 = .ok (.ifCond .ne 25, 3) := dk_154 0 25 (dk_at dksJ3_getChar_0 3 rfl rfl)
theorem dJ3_getChar_6 : decode cJ3_getChar 6 = .ok (.iload_n 1, 1) := dk_27 (dk_at dksJ3_getChar_0 6 rfl rfl)
theorem dJ3_getChar_7 : decode cJ3_getChar 7 = .ok (.ifCond .lt 11, 3) := dk_155 0 11 (dk_at dksJ3_getChar_0 7 rfl rfl)
theorem dJ3_getChar_10 : decode cJ3_getChar 10 = .ok (.iload_n 1, 1) := dk_27 (dk_at dksJ3_getChar_0 10 rfl rfl)
theorem dJ3_getChar_11 : decode cJ3_getChar 11 = .ok (.aload_n 0, 1) := dk_42 (dk_at dksJ3_getChar_0 11 rfl rfl)
theorem dJ3_getChar_12 : decode cJ3_getChar 12 = .ok (.invokestatic 48, 3) := dk_184 0 48 (dk_at dksJ3_getChar_0 12 rfl rfl)
theorem dJ3_getChar_15 : decode cJ3_getChar 15 = .ok (.if_icmp .lt 13, 3) := dk_161 0 13 (dk_at dksJ3_getChar_0 15 rfl rfl)
theorem dJ3_getChar_18 : decode cJ3_getChar 18 = .ok (.new 52, 3) := dk_187 0 52 (dk_at dksJ3_getChar_0 18 rfl rfl)
theorem dJ3_getChar_21 : decode cJ3_getChar 21 = .ok (.dup, 1) := dk_89 (dk_at dksJ3_getChar_0 21 rfl rfl)
theorem dJ3_getChar_22 : decode cJ3_getChar 22 = .ok (.ldc 54, 2) := dk_18 54 (dk_at dksJ3_getChar_0 22 rfl rfl)
theorem dJ3_getChar_24 : decode cJ3_getChar 24 = .ok (.invokespecial 56, 3) := dk_183 0 56 (dk_at dksJ3_getChar_1 0 rfl rfl)
theorem dJ3_getChar_27 : decode cJ3_getChar 27 = .ok (.athrow, 1) := dk_191 (dk_at dksJ3_getChar_1 3 rfl rfl)
theorem dJ3_getChar_28 : decode cJ3_getChar 28 = .ok (.iload_n 1, 1) := dk_27 (dk_at dksJ3_getChar_1 4 rfl rfl)
theorem dJ3_getChar_29 : decode cJ3_getChar 29 = .ok (.iconst 1, 1) := dk_4 (dk_at dksJ3_getChar_1 5 rfl rfl)
theorem dJ3_getChar_30 : decode cJ3_getChar 30 = .ok (.ishl, 1) := dk_120 (dk_at dksJ3_getChar_1 6 rfl rfl)
theorem dJ3_getChar_31 : decode cJ3_getChar 31 = .ok (.istore_n 1, 1) := dk_60 (dk_at dksJ3_getChar_1 7 rfl rfl)
theorem dJ3_getChar_32 : decode cJ3_getChar 32 = .ok (.aload_n 0, 1) := dk_42 (dk_at dksJ3_getChar_1 8 rfl rfl)
theorem dJ3_getChar_33 : decode cJ3_getChar 33 = .ok (.iload_n 1, 1) := dk_27 (dk_at dksJ3_getChar_1 9 rfl rfl)
theorem dJ3_getChar_34 : decode cJ3_getChar 34 = .ok (.iinc 1 1, 3) := dk_132 1 1 (dk_at dksJ3_getChar_1 10 rfl rfl)
theorem dJ3_getChar_37 : decode cJ3_getChar 37 = .ok (.baload, 1) := dk_51 (dk_at dksJ3_getChar_1 13 rfl rfl)
theorem dJ3_getChar_38 : decode cJ3_getChar 38 = .ok (.sipush 255, 3) := dk_17 0 255 (dk_at dksJ3_getChar_1 14 rfl rfl)
theorem dJ3_getChar_41 : decode cJ3_getChar 41 = .ok (.iand, 1) := dk_126 (dk_at dksJ3_getChar_1 17 rfl rfl)
theorem dJ3_getChar_42 : decode cJ3_getChar 42 = .ok (.getstatic 59, 3) := dk_178 0 59 (dk_at dksJ3_getChar_1 18 rfl rfl)
theorem dJ3_getChar_45 : decode cJ3_getChar 45 = .ok (.ishl, 1) := dk_120 (dk_at dksJ3_getChar_1 21 rfl rfl)
theorem dJ3_getChar_46 : decode cJ3_getChar 46 = .ok (.aload_n 0, 1) := dk_42 (dk_at dksJ3_getChar_1 22 rfl rfl)
theorem dJ3_getChar_47 : decode cJ3_getChar 47 = .ok (.iload_n 1, 1) := dk_27 (dk_at dksJ3_getChar_1 23 rfl rfl)
theorem dJ3_getChar_48 : decode cJ3_getChar 48 = .ok (.baload, 1) := dk_51 (dk_at dksJ3_getChar_2 0 rfl rfl)
theorem dJ3_getChar_49 : decode cJ3_getChar 49 = .ok (.sipush 255, 3) := dk_17 0 255 (dk_at dksJ3_getChar_2 1 rfl rfl)
theorem dJ3_getChar_52 : decode cJ3_getChar 52 = .ok (.iand, 1) := dk_126 (dk_at dksJ3_getChar_2 4 rfl rfl)
theorem dJ3_getChar_53 : decode cJ3_getChar 53 = .ok (.getstatic 63, 3) := dk_178 0 63 (dk_at dksJ3_getChar_2 5 rfl rfl)
theorem dJ3_getChar_56 : decode cJ3_getChar 56 = .ok (.ishl, 1) := dk_120 (dk_at dksJ3_getChar_2 8 rfl rfl)
theorem dJ3_getChar_57 : decode cJ3_getChar 57 = .ok (.ior, 1) := dk_128 (dk_at dksJ3_getChar_2 9 rfl rfl)
theorem dJ3_getChar_58 : decode cJ3_getChar 58 = .ok (.i2c, 1) := dk_146 (dk_at dksJ3_getChar_2 10 rfl rfl)
theorem dJ3_getChar_59 : decode cJ3_getChar 59 = .ok (.ireturn, 1) := dk_172 (dk_at dksJ3_getChar_2 11 rfl rfl)
abbrev cJ3_indexOfSupplementary : ByteArray := prog_24_method_49_code
def yJ3_indexOfSupplementary : MethodName := ⟨RJ3, "indexOfSupplementary", "([BIII)I"⟩
def dkwJ3_indexOfSupplementary_3 : List UInt8 := [167, 255, 218, 2, 172]
abbrev dktJ3_indexOfSupplementary_3 : List UInt8 := dkwJ3_indexOfSupplementary_3 ++ []
def dkwJ3_indexOfSupplementary_2 : List UInt8 := [160, 0, 19, 42, 21, 6, 4, 96, 184, 0, 71, 21, 5, 160, 0, 6, 21, 6, 172, 132, 6, 1]
abbrev dktJ3_indexOfSupplementary_2 : List UInt8 := dkwJ3_indexOfSupplementary_2 ++ dktJ3_indexOfSupplementary_3
def dkwJ3_indexOfSupplementary_1 : List UInt8 := [184, 0, 96, 28, 54, 6, 21, 6, 29, 4, 100, 162, 0, 36, 42, 21, 6, 184, 0, 71, 21, 4]
abbrev dktJ3_indexOfSupplementary_1 : List UInt8 := dkwJ3_indexOfSupplementary_1 ++ dktJ3_indexOfSupplementary_2
def dkwJ3_indexOfSupplementary_0 : List UInt8 := [27, 184, 0, 164, 153, 0, 65, 27, 184, 0, 157, 54, 4, 27, 184, 0, 161, 54, 5, 28, 29, 42]
abbrev dktJ3_indexOfSupplementary_0 : List UInt8 := dkwJ3_indexOfSupplementary_0 ++ dktJ3_indexOfSupplementary_1
theorem dksJ3_indexOfSupplementary_0 : cJ3_indexOfSupplementary.data.toList.drop 0 = dktJ3_indexOfSupplementary_0 := by decide +kernel
theorem dksJ3_indexOfSupplementary_1 : cJ3_indexOfSupplementary.data.toList.drop 22 = dktJ3_indexOfSupplementary_1 := dk_seg dksJ3_indexOfSupplementary_0 22 rfl rfl
theorem dksJ3_indexOfSupplementary_2 : cJ3_indexOfSupplementary.data.toList.drop 44 = dktJ3_indexOfSupplementary_2 := dk_seg dksJ3_indexOfSupplementary_1 22 rfl rfl
theorem dksJ3_indexOfSupplementary_3 : cJ3_indexOfSupplementary.data.toList.drop 66 = dktJ3_indexOfSupplementary_3 := dk_seg dksJ3_indexOfSupplementary_2 22 rfl rfl
theorem dJ3_indexOfSupplementary_0 : decode cJ3_indexOfSupplementary 0 = .ok (.iload_n 1, 1) := dk_27 (dk_at dksJ3_indexOfSupplementary_0 0 rfl rfl)
theorem dJ3_indexOfSupplementary_1 : decode cJ3_indexOfSupplementary 1 = .ok (.invokestatic 164, 3) := dk_184 0 164 (dk_at dksJ3_indexOfSupplementary_0 1 rfl rfl)
theorem dJ3_indexOfSupplementary_4 : decode cJ3_indexOfSupplementary 4 = .ok (.ifCond .eq 65, 3) := dk_153 0 65 (dk_at dksJ3_indexOfSupplementary_0 4 rfl rfl)
theorem dJ3_indexOfSupplementary_7 : decode cJ3_indexOfSupplementary 7 = .ok (.iload_n 1, 1) := dk_27 (dk_at dksJ3_indexOfSupplementary_0 7 rfl rfl)
theorem dJ3_indexOfSupplementary_8 : decode cJ3_indexOfSupplementary 8 = .ok (.invokestatic 157, 3) := dk_184 0 157 (dk_at dksJ3_indexOfSupplementary_0 8 rfl rfl)
theorem dJ3_indexOfSupplementary_11 : decode cJ3_indexOfSupplementary 11 = .ok (.istore 4, 2) := dk_54 4 (dk_at dksJ3_indexOfSupplementary_0 11 rfl rfl)
theorem dJ3_indexOfSupplementary_13 : decode cJ3_indexOfSupplementary 13 = .ok (.iload_n 1, 1) := dk_27 (dk_at dksJ3_indexOfSupplementary_0 13 rfl rfl)
theorem dJ3_indexOfSupplementary_14 : decode cJ3_indexOfSupplementary 14 = .ok (.invokestatic 161, 3) := dk_184 0 161 (dk_at dksJ3_indexOfSupplementary_0 14 rfl rfl)
theorem dJ3_indexOfSupplementary_17 : decode cJ3_indexOfSupplementary 17 = .ok (.istore 5, 2) := dk_54 5 (dk_at dksJ3_indexOfSupplementary_0 17 rfl rfl)
theorem dJ3_indexOfSupplementary_19 : decode cJ3_indexOfSupplementary 19 = .ok (.iload_n 2, 1) := dk_28 (dk_at dksJ3_indexOfSupplementary_0 19 rfl rfl)
theorem dJ3_indexOfSupplementary_20 : decode cJ3_indexOfSupplementary 20 = .ok (.iload_n 3, 1) := dk_29 (dk_at dksJ3_indexOfSupplementary_0 20 rfl rfl)
theorem dJ3_indexOfSupplementary_21 : decode cJ3_indexOfSupplementary 21 = .ok (.aload_n 0, 1) := dk_42 (dk_at dksJ3_indexOfSupplementary_0 21 rfl rfl)
theorem dJ3_indexOfSupplementary_22 : decode cJ3_indexOfSupplementary 22 = .ok (.invokestatic 96, 3) := dk_184 0 96 (dk_at dksJ3_indexOfSupplementary_1 0 rfl rfl)
theorem dJ3_indexOfSupplementary_25 : decode cJ3_indexOfSupplementary 25 = .ok (.iload_n 2, 1) := dk_28 (dk_at dksJ3_indexOfSupplementary_1 3 rfl rfl)
theorem dJ3_indexOfSupplementary_26 : decode cJ3_indexOfSupplementary 26 = .ok (.istore 6, 2) := dk_54 6 (dk_at dksJ3_indexOfSupplementary_1 4 rfl rfl)
theorem dJ3_indexOfSupplementary_28 : decode cJ3_indexOfSupplementary 28 = .ok (.iload 6, 2) := dk_21 6 (dk_at dksJ3_indexOfSupplementary_1 6 rfl rfl)
theorem dJ3_indexOfSupplementary_30 : decode cJ3_indexOfSupplementary 30 = .ok (.iload_n 3, 1) := dk_29 (dk_at dksJ3_indexOfSupplementary_1 8 rfl rfl)
theorem dJ3_indexOfSupplementary_31 : decode cJ3_indexOfSupplementary 31 = .ok (.iconst 1, 1) := dk_4 (dk_at dksJ3_indexOfSupplementary_1 9 rfl rfl)
theorem dJ3_indexOfSupplementary_32 : decode cJ3_indexOfSupplementary 32 = .ok (.isub, 1) := dk_100 (dk_at dksJ3_indexOfSupplementary_1 10 rfl rfl)
theorem dJ3_indexOfSupplementary_33 : decode cJ3_indexOfSupplementary 33 = .ok (.if_icmp .ge 36, 3) := dk_162 0 36 (dk_at dksJ3_indexOfSupplementary_1 11 rfl rfl)
theorem dJ3_indexOfSupplementary_36 : decode cJ3_indexOfSupplementary 36 = .ok (.aload_n 0, 1) := dk_42 (dk_at dksJ3_indexOfSupplementary_1 14 rfl rfl)
theorem dJ3_indexOfSupplementary_37 : decode cJ3_indexOfSupplementary 37 = .ok (.iload 6, 2) := dk_21 6 (dk_at dksJ3_indexOfSupplementary_1 15 rfl rfl)
theorem dJ3_indexOfSupplementary_39 : decode cJ3_indexOfSupplementary 39 = .ok (.invokestatic 71, 3) := dk_184 0 71 (dk_at dksJ3_indexOfSupplementary_1 17 rfl rfl)
theorem dJ3_indexOfSupplementary_42 : decode cJ3_indexOfSupplementary 42 = .ok (.iload 4, 2) := dk_21 4 (dk_at dksJ3_indexOfSupplementary_1 20 rfl rfl)
theorem dJ3_indexOfSupplementary_44 : decode cJ3_indexOfSupplementary 44 = .ok (.if_icmp .ne 19, 3) := dk_160 0 19 (dk_at dksJ3_indexOfSupplementary_2 0 rfl rfl)
theorem dJ3_indexOfSupplementary_47 : decode cJ3_indexOfSupplementary 47 = .ok (.aload_n 0, 1) := dk_42 (dk_at dksJ3_indexOfSupplementary_2 3 rfl rfl)
theorem dJ3_indexOfSupplementary_48 : decode cJ3_indexOfSupplementary 48 = .ok (.iload 6, 2) := dk_21 6 (dk_at dksJ3_indexOfSupplementary_2 4 rfl rfl)
theorem dJ3_indexOfSupplementary_50 : decode cJ3_indexOfSupplementary 50 = .ok (.iconst 1, 1) := dk_4 (dk_at dksJ3_indexOfSupplementary_2 6 rfl rfl)
theorem dJ3_indexOfSupplementary_51 : decode cJ3_indexOfSupplementary 51 = .ok (.iadd, 1) := dk_96 (dk_at dksJ3_indexOfSupplementary_2 7 rfl rfl)
theorem dJ3_indexOfSupplementary_52 : decode cJ3_indexOfSupplementary 52 = .ok (.invokestatic 71, 3) := dk_184 0 71 (dk_at dksJ3_indexOfSupplementary_2 8 rfl rfl)
theorem dJ3_indexOfSupplementary_55 : decode cJ3_indexOfSupplementary 55 = .ok (.iload 5, 2) := dk_21 5 (dk_at dksJ3_indexOfSupplementary_2 11 rfl rfl)
theorem dJ3_indexOfSupplementary_57 : decode cJ3_indexOfSupplementary 57 = .ok (.if_icmp .ne 6, 3) := dk_160 0 6 (dk_at dksJ3_indexOfSupplementary_2 13 rfl rfl)
theorem dJ3_indexOfSupplementary_60 : decode cJ3_indexOfSupplementary 60 = .ok (.iload 6, 2) := dk_21 6 (dk_at dksJ3_indexOfSupplementary_2 16 rfl rfl)
theorem dJ3_indexOfSupplementary_62 : decode cJ3_indexOfSupplementary 62 = .ok (.ireturn, 1) := dk_172 (dk_at dksJ3_indexOfSupplementary_2 18 rfl rfl)
theorem dJ3_indexOfSupplementary_63 : decode cJ3_indexOfSupplementary 63 = .ok (.iinc 6 1, 3) := dk_132 6 1 (dk_at dksJ3_indexOfSupplementary_2 19 rfl rfl)
theorem dJ3_indexOfSupplementary_66 : decode cJ3_indexOfSupplementary 66 = .ok (.goto (-38), 3) := dk_167 255 218 (dk_at dksJ3_indexOfSupplementary_3 0 rfl rfl)
theorem dJ3_indexOfSupplementary_69 : decode cJ3_indexOfSupplementary 69 = .ok (.iconst (-1), 1) := dk_2 (dk_at dksJ3_indexOfSupplementary_3 3 rfl rfl)
theorem dJ3_indexOfSupplementary_70 : decode cJ3_indexOfSupplementary 70 = .ok (.ireturn, 1) := dk_172 (dk_at dksJ3_indexOfSupplementary_3 4 rfl rfl)
theorem q127 : (Jvm.Cond.initialized "java/lang/StringUTF16") ∈ lw_all := lw_g (lw_at lw_m1 11 rfl) rfl
theorem q422 : (Jvm.Cond.static ({ cls := "java/lang/StringUTF16", name := "indexOf", desc := "([BIII)I" } : Jvm.MethodName)) ∈ lw_all := lw_g (lw_at lw_m2 66 rfl) rfl
theorem q423 : (Jvm.Cond.code ({ cls := "java/lang/StringUTF16", name := "indexOf", desc := "([BIII)I" } : Jvm.MethodName) prog_24_method_40_code (4 : Nat) (Option.some Jvm.ClassFile.FieldType.int)) ∈ lw_all := lw_g (lw_at lw_m2 67 rfl) rfl
theorem q424 : (Jvm.Cond.methodLink "java/lang/StringUTF16" (224 : Nat) ({ cls := "java/lang/Math", name := "max", desc := "(II)I" } : Jvm.MethodName)) ∈ lw_all := lw_g (lw_at lw_m2 68 rfl) rfl
theorem q425 : (Jvm.Cond.methodLink "java/lang/StringUTF16" (183 : Nat) ({ cls := "java/lang/Math", name := "min", desc := "(II)I" } : Jvm.MethodName)) ∈ lw_all := lw_g (lw_at lw_m2 69 rfl) rfl
theorem q426 : (Jvm.Cond.constant "java/lang/StringUTF16" (227 : Nat) (65536 : Int32)) ∈ lw_all := lw_g (lw_at lw_m2 70 rfl) rfl
theorem q427 : (Jvm.Cond.methodLink "java/lang/StringUTF16" (228 : Nat) ({ cls := "java/lang/StringUTF16", name := "indexOfChar", desc := "([BIII)I" } : Jvm.MethodName)) ∈ lw_all := lw_g (lw_at lw_m2 71 rfl) rfl
theorem q428 : (Jvm.Cond.static ({ cls := "java/lang/StringUTF16", name := "indexOfChar", desc := "([BIII)I" } : Jvm.MethodName)) ∈ lw_all := lw_g (lw_at lw_m2 72 rfl) rfl
theorem q429 : (Jvm.Cond.code ({ cls := "java/lang/StringUTF16", name := "indexOfChar", desc := "([BIII)I" } : Jvm.MethodName) prog_24_method_47_code (4 : Nat) (Option.some Jvm.ClassFile.FieldType.int)) ∈ lw_all := lw_g (lw_at lw_m2 73 rfl) rfl
theorem q430 : (Jvm.Cond.methodLink "java/lang/StringUTF16" (96 : Nat) ({ cls := "java/lang/StringUTF16", name := "checkBoundsBeginEnd", desc := "(II[B)V" } : Jvm.MethodName)) ∈ lw_all := lw_g (lw_at lw_m2 74 rfl) rfl
theorem q431 : (Jvm.Cond.static ({ cls := "java/lang/StringUTF16", name := "checkBoundsBeginEnd", desc := "(II[B)V" } : Jvm.MethodName)) ∈ lw_all := lw_g (lw_at lw_m2 75 rfl) rfl
theorem q432 : (Jvm.Cond.code ({ cls := "java/lang/StringUTF16", name := "checkBoundsBeginEnd", desc := "(II[B)V" } : Jvm.MethodName) prog_24_method_93_code (3 : Nat) (Option.none : Option Jvm.ClassFile.FieldType)) ∈ lw_all := lw_g (lw_at lw_m2 76 rfl) rfl
theorem q433 : (Jvm.Cond.methodLink "java/lang/StringUTF16" (48 : Nat) ({ cls := "java/lang/StringUTF16", name := "length", desc := "([B)I" } : Jvm.MethodName)) ∈ lw_all := lw_g (lw_at lw_m2 77 rfl) rfl
theorem q434 : (Jvm.Cond.static ({ cls := "java/lang/StringUTF16", name := "length", desc := "([B)I" } : Jvm.MethodName)) ∈ lw_all := lw_g (lw_at lw_m2 78 rfl) rfl
theorem q435 : (Jvm.Cond.code ({ cls := "java/lang/StringUTF16", name := "length", desc := "([B)I" } : Jvm.MethodName) prog_24_method_6_code (1 : Nat) (Option.some Jvm.ClassFile.FieldType.int)) ∈ lw_all := lw_g (lw_at lw_m2 79 rfl) rfl
theorem q436 : (Jvm.Cond.methodLink "java/lang/StringUTF16" (241 : Nat) ({ cls := "java/lang/String", name := "checkBoundsBeginEnd", desc := "(III)V" } : Jvm.MethodName)) ∈ lw_all := lw_g (lw_at lw_m2 80 rfl) rfl
theorem q444 : (Jvm.Cond.methodLink "java/lang/StringUTF16" (244 : Nat) ({ cls := "java/lang/StringUTF16", name := "indexOfCharUnsafe", desc := "([BIII)I" } : Jvm.MethodName)) ∈ lw_all := lw_g (lw_at lw_m2 88 rfl) rfl
theorem q445 : (Jvm.Cond.static ({ cls := "java/lang/StringUTF16", name := "indexOfCharUnsafe", desc := "([BIII)I" } : Jvm.MethodName)) ∈ lw_all := lw_g (lw_at lw_m2 89 rfl) rfl
theorem q446 : (Jvm.Cond.code ({ cls := "java/lang/StringUTF16", name := "indexOfCharUnsafe", desc := "([BIII)I" } : Jvm.MethodName) prog_24_method_48_code (5 : Nat) (Option.some Jvm.ClassFile.FieldType.int)) ∈ lw_all := lw_g (lw_at lw_m2 90 rfl) rfl
theorem q447 : (Jvm.Cond.methodLink "java/lang/StringUTF16" (71 : Nat) ({ cls := "java/lang/StringUTF16", name := "getChar", desc := "([BI)C" } : Jvm.MethodName)) ∈ lw_all := lw_g (lw_at lw_m2 91 rfl) rfl
theorem q448 : (Jvm.Cond.static ({ cls := "java/lang/StringUTF16", name := "getChar", desc := "([BI)C" } : Jvm.MethodName)) ∈ lw_all := lw_g (lw_at lw_m2 92 rfl) rfl
theorem q449 : (Jvm.Cond.code ({ cls := "java/lang/StringUTF16", name := "getChar", desc := "([BI)C" } : Jvm.MethodName) prog_24_method_5_code (2 : Nat) (Option.some Jvm.ClassFile.FieldType.char)) ∈ lw_all := lw_g (lw_at lw_m2 93 rfl) rfl
theorem q450 : (Jvm.Cond.fieldLink "java/lang/StringUTF16" (44 : Nat) "java/lang/StringUTF16" "$assertionsDisabled" "Z") ∈ lw_all := lw_g (lw_at lw_m2 94 rfl) rfl
theorem q451 : (Jvm.Cond.laysStatic "java/lang/StringUTF16" "$assertionsDisabled" "Z") ∈ lw_tbl := lw_at lw_m2 95 rfl
theorem q452 : (Jvm.Cond.fieldLink "java/lang/StringUTF16" (59 : Nat) "java/lang/StringUTF16" "HI_BYTE_SHIFT" "I") ∈ lw_all := lw_g (lw_at lw_m2 96 rfl) rfl
theorem q453 : (Jvm.Cond.laysStatic "java/lang/StringUTF16" "HI_BYTE_SHIFT" "I") ∈ lw_tbl := lw_at lw_m2 97 rfl
theorem q454 : (Jvm.Cond.fieldLink "java/lang/StringUTF16" (63 : Nat) "java/lang/StringUTF16" "LO_BYTE_SHIFT" "I") ∈ lw_all := lw_g (lw_at lw_m2 98 rfl) rfl
theorem q455 : (Jvm.Cond.laysStatic "java/lang/StringUTF16" "LO_BYTE_SHIFT" "I") ∈ lw_tbl := lw_at lw_m2 99 rfl
theorem q456 : (Jvm.Cond.methodLink "java/lang/StringUTF16" (232 : Nat) ({ cls := "java/lang/StringUTF16", name := "indexOfSupplementary", desc := "([BIII)I" } : Jvm.MethodName)) ∈ lw_all := lw_g (lw_at lw_m2 100 rfl) rfl
theorem q457 : (Jvm.Cond.static ({ cls := "java/lang/StringUTF16", name := "indexOfSupplementary", desc := "([BIII)I" } : Jvm.MethodName)) ∈ lw_all := lw_g (lw_at lw_m2 101 rfl) rfl
theorem q458 : (Jvm.Cond.code ({ cls := "java/lang/StringUTF16", name := "indexOfSupplementary", desc := "([BIII)I" } : Jvm.MethodName) prog_24_method_49_code (7 : Nat) (Option.some Jvm.ClassFile.FieldType.int)) ∈ lw_all := lw_g (lw_at lw_m2 102 rfl) rfl
theorem q459 : (Jvm.Cond.methodLink "java/lang/StringUTF16" (164 : Nat) ({ cls := "java/lang/Character", name := "isValidCodePoint", desc := "(I)Z" } : Jvm.MethodName)) ∈ lw_all := lw_g (lw_at lw_m2 103 rfl) rfl
theorem q462 : (Jvm.Cond.methodLink "java/lang/StringUTF16" (157 : Nat) ({ cls := "java/lang/Character", name := "highSurrogate", desc := "(I)C" } : Jvm.MethodName)) ∈ lw_all := lw_g (lw_at lw_m2 106 rfl) rfl
theorem q466 : (Jvm.Cond.methodLink "java/lang/StringUTF16" (161 : Nat) ({ cls := "java/lang/Character", name := "lowSurrogate", desc := "(I)C" } : Jvm.MethodName)) ∈ lw_all := lw_g (lw_at lw_m2 110 rfl) rfl

end
section
/-! jdk/internal/util/Preconditions -/
set_option maxRecDepth 100000
def RJ4 : String := "jdk/internal/util/Preconditions"
abbrev cJ4_checkFromToIndex : ByteArray := prog_25_method_12_code
def yJ4_checkFromToIndex : MethodName := ⟨RJ4, "checkFromToIndex", "(IIILjava/util/function/BiFunction;)I"⟩
def dkwJ4_checkFromToIndex_0 : List UInt8 := [26, 155, 0, 13, 26, 27, 163, 0, 8, 27, 28, 164, 0, 11, 45, 26, 27, 28, 184, 0, 99, 191, 26, 172]
abbrev dktJ4_checkFromToIndex_0 : List UInt8 := dkwJ4_checkFromToIndex_0 ++ []
theorem dksJ4_checkFromToIndex_0 : cJ4_checkFromToIndex.data.toList.drop 0 = dktJ4_checkFromToIndex_0 := by decide +kernel
theorem dJ4_checkFromToIndex_0 : decode cJ4_checkFromToIndex 0 = .ok (.iload_n 0, 1) := dk_26 (dk_at dksJ4_checkFromToIndex_0 0 rfl rfl)
theorem dJ4_checkFromToIndex_1 : decode cJ4_checkFromToIndex 1 = .ok (.ifCond .lt 13, 3) := dk_155 0 13 (dk_at dksJ4_checkFromToIndex_0 1 rfl rfl)
theorem dJ4_checkFromToIndex_4 : decode cJ4_checkFromToIndex 4 = .ok (.iload_n 0, 1) := dk_26 (dk_at dksJ4_checkFromToIndex_0 4 rfl rfl)
theorem dJ4_checkFromToIndex_5 : decode cJ4_checkFromToIndex 5 = .ok (.iload_n 1, 1) := dk_27 (dk_at dksJ4_checkFromToIndex_0 5 rfl rfl)
theorem dJ4_checkFromToIndex_6 : decode cJ4_checkFromToIndex 6 = .ok (.if_icmp .gt 8, 3) := dk_163 0 8 (dk_at dksJ4_checkFromToIndex_0 6 rfl rfl)
theorem dJ4_checkFromToIndex_9 : decode cJ4_checkFromToIndex 9 = .ok (.iload_n 1, 1) := dk_27 (dk_at dksJ4_checkFromToIndex_0 9 rfl rfl)
theorem dJ4_checkFromToIndex_10 : decode cJ4_checkFromToIndex 10 = .ok (.iload_n 2, 1) := dk_28 (dk_at dksJ4_checkFromToIndex_0 10 rfl rfl)
theorem dJ4_checkFromToIndex_11 : decode cJ4_checkFromToIndex 11 = .ok (.if_icmp .le 11, 3) := dk_164 0 11 (dk_at dksJ4_checkFromToIndex_0 11 rfl rfl)
theorem dJ4_checkFromToIndex_14 : decode cJ4_checkFromToIndex 14 = .ok (.aload_n 3, 1) := dk_45 (dk_at dksJ4_checkFromToIndex_0 14 rfl rfl)
theorem dJ4_checkFromToIndex_15 : decode cJ4_checkFromToIndex 15 = .ok (.iload_n 0, 1) := dk_26 (dk_at dksJ4_checkFromToIndex_0 15 rfl rfl)
theorem dJ4_checkFromToIndex_16 : decode cJ4_checkFromToIndex 16 = .ok (.iload_n 1, 1) := dk_27 (dk_at dksJ4_checkFromToIndex_0 16 rfl rfl)
theorem dJ4_checkFromToIndex_17 : decode cJ4_checkFromToIndex 17 = .ok (.iload_n 2, 1) := dk_28 (dk_at dksJ4_checkFromToIndex_0 17 rfl rfl)
theorem dJ4_checkFromToIndex_18 : decode cJ4_checkFromToIndex 18 = .ok (.invokestatic 99, 3) := dk_184 0 99 (dk_at dksJ4_checkFromToIndex_0 18 rfl rfl)
theorem dJ4_checkFromToIndex_21 : decode cJ4_checkFromToIndex 21 = .ok (.athrow, 1) := dk_191 (dk_at dksJ4_checkFromToIndex_0 21 rfl rfl)
theorem dJ4_checkFromToIndex_22 : decode cJ4_checkFromToIndex 22 = .ok (.iload_n 0, 1) := dk_26 (dk_at dksJ4_checkFromToIndex_0 22 rfl rfl)
theorem dJ4_checkFromToIndex_23 : decode cJ4_checkFromToIndex 23 = .ok (.ireturn, 1) := dk_172 (dk_at dksJ4_checkFromToIndex_0 23 rfl rfl)
theorem q128 : (Jvm.Cond.initialized "jdk/internal/util/Preconditions") ∈ lw_all := lw_g (lw_at lw_m1 12 rfl) rfl
theorem q440 : (Jvm.Cond.laysStatic "jdk/internal/util/Preconditions" "SIOOBE_FORMATTER" "Ljava/util/function/BiFunction;") ∈ lw_tbl := lw_at lw_m2 84 rfl
theorem q442 : (Jvm.Cond.static ({ cls := "jdk/internal/util/Preconditions", name := "checkFromToIndex", desc := "(IIILjava/util/function/BiFunction;)I" } : Jvm.MethodName)) ∈ lw_all := lw_g (lw_at lw_m2 86 rfl) rfl
theorem q443 : (Jvm.Cond.code ({ cls := "jdk/internal/util/Preconditions", name := "checkFromToIndex", desc := "(IIILjava/util/function/BiFunction;)I" } : Jvm.MethodName) prog_25_method_12_code (4 : Nat) (Option.some Jvm.ClassFile.FieldType.int)) ∈ lw_all := lw_g (lw_at lw_m2 87 rfl) rfl

end
section
/-! java/lang/Character -/
set_option maxRecDepth 100000
def RJ5 : String := "java/lang/Character"
abbrev cJ5_isValidCodePoint : ByteArray := prog_20_method_11_code
def yJ5_isValidCodePoint : MethodName := ⟨RJ5, "isValidCodePoint", "(I)Z"⟩
def dkwJ5_isValidCodePoint_0 : List UInt8 := [26, 16, 16, 124, 60, 27, 16, 17, 162, 0, 7, 4, 167, 0, 4, 3, 172]
abbrev dktJ5_isValidCodePoint_0 : List UInt8 := dkwJ5_isValidCodePoint_0 ++ []
theorem dksJ5_isValidCodePoint_0 : cJ5_isValidCodePoint.data.toList.drop 0 = dktJ5_isValidCodePoint_0 := by decide +kernel
theorem dJ5_isValidCodePoint_0 : decode cJ5_isValidCodePoint 0 = .ok (.iload_n 0, 1) := dk_26 (dk_at dksJ5_isValidCodePoint_0 0 rfl rfl)
theorem dJ5_isValidCodePoint_1 : decode cJ5_isValidCodePoint 1 = .ok (.bipush 16, 2) := dk_16 16 (dk_at dksJ5_isValidCodePoint_0 1 rfl rfl)
theorem dJ5_isValidCodePoint_3 : decode cJ5_isValidCodePoint 3 = .ok (.iushr, 1) := dk_124 (dk_at dksJ5_isValidCodePoint_0 3 rfl rfl)
theorem dJ5_isValidCodePoint_4 : decode cJ5_isValidCodePoint 4 = .ok (.istore_n 1, 1) := dk_60 (dk_at dksJ5_isValidCodePoint_0 4 rfl rfl)
theorem dJ5_isValidCodePoint_5 : decode cJ5_isValidCodePoint 5 = .ok (.iload_n 1, 1) := dk_27 (dk_at dksJ5_isValidCodePoint_0 5 rfl rfl)
theorem dJ5_isValidCodePoint_6 : decode cJ5_isValidCodePoint 6 = .ok (.bipush 17, 2) := dk_16 17 (dk_at dksJ5_isValidCodePoint_0 6 rfl rfl)
theorem dJ5_isValidCodePoint_8 : decode cJ5_isValidCodePoint 8 = .ok (.if_icmp .ge 7, 3) := dk_162 0 7 (dk_at dksJ5_isValidCodePoint_0 8 rfl rfl)
theorem dJ5_isValidCodePoint_11 : decode cJ5_isValidCodePoint 11 = .ok (.iconst 1, 1) := dk_4 (dk_at dksJ5_isValidCodePoint_0 11 rfl rfl)
theorem dJ5_isValidCodePoint_12 : decode cJ5_isValidCodePoint 12 = .ok (.goto 4, 3) := dk_167 0 4 (dk_at dksJ5_isValidCodePoint_0 12 rfl rfl)
theorem dJ5_isValidCodePoint_15 : decode cJ5_isValidCodePoint 15 = .ok (.iconst 0, 1) := dk_3 (dk_at dksJ5_isValidCodePoint_0 15 rfl rfl)
theorem dJ5_isValidCodePoint_16 : decode cJ5_isValidCodePoint 16 = .ok (.ireturn, 1) := dk_172 (dk_at dksJ5_isValidCodePoint_0 16 rfl rfl)
abbrev cJ5_highSurrogate : ByteArray := prog_20_method_28_code
def yJ5_highSurrogate : MethodName := ⟨RJ5, "highSurrogate", "(I)C"⟩
def dkwJ5_highSurrogate_0 : List UInt8 := [26, 16, 10, 124, 18, 110, 96, 146, 172]
abbrev dktJ5_highSurrogate_0 : List UInt8 := dkwJ5_highSurrogate_0 ++ []
theorem dksJ5_highSurrogate_0 : cJ5_highSurrogate.data.toList.drop 0 = dktJ5_highSurrogate_0 := by decide +kernel
theorem dJ5_highSurrogate_0 : decode cJ5_highSurrogate 0 = .ok (.iload_n 0, 1) := dk_26 (dk_at dksJ5_highSurrogate_0 0 rfl rfl)
theorem dJ5_highSurrogate_1 : decode cJ5_highSurrogate 1 = .ok (.bipush 10, 2) := dk_16 10 (dk_at dksJ5_highSurrogate_0 1 rfl rfl)
theorem dJ5_highSurrogate_3 : decode cJ5_highSurrogate 3 = .ok (.iushr, 1) := dk_124 (dk_at dksJ5_highSurrogate_0 3 rfl rfl)
theorem dJ5_highSurrogate_4 : decode cJ5_highSurrogate 4 = .ok (.ldc 110, 2) := dk_18 110 (dk_at dksJ5_highSurrogate_0 4 rfl rfl)
theorem dJ5_highSurrogate_6 : decode cJ5_highSurrogate 6 = .ok (.iadd, 1) := dk_96 (dk_at dksJ5_highSurrogate_0 6 rfl rfl)
theorem dJ5_highSurrogate_7 : decode cJ5_highSurrogate 7 = .ok (.i2c, 1) := dk_146 (dk_at dksJ5_highSurrogate_0 7 rfl rfl)
theorem dJ5_highSurrogate_8 : decode cJ5_highSurrogate 8 = .ok (.ireturn, 1) := dk_172 (dk_at dksJ5_highSurrogate_0 8 rfl rfl)
abbrev cJ5_lowSurrogate : ByteArray := prog_20_method_29_code
def yJ5_lowSurrogate : MethodName := ⟨RJ5, "lowSurrogate", "(I)C"⟩
def dkwJ5_lowSurrogate_0 : List UInt8 := [26, 17, 3, 255, 126, 18, 76, 96, 146, 172]
abbrev dktJ5_lowSurrogate_0 : List UInt8 := dkwJ5_lowSurrogate_0 ++ []
theorem dksJ5_lowSurrogate_0 : cJ5_lowSurrogate.data.toList.drop 0 = dktJ5_lowSurrogate_0 := by decide +kernel
theorem dJ5_lowSurrogate_0 : decode cJ5_lowSurrogate 0 = .ok (.iload_n 0, 1) := dk_26 (dk_at dksJ5_lowSurrogate_0 0 rfl rfl)
theorem dJ5_lowSurrogate_1 : decode cJ5_lowSurrogate 1 = .ok (.sipush 1023, 3) := dk_17 3 255 (dk_at dksJ5_lowSurrogate_0 1 rfl rfl)
theorem dJ5_lowSurrogate_4 : decode cJ5_lowSurrogate 4 = .ok (.iand, 1) := dk_126 (dk_at dksJ5_lowSurrogate_0 4 rfl rfl)
theorem dJ5_lowSurrogate_5 : decode cJ5_lowSurrogate 5 = .ok (.ldc 76, 2) := dk_18 76 (dk_at dksJ5_lowSurrogate_0 5 rfl rfl)
theorem dJ5_lowSurrogate_7 : decode cJ5_lowSurrogate 7 = .ok (.iadd, 1) := dk_96 (dk_at dksJ5_lowSurrogate_0 7 rfl rfl)
theorem dJ5_lowSurrogate_8 : decode cJ5_lowSurrogate 8 = .ok (.i2c, 1) := dk_146 (dk_at dksJ5_lowSurrogate_0 8 rfl rfl)
theorem dJ5_lowSurrogate_9 : decode cJ5_lowSurrogate 9 = .ok (.ireturn, 1) := dk_172 (dk_at dksJ5_lowSurrogate_0 9 rfl rfl)
theorem q129 : (Jvm.Cond.initialized "java/lang/Character") ∈ lw_all := lw_g (lw_at lw_m1 13 rfl) rfl
theorem q460 : (Jvm.Cond.static ({ cls := "java/lang/Character", name := "isValidCodePoint", desc := "(I)Z" } : Jvm.MethodName)) ∈ lw_all := lw_g (lw_at lw_m2 104 rfl) rfl
theorem q461 : (Jvm.Cond.code ({ cls := "java/lang/Character", name := "isValidCodePoint", desc := "(I)Z" } : Jvm.MethodName) prog_20_method_11_code (2 : Nat) (Option.some Jvm.ClassFile.FieldType.boolean)) ∈ lw_all := lw_g (lw_at lw_m2 105 rfl) rfl
theorem q463 : (Jvm.Cond.static ({ cls := "java/lang/Character", name := "highSurrogate", desc := "(I)C" } : Jvm.MethodName)) ∈ lw_all := lw_g (lw_at lw_m2 107 rfl) rfl
theorem q464 : (Jvm.Cond.code ({ cls := "java/lang/Character", name := "highSurrogate", desc := "(I)C" } : Jvm.MethodName) prog_20_method_28_code (1 : Nat) (Option.some Jvm.ClassFile.FieldType.char)) ∈ lw_all := lw_g (lw_at lw_m2 108 rfl) rfl
theorem q465 : (Jvm.Cond.constant "java/lang/Character" (110 : Nat) (55232 : Int32)) ∈ lw_all := lw_g (lw_at lw_m2 109 rfl) rfl
theorem q467 : (Jvm.Cond.static ({ cls := "java/lang/Character", name := "lowSurrogate", desc := "(I)C" } : Jvm.MethodName)) ∈ lw_all := lw_g (lw_at lw_m2 111 rfl) rfl
theorem q468 : (Jvm.Cond.code ({ cls := "java/lang/Character", name := "lowSurrogate", desc := "(I)C" } : Jvm.MethodName) prog_20_method_29_code (1 : Nat) (Option.some Jvm.ClassFile.FieldType.char)) ∈ lw_all := lw_g (lw_at lw_m2 112 rfl) rfl
theorem q469 : (Jvm.Cond.constant "java/lang/Character" (76 : Nat) (56320 : Int32)) ∈ lw_all := lw_g (lw_at lw_m2 113 rfl) rfl

end
section
/-! HighSpots$Asked -/
set_option maxRecDepth 100000
def RX1 : String := "HighSpots$Asked"
abbrev cX1_init : ByteArray := prog_2_method_1_code
def yX1_init : MethodName := ⟨RX1, "<init>", "()V"⟩
def dkwX1_init_0 : List UInt8 := [42, 183, 0, 1, 42, 17, 0, 128, 188, 10, 181, 0, 7, 177]
abbrev dktX1_init_0 : List UInt8 := dkwX1_init_0 ++ []
theorem dksX1_init_0 : cX1_init.data.toList.drop 0 = dktX1_init_0 := by decide +kernel
theorem dX1_init_0 : decode cX1_init 0 = .ok (.aload_n 0, 1) := dk_42 (dk_at dksX1_init_0 0 rfl rfl)
theorem dX1_init_1 : decode cX1_init 1 = .ok (.invokespecial 1, 3) := dk_183 0 1 (dk_at dksX1_init_0 1 rfl rfl)
theorem dX1_init_4 : decode cX1_init 4 = .ok (.aload_n 0, 1) := dk_42 (dk_at dksX1_init_0 4 rfl rfl)
theorem dX1_init_5 : decode cX1_init 5 = .ok (.sipush 128, 3) := dk_17 0 128 (dk_at dksX1_init_0 5 rfl rfl)
theorem dX1_init_8 : decode cX1_init 8 = .ok (.newarray .int, 2) := dk_188_10 (dk_at dksX1_init_0 8 rfl rfl)
theorem dX1_init_10 : decode cX1_init 10 = .ok (.putfield 7, 3) := dk_181 0 7 (dk_at dksX1_init_0 10 rfl rfl)
theorem dX1_init_13 : decode cX1_init 13 = .ok (.return_, 1) := dk_177 (dk_at dksX1_init_0 13 rfl rfl)
theorem q118 : (Jvm.Cond.initialized "HighSpots$Asked") ∈ lw_all := lw_g (lw_at lw_m1 2 rfl) rfl
theorem q155 : (Jvm.Cond.instanceMethod ({ cls := "HighSpots$Asked", name := "<init>", desc := "()V" } : Jvm.MethodName)) ∈ lw_all := lw_g (lw_at lw_m1 39 rfl) rfl
theorem q156 : (Jvm.Cond.code ({ cls := "HighSpots$Asked", name := "<init>", desc := "()V" } : Jvm.MethodName) prog_2_method_1_code (1 : Nat) (Option.none : Option Jvm.ClassFile.FieldType)) ∈ lw_all := lw_g (lw_at lw_m1 40 rfl) rfl
theorem q157 : (Jvm.Cond.methodLink "HighSpots$Asked" (1 : Nat) ({ cls := "java/lang/Object", name := "<init>", desc := "()V" } : Jvm.MethodName)) ∈ lw_all := lw_g (lw_at lw_m1 41 rfl) rfl
theorem q158 : (Jvm.Cond.fieldLink "HighSpots$Asked" (7 : Nat) "HighSpots$Asked" "values" "[I") ∈ lw_all := lw_g (lw_at lw_m1 42 rfl) rfl
theorem q165 : (Jvm.Cond.soleField "HighSpots$Asked" "values") ∈ lw_all := lw_g (lw_at lw_m1 49 rfl) rfl
theorem q167 : (Jvm.Cond.soleField "HighSpots$Asked" "isRefused") ∈ lw_all := lw_g (lw_at lw_m1 51 rfl) rfl

end
section
/-! HighSpots$Moment -/
set_option maxRecDepth 100000
def RX2 : String := "HighSpots$Moment"
def TX2 : u_T := fun k => match k with
  | 0 => ("HighSpots$Asked", "values", "[I", true)
  | _ => ("HighSpots$Asked", "isRefused", "Z", false)
def tyX2 : Nat → FieldType := fun k => match k with
  | 0 => .array .int
  | _ => .boolean
abbrev wsX20 : List Cond := u_ws RX2 TX2 2
theorem nmX2 : ∀ a, a < 2 → ∀ b, b < 2 → a ≠ b → (TX2 a).2.1 ≠ (TX2 b).2.1 := by decide +kernel
theorem tyX2_ok : ∀ k, k < 2 → parseFieldDescriptor (TX2 k).2.2.1 = some (tyX2 k) := by decide +kernel
abbrev cX2_init : ByteArray := prog_9_method_1_code
def yX2_init : MethodName := ⟨RX2, "<init>", "()V"⟩
theorem dX2_init_0 : decode cX2_init 0 = .ok (.aload_n 0, 1) := by decide +kernel
theorem dX2_init_1 : decode cX2_init 1 = .ok (.invokespecial 3, 3) := by decide +kernel
theorem dX2_init_4 : decode cX2_init 4 = .ok (.return_, 1) := by decide +kernel
abbrev cX2_of : ByteArray := prog_9_method_3_code
def yX2_of : MethodName := ⟨RX2, "of", "(IIII)LHighSpots$Moment;"⟩
def dkwX2_of_2 : List UInt8 := [16, 98, 21, 4, 184, 0, 23, 6, 96, 182, 0, 13, 42, 176]
abbrev dktX2_of_2 : List UInt8 := dkwX2_of_2 ++ []
def dkwX2_of_1 : List UInt8 := [42, 16, 101, 29, 16, 8, 108, 182, 0, 13, 42, 16, 97, 21, 4, 184, 0, 19, 7, 96, 182, 0, 13, 42]
abbrev dktX2_of_1 : List UInt8 := dkwX2_of_1 ++ dktX2_of_2
def dkwX2_of_0 : List UInt8 := [42, 16, 117, 27, 182, 0, 13, 42, 16, 108, 28, 182, 0, 13, 42, 16, 99, 29, 16, 8, 112, 182, 0, 13]
abbrev dktX2_of_0 : List UInt8 := dkwX2_of_0 ++ dktX2_of_1
theorem dksX2_of_0 : cX2_of.data.toList.drop 0 = dktX2_of_0 := by decide +kernel
theorem dksX2_of_1 : cX2_of.data.toList.drop 24 = dktX2_of_1 := dk_seg dksX2_of_0 24 rfl rfl
theorem dksX2_of_2 : cX2_of.data.toList.drop 48 = dktX2_of_2 := dk_seg dksX2_of_1 24 rfl rfl
theorem dX2_of_0 : decode cX2_of 0 = .ok (.aload_n 0, 1) := dk_42 (dk_at dksX2_of_0 0 rfl rfl)
theorem dX2_of_1 : decode cX2_of 1 = .ok (.bipush 117, 2) := dk_16 117 (dk_at dksX2_of_0 1 rfl rfl)
theorem dX2_of_3 : decode cX2_of 3 = .ok (.iload_n 1, 1) := dk_27 (dk_at dksX2_of_0 3 rfl rfl)
theorem dX2_of_4 : decode cX2_of 4 = .ok (.invokevirtual 13, 3) := dk_182 0 13 (dk_at dksX2_of_0 4 rfl rfl)
theorem dX2_of_7 : decode cX2_of 7 = .ok (.aload_n 0, 1) := dk_42 (dk_at dksX2_of_0 7 rfl rfl)
theorem dX2_of_8 : decode cX2_of 8 = .ok (.bipush 108, 2) := dk_16 108 (dk_at dksX2_of_0 8 rfl rfl)
theorem dX2_of_10 : decode cX2_of 10 = .ok (.iload_n 2, 1) := dk_28 (dk_at dksX2_of_0 10 rfl rfl)
theorem dX2_of_11 : decode cX2_of 11 = .ok (.invokevirtual 13, 3) := dk_182 0 13 (dk_at dksX2_of_0 11 rfl rfl)
theorem dX2_of_14 : decode cX2_of 14 = .ok (.aload_n 0, 1) := dk_42 (dk_at dksX2_of_0 14 rfl rfl)
theorem dX2_of_15 : decode cX2_of 15 = .ok (.bipush 99, 2) := dk_16 99 (dk_at dksX2_of_0 15 rfl rfl)
theorem dX2_of_17 : decode cX2_of 17 = .ok (.iload_n 3, 1) := dk_29 (dk_at dksX2_of_0 17 rfl rfl)
theorem dX2_of_18 : decode cX2_of 18 = .ok (.bipush 8, 2) := dk_16 8 (dk_at dksX2_of_0 18 rfl rfl)
theorem dX2_of_20 : decode cX2_of 20 = .ok (.irem, 1) := dk_112 (dk_at dksX2_of_0 20 rfl rfl)
theorem dX2_of_21 : decode cX2_of 21 = .ok (.invokevirtual 13, 3) := dk_182 0 13 (dk_at dksX2_of_0 21 rfl rfl)
theorem dX2_of_24 : decode cX2_of 24 = .ok (.aload_n 0, 1) := dk_42 (dk_at dksX2_of_1 0 rfl rfl)
theorem dX2_of_25 : decode cX2_of 25 = .ok (.bipush 101, 2) := dk_16 101 (dk_at dksX2_of_1 1 rfl rfl)
theorem dX2_of_27 : decode cX2_of 27 = .ok (.iload_n 3, 1) := dk_29 (dk_at dksX2_of_1 3 rfl rfl)
theorem dX2_of_28 : decode cX2_of 28 = .ok (.bipush 8, 2) := dk_16 8 (dk_at dksX2_of_1 4 rfl rfl)
theorem dX2_of_30 : decode cX2_of 30 = .ok (.idiv, 1) := dk_108 (dk_at dksX2_of_1 6 rfl rfl)
theorem dX2_of_31 : decode cX2_of 31 = .ok (.invokevirtual 13, 3) := dk_182 0 13 (dk_at dksX2_of_1 7 rfl rfl)
theorem dX2_of_34 : decode cX2_of 34 = .ok (.aload_n 0, 1) := dk_42 (dk_at dksX2_of_1 10 rfl rfl)
theorem dX2_of_35 : decode cX2_of 35 = .ok (.bipush 97, 2) := dk_16 97 (dk_at dksX2_of_1 11 rfl rfl)
theorem dX2_of_37 : decode cX2_of 37 = .ok (.iload 4, 2) := dk_21 4 (dk_at dksX2_of_1 13 rfl rfl)
theorem dX2_of_39 : decode cX2_of 39 = .ok (.invokestatic 19, 3) := dk_184 0 19 (dk_at dksX2_of_1 15 rfl rfl)
theorem dX2_of_42 : decode cX2_of 42 = .ok (.iconst 4, 1) := dk_7 (dk_at dksX2_of_1 18 rfl rfl)
theorem dX2_of_43 : decode cX2_of 43 = .ok (.iadd, 1) := dk_96 (dk_at dksX2_of_1 19 rfl rfl)
theorem dX2_of_44 : decode cX2_of 44 = .ok (.invokevirtual 13, 3) := dk_182 0 13 (dk_at dksX2_of_1 20 rfl rfl)
theorem dX2_of_47 : decode cX2_of 47 = .ok (.aload_n 0, 1) := dk_42 (dk_at dksX2_of_1 23 rfl rfl)
theorem dX2_of_48 : decode cX2_of 48 = .ok (.bipush 98, 2) := dk_16 98 (dk_at dksX2_of_2 0 rfl rfl)
theorem dX2_of_50 : decode cX2_of 50 = .ok (.iload 4, 2) := dk_21 4 (dk_at dksX2_of_2 2 rfl rfl)
theorem dX2_of_52 : decode cX2_of 52 = .ok (.invokestatic 23, 3) := dk_184 0 23 (dk_at dksX2_of_2 4 rfl rfl)
theorem dX2_of_55 : decode cX2_of 55 = .ok (.iconst 3, 1) := dk_6 (dk_at dksX2_of_2 7 rfl rfl)
theorem dX2_of_56 : decode cX2_of 56 = .ok (.iadd, 1) := dk_96 (dk_at dksX2_of_2 8 rfl rfl)
theorem dX2_of_57 : decode cX2_of 57 = .ok (.invokevirtual 13, 3) := dk_182 0 13 (dk_at dksX2_of_2 9 rfl rfl)
theorem dX2_of_60 : decode cX2_of 60 = .ok (.aload_n 0, 1) := dk_42 (dk_at dksX2_of_2 12 rfl rfl)
theorem dX2_of_61 : decode cX2_of 61 = .ok (.areturn, 1) := dk_176 (dk_at dksX2_of_2 13 rfl rfl)
abbrev cX2_is : ByteArray := prog_9_method_2_code
def yX2_is : MethodName := ⟨RX2, "is", "(II)V"⟩
def dkwX2_is_0 : List UInt8 := [42, 180, 0, 9, 27, 28, 79, 177]
abbrev dktX2_is_0 : List UInt8 := dkwX2_is_0 ++ []
theorem dksX2_is_0 : cX2_is.data.toList.drop 0 = dktX2_is_0 := by decide +kernel
theorem dX2_is_0 : decode cX2_is 0 = .ok (.aload_n 0, 1) := dk_42 (dk_at dksX2_is_0 0 rfl rfl)
theorem dX2_is_1 : decode cX2_is 1 = .ok (.getfield 9, 3) := dk_180 0 9 (dk_at dksX2_is_0 1 rfl rfl)
theorem dX2_is_4 : decode cX2_is 4 = .ok (.iload_n 1, 1) := dk_27 (dk_at dksX2_is_0 4 rfl rfl)
theorem dX2_is_5 : decode cX2_is 5 = .ok (.iload_n 2, 1) := dk_28 (dk_at dksX2_is_0 5 rfl rfl)
theorem dX2_is_6 : decode cX2_is 6 = .ok (.iastore, 1) := dk_79 (dk_at dksX2_is_0 6 rfl rfl)
theorem dX2_is_7 : decode cX2_is 7 = .ok (.return_, 1) := dk_177 (dk_at dksX2_is_0 7 rfl rfl)
abbrev cX2_on : ByteArray := prog_9_method_4_code
def yX2_on : MethodName := ⟨RX2, "on", "(IIII)LHighSpots$Moment;"⟩
def dkwX2_on_1 : List UInt8 := [182, 0, 13, 42, 16, 119, 21, 4, 182, 0, 13, 42, 176]
abbrev dktX2_on_1 : List UInt8 := dkwX2_on_1 ++ []
def dkwX2_on_0 : List UInt8 := [42, 16, 104, 27, 182, 0, 13, 42, 16, 107, 28, 16, 100, 112, 182, 0, 13, 42, 16, 116, 29, 16, 100, 112]
abbrev dktX2_on_0 : List UInt8 := dkwX2_on_0 ++ dktX2_on_1
theorem dksX2_on_0 : cX2_on.data.toList.drop 0 = dktX2_on_0 := by decide +kernel
theorem dksX2_on_1 : cX2_on.data.toList.drop 24 = dktX2_on_1 := dk_seg dksX2_on_0 24 rfl rfl
theorem dX2_on_0 : decode cX2_on 0 = .ok (.aload_n 0, 1) := dk_42 (dk_at dksX2_on_0 0 rfl rfl)
theorem dX2_on_1 : decode cX2_on 1 = .ok (.bipush 104, 2) := dk_16 104 (dk_at dksX2_on_0 1 rfl rfl)
theorem dX2_on_3 : decode cX2_on 3 = .ok (.iload_n 1, 1) := dk_27 (dk_at dksX2_on_0 3 rfl rfl)
theorem dX2_on_4 : decode cX2_on 4 = .ok (.invokevirtual 13, 3) := dk_182 0 13 (dk_at dksX2_on_0 4 rfl rfl)
theorem dX2_on_7 : decode cX2_on 7 = .ok (.aload_n 0, 1) := dk_42 (dk_at dksX2_on_0 7 rfl rfl)
theorem dX2_on_8 : decode cX2_on 8 = .ok (.bipush 107, 2) := dk_16 107 (dk_at dksX2_on_0 8 rfl rfl)
theorem dX2_on_10 : decode cX2_on 10 = .ok (.iload_n 2, 1) := dk_28 (dk_at dksX2_on_0 10 rfl rfl)
theorem dX2_on_11 : decode cX2_on 11 = .ok (.bipush 100, 2) := dk_16 100 (dk_at dksX2_on_0 11 rfl rfl)
theorem dX2_on_13 : decode cX2_on 13 = .ok (.irem, 1) := dk_112 (dk_at dksX2_on_0 13 rfl rfl)
theorem dX2_on_14 : decode cX2_on 14 = .ok (.invokevirtual 13, 3) := dk_182 0 13 (dk_at dksX2_on_0 14 rfl rfl)
theorem dX2_on_17 : decode cX2_on 17 = .ok (.aload_n 0, 1) := dk_42 (dk_at dksX2_on_0 17 rfl rfl)
theorem dX2_on_18 : decode cX2_on 18 = .ok (.bipush 116, 2) := dk_16 116 (dk_at dksX2_on_0 18 rfl rfl)
theorem dX2_on_20 : decode cX2_on 20 = .ok (.iload_n 3, 1) := dk_29 (dk_at dksX2_on_0 20 rfl rfl)
theorem dX2_on_21 : decode cX2_on 21 = .ok (.bipush 100, 2) := dk_16 100 (dk_at dksX2_on_0 21 rfl rfl)
theorem dX2_on_23 : decode cX2_on 23 = .ok (.irem, 1) := dk_112 (dk_at dksX2_on_0 23 rfl rfl)
theorem dX2_on_24 : decode cX2_on 24 = .ok (.invokevirtual 13, 3) := dk_182 0 13 (dk_at dksX2_on_1 0 rfl rfl)
theorem dX2_on_27 : decode cX2_on 27 = .ok (.aload_n 0, 1) := dk_42 (dk_at dksX2_on_1 3 rfl rfl)
theorem dX2_on_28 : decode cX2_on 28 = .ok (.bipush 119, 2) := dk_16 119 (dk_at dksX2_on_1 4 rfl rfl)
theorem dX2_on_30 : decode cX2_on 30 = .ok (.iload 4, 2) := dk_21 4 (dk_at dksX2_on_1 6 rfl rfl)
theorem dX2_on_32 : decode cX2_on 32 = .ok (.invokevirtual 13, 3) := dk_182 0 13 (dk_at dksX2_on_1 8 rfl rfl)
theorem dX2_on_35 : decode cX2_on 35 = .ok (.aload_n 0, 1) := dk_42 (dk_at dksX2_on_1 11 rfl rfl)
theorem dX2_on_36 : decode cX2_on 36 = .ok (.areturn, 1) := dk_176 (dk_at dksX2_on_1 12 rfl rfl)
theorem q119 : (Jvm.Cond.initialized "HighSpots$Moment") ∈ lw_all := lw_g (lw_at lw_m1 3 rfl) rfl
theorem q150 : (Jvm.Cond.instantiable "HighSpots$Moment" (2 : Nat)) ∈ lw_all := lw_g (lw_at lw_m1 34 rfl) rfl
theorem q152 : (Jvm.Cond.instanceMethod ({ cls := "HighSpots$Moment", name := "<init>", desc := "()V" } : Jvm.MethodName)) ∈ lw_all := lw_g (lw_at lw_m1 36 rfl) rfl
theorem q153 : (Jvm.Cond.code ({ cls := "HighSpots$Moment", name := "<init>", desc := "()V" } : Jvm.MethodName) prog_9_method_1_code (1 : Nat) (Option.none : Option Jvm.ClassFile.FieldType)) ∈ lw_all := lw_g (lw_at lw_m1 37 rfl) rfl
theorem q154 : (Jvm.Cond.methodLinkNest "HighSpots$Moment" (3 : Nat) ({ cls := "HighSpots$Asked", name := "<init>", desc := "()V" } : Jvm.MethodName) "HighSpots") ∈ lw_tbl := lw_at lw_m1 38 rfl
theorem q159 : (Jvm.Cond.fieldLinkNest "HighSpots$Moment" (9 : Nat) "HighSpots$Asked" "values" "[I" "HighSpots") ∈ lw_tbl := lw_at lw_m1 43 rfl
theorem q164 : (Jvm.Cond.laysFinal "HighSpots$Moment" "HighSpots$Asked" "values" "[I") ∈ lw_all := lw_g (lw_at lw_m1 48 rfl) rfl
theorem q166 : (Jvm.Cond.lays "HighSpots$Moment" "HighSpots$Asked" "isRefused" "Z") ∈ lw_all := lw_g (lw_at lw_m1 50 rfl) rfl
theorem q168 : (Jvm.Cond.superclass "HighSpots$Moment" "HighSpots$Asked") ∈ lw_all := lw_g (lw_at lw_m1 52 rfl) rfl
theorem q1075 : (Jvm.Cond.instanceMethod ({ cls := "HighSpots$Moment", name := "of", desc := "(IIII)LHighSpots$Moment;" } : Jvm.MethodName)) ∈ lw_all := lw_g (lw_at lw_m4 239 rfl) rfl
theorem q1076 : (Jvm.Cond.selects "HighSpots$Moment" ({ cls := "HighSpots$Moment", name := "of", desc := "(IIII)LHighSpots$Moment;" } : Jvm.MethodName) ({ cls := "HighSpots$Moment", name := "of", desc := "(IIII)LHighSpots$Moment;" } : Jvm.MethodName)) ∈ lw_all := lw_g (lw_at lw_m5 0 rfl) rfl
theorem q1077 : (Jvm.Cond.code ({ cls := "HighSpots$Moment", name := "of", desc := "(IIII)LHighSpots$Moment;" } : Jvm.MethodName) prog_9_method_3_code (5 : Nat) (Option.some (Jvm.ClassFile.FieldType.object "HighSpots$Moment"))) ∈ lw_all := lw_g (lw_at lw_m5 1 rfl) rfl
theorem q1078 : (Jvm.Cond.methodLink "HighSpots$Moment" (13 : Nat) ({ cls := "HighSpots$Moment", name := "is", desc := "(II)V" } : Jvm.MethodName)) ∈ lw_all := lw_g (lw_at lw_m5 2 rfl) rfl
theorem q1079 : (Jvm.Cond.privateMethod ({ cls := "HighSpots$Moment", name := "is", desc := "(II)V" } : Jvm.MethodName)) ∈ lw_tbl := lw_at lw_m5 3 rfl
theorem q1080 : (Jvm.Cond.instanceMethod ({ cls := "HighSpots$Moment", name := "is", desc := "(II)V" } : Jvm.MethodName)) ∈ lw_all := lw_g (lw_at lw_m5 4 rfl) rfl
theorem q1081 : (Jvm.Cond.code ({ cls := "HighSpots$Moment", name := "is", desc := "(II)V" } : Jvm.MethodName) prog_9_method_2_code (3 : Nat) (Option.none : Option Jvm.ClassFile.FieldType)) ∈ lw_all := lw_g (lw_at lw_m5 5 rfl) rfl
theorem q1082 : (Jvm.Cond.methodLinkNest "HighSpots$Moment" (19 : Nat) ({ cls := "HighSpots", name := "sideOf", desc := "(I)I" } : Jvm.MethodName) "HighSpots") ∈ lw_tbl := lw_at lw_m5 6 rfl
theorem q1083 : (Jvm.Cond.methodLinkNest "HighSpots$Moment" (23 : Nat) ({ cls := "HighSpots", name := "aheadOf", desc := "(I)I" } : Jvm.MethodName) "HighSpots") ∈ lw_tbl := lw_at lw_m5 7 rfl
theorem q1090 : (Jvm.Cond.instanceMethod ({ cls := "HighSpots$Moment", name := "on", desc := "(IIII)LHighSpots$Moment;" } : Jvm.MethodName)) ∈ lw_all := lw_g (lw_at lw_m5 14 rfl) rfl
theorem q1091 : (Jvm.Cond.selects "HighSpots$Moment" ({ cls := "HighSpots$Moment", name := "on", desc := "(IIII)LHighSpots$Moment;" } : Jvm.MethodName) ({ cls := "HighSpots$Moment", name := "on", desc := "(IIII)LHighSpots$Moment;" } : Jvm.MethodName)) ∈ lw_all := lw_g (lw_at lw_m5 15 rfl) rfl
theorem q1092 : (Jvm.Cond.code ({ cls := "HighSpots$Moment", name := "on", desc := "(IIII)LHighSpots$Moment;" } : Jvm.MethodName) prog_9_method_4_code (5 : Nat) (Option.some (Jvm.ClassFile.FieldType.object "HighSpots$Moment"))) ∈ lw_all := lw_g (lw_at lw_m5 16 rfl) rfl
theorem in_X2 : ∀ w ∈ wsX20, w ∈ lw_all := lw_in wsX20 [164, 166] (by decide +kernel) (by decide +kernel)

end
section
/-! HighSpots$Text -/
set_option maxRecDepth 100000
def RX4 : String := "HighSpots$Text"
def TX4 : u_T := fun k => match k with
  | 0 => ("HighSpots$Text", "letters", "[I", true)
  | 1 => ("HighSpots$Text", "sums", "[LHighSpots$Sum;", true)
  | 2 => ("HighSpots$Text", "conditions", "[LHighSpots$Condition;", true)
  | _ => ("HighSpots$Text", "many", "I", false)
def tyX4 : Nat → FieldType := fun k => match k with
  | 0 => .array .int
  | 1 => .array (.object "HighSpots$Sum")
  | 2 => .array (.object "HighSpots$Condition")
  | _ => .int
abbrev wsX40 : List Cond := u_ws RX4 TX4 4
theorem nmX4 : ∀ a, a < 4 → ∀ b, b < 4 → a ≠ b → (TX4 a).2.1 ≠ (TX4 b).2.1 := by decide +kernel
theorem tyX4_ok : ∀ k, k < 4 → parseFieldDescriptor (TX4 k).2.2.1 = some (tyX4 k) := by decide +kernel
abbrev cX4_init : ByteArray := prog_17_method_1_code
def yX4_init : MethodName := ⟨RX4, "<init>", "()V"⟩
def dkwX4_init_1 : List UInt8 := [189, 0, 21, 181, 0, 23, 177]
abbrev dktX4_init_1 : List UInt8 := dkwX4_init_1 ++ []
def dkwX4_init_0 : List UInt8 := [42, 183, 0, 3, 42, 16, 16, 188, 10, 181, 0, 9, 42, 16, 16, 189, 0, 15, 181, 0, 17, 42, 16, 16]
abbrev dktX4_init_0 : List UInt8 := dkwX4_init_0 ++ dktX4_init_1
theorem dksX4_init_0 : cX4_init.data.toList.drop 0 = dktX4_init_0 := by decide +kernel
theorem dksX4_init_1 : cX4_init.data.toList.drop 24 = dktX4_init_1 := dk_seg dksX4_init_0 24 rfl rfl
theorem dX4_init_0 : decode cX4_init 0 = .ok (.aload_n 0, 1) := dk_42 (dk_at dksX4_init_0 0 rfl rfl)
theorem dX4_init_1 : decode cX4_init 1 = .ok (.invokespecial 3, 3) := dk_183 0 3 (dk_at dksX4_init_0 1 rfl rfl)
theorem dX4_init_4 : decode cX4_init 4 = .ok (.aload_n 0, 1) := dk_42 (dk_at dksX4_init_0 4 rfl rfl)
theorem dX4_init_5 : decode cX4_init 5 = .ok (.bipush 16, 2) := dk_16 16 (dk_at dksX4_init_0 5 rfl rfl)
theorem dX4_init_7 : decode cX4_init 7 = .ok (.newarray .int, 2) := dk_188_10 (dk_at dksX4_init_0 7 rfl rfl)
theorem dX4_init_9 : decode cX4_init 9 = .ok (.putfield 9, 3) := dk_181 0 9 (dk_at dksX4_init_0 9 rfl rfl)
theorem dX4_init_12 : decode cX4_init 12 = .ok (.aload_n 0, 1) := dk_42 (dk_at dksX4_init_0 12 rfl rfl)
theorem dX4_init_13 : decode cX4_init 13 = .ok (.bipush 16, 2) := dk_16 16 (dk_at dksX4_init_0 13 rfl rfl)
theorem dX4_init_15 : decode cX4_init 15 = .ok (.anewarray 15, 3) := dk_189 0 15 (dk_at dksX4_init_0 15 rfl rfl)
theorem dX4_init_18 : decode cX4_init 18 = .ok (.putfield 17, 3) := dk_181 0 17 (dk_at dksX4_init_0 18 rfl rfl)
theorem dX4_init_21 : decode cX4_init 21 = .ok (.aload_n 0, 1) := dk_42 (dk_at dksX4_init_0 21 rfl rfl)
theorem dX4_init_22 : decode cX4_init 22 = .ok (.bipush 16, 2) := dk_16 16 (dk_at dksX4_init_0 22 rfl rfl)
theorem dX4_init_24 : decode cX4_init 24 = .ok (.anewarray 21, 3) := dk_189 0 21 (dk_at dksX4_init_1 0 rfl rfl)
theorem dX4_init_27 : decode cX4_init 27 = .ok (.putfield 23, 3) := dk_181 0 23 (dk_at dksX4_init_1 3 rfl rfl)
theorem dX4_init_30 : decode cX4_init 30 = .ok (.return_, 1) := dk_177 (dk_at dksX4_init_1 6 rfl rfl)
abbrev cX4_says : ByteArray := prog_17_method_3_code
def yX4_says : MethodName := ⟨RX4, "says", "(ILHighSpots$Asked;)Z"⟩
def dkwX4_says_1 : List UInt8 := [29, 50, 44, 182, 0, 31, 4, 160, 0, 5, 4, 172, 132, 3, 1, 167, 255, 219, 3, 172]
abbrev dktX4_says_1 : List UInt8 := dkwX4_says_1 ++ []
def dkwX4_says_0 : List UInt8 := [3, 62, 29, 42, 180, 0, 27, 162, 0, 35, 42, 180, 0, 9, 29, 46, 27, 160, 0, 19, 42, 180, 0, 23]
abbrev dktX4_says_0 : List UInt8 := dkwX4_says_0 ++ dktX4_says_1
theorem dksX4_says_0 : cX4_says.data.toList.drop 0 = dktX4_says_0 := by decide +kernel
theorem dksX4_says_1 : cX4_says.data.toList.drop 24 = dktX4_says_1 := dk_seg dksX4_says_0 24 rfl rfl
theorem dX4_says_0 : decode cX4_says 0 = .ok (.iconst 0, 1) := dk_3 (dk_at dksX4_says_0 0 rfl rfl)
theorem dX4_says_1 : decode cX4_says 1 = .ok (.istore_n 3, 1) := dk_62 (dk_at dksX4_says_0 1 rfl rfl)
theorem dX4_says_2 : decode cX4_says 2 = .ok (.iload_n 3, 1) := dk_29 (dk_at dksX4_says_0 2 rfl rfl)
theorem dX4_says_3 : decode cX4_says 3 = .ok (.aload_n 0, 1) := dk_42 (dk_at dksX4_says_0 3 rfl rfl)
theorem dX4_says_4 : decode cX4_says 4 = .ok (.getfield 27, 3) := dk_180 0 27 (dk_at dksX4_says_0 4 rfl rfl)
theorem dX4_says_7 : decode cX4_says 7 = .ok (.if_icmp .ge 35, 3) := dk_162 0 35 (dk_at dksX4_says_0 7 rfl rfl)
theorem dX4_says_10 : decode cX4_says 10 = .ok (.aload_n 0, 1) := dk_42 (dk_at dksX4_says_0 10 rfl rfl)
theorem dX4_says_11 : decode cX4_says 11 = .ok (.getfield 9, 3) := dk_180 0 9 (dk_at dksX4_says_0 11 rfl rfl)
theorem dX4_says_14 : decode cX4_says 14 = .ok (.iload_n 3, 1) := dk_29 (dk_at dksX4_says_0 14 rfl rfl)
theorem dX4_says_15 : decode cX4_says 15 = .ok (.iaload, 1) := dk_46 (dk_at dksX4_says_0 15 rfl rfl)
theorem dX4_says_16 : decode cX4_says 16 = .ok (.iload_n 1, 1) := dk_27 (dk_at dksX4_says_0 16 rfl rfl)
theorem dX4_says_17 : decode cX4_says 17 = .ok (.if_icmp .ne 19, 3) := dk_160 0 19 (dk_at dksX4_says_0 17 rfl rfl)
theorem dX4_says_20 : decode cX4_says 20 = .ok (.aload_n 0, 1) := dk_42 (dk_at dksX4_says_0 20 rfl rfl)
theorem dX4_says_21 : decode cX4_says 21 = .ok (.getfield 23, 3) := dk_180 0 23 (dk_at dksX4_says_0 21 rfl rfl)
theorem dX4_says_24 : decode cX4_says 24 = .ok (.iload_n 3, 1) := dk_29 (dk_at dksX4_says_1 0 rfl rfl)
theorem dX4_says_25 : decode cX4_says 25 = .ok (.aaload, 1) := dk_50 (dk_at dksX4_says_1 1 rfl rfl)
theorem dX4_says_26 : decode cX4_says 26 = .ok (.aload_n 2, 1) := dk_44 (dk_at dksX4_says_1 2 rfl rfl)
theorem dX4_says_27 : decode cX4_says 27 = .ok (.invokevirtual 31, 3) := dk_182 0 31 (dk_at dksX4_says_1 3 rfl rfl)
theorem dX4_says_30 : decode cX4_says 30 = .ok (.iconst 1, 1) := dk_4 (dk_at dksX4_says_1 6 rfl rfl)
theorem dX4_says_31 : decode cX4_says 31 = .ok (.if_icmp .ne 5, 3) := dk_160 0 5 (dk_at dksX4_says_1 7 rfl rfl)
theorem dX4_says_34 : decode cX4_says 34 = .ok (.iconst 1, 1) := dk_4 (dk_at dksX4_says_1 10 rfl rfl)
theorem dX4_says_35 : decode cX4_says 35 = .ok (.ireturn, 1) := dk_172 (dk_at dksX4_says_1 11 rfl rfl)
theorem dX4_says_36 : decode cX4_says 36 = .ok (.iinc 3 1, 3) := dk_132 3 1 (dk_at dksX4_says_1 12 rfl rfl)
theorem dX4_says_39 : decode cX4_says 39 = .ok (.goto (-37), 3) := dk_167 255 219 (dk_at dksX4_says_1 15 rfl rfl)
theorem dX4_says_42 : decode cX4_says 42 = .ok (.iconst 0, 1) := dk_3 (dk_at dksX4_says_1 18 rfl rfl)
theorem dX4_says_43 : decode cX4_says 43 = .ok (.ireturn, 1) := dk_172 (dk_at dksX4_says_1 19 rfl rfl)
abbrev cX4_tells : ByteArray := prog_17_method_2_code
def yX4_tells : MethodName := ⟨RX4, "tells", "(IILHighSpots$Asked;)I"⟩
def dkwX4_tells_2 : List UInt8 := [182, 0, 35, 172, 132, 4, 1, 167, 255, 206, 28, 172]
abbrev dktX4_tells_2 : List UInt8 := dkwX4_tells_2 ++ []
def dkwX4_tells_1 : List UInt8 := [180, 0, 23, 21, 4, 50, 45, 182, 0, 31, 4, 160, 0, 15, 42, 180, 0, 17, 21, 4, 50, 45]
abbrev dktX4_tells_1 : List UInt8 := dkwX4_tells_1 ++ dktX4_tells_2
def dkwX4_tells_0 : List UInt8 := [3, 54, 4, 21, 4, 42, 180, 0, 27, 162, 0, 47, 42, 180, 0, 9, 21, 4, 46, 27, 160, 0, 30, 42]
abbrev dktX4_tells_0 : List UInt8 := dkwX4_tells_0 ++ dktX4_tells_1
theorem dksX4_tells_0 : cX4_tells.data.toList.drop 0 = dktX4_tells_0 := by decide +kernel
theorem dksX4_tells_1 : cX4_tells.data.toList.drop 24 = dktX4_tells_1 := dk_seg dksX4_tells_0 24 rfl rfl
theorem dksX4_tells_2 : cX4_tells.data.toList.drop 46 = dktX4_tells_2 := dk_seg dksX4_tells_1 22 rfl rfl
theorem dX4_tells_0 : decode cX4_tells 0 = .ok (.iconst 0, 1) := dk_3 (dk_at dksX4_tells_0 0 rfl rfl)
theorem dX4_tells_1 : decode cX4_tells 1 = .ok (.istore 4, 2) := dk_54 4 (dk_at dksX4_tells_0 1 rfl rfl)
theorem dX4_tells_3 : decode cX4_tells 3 = .ok (.iload 4, 2) := dk_21 4 (dk_at dksX4_tells_0 3 rfl rfl)
theorem dX4_tells_5 : decode cX4_tells 5 = .ok (.aload_n 0, 1) := dk_42 (dk_at dksX4_tells_0 5 rfl rfl)
theorem dX4_tells_6 : decode cX4_tells 6 = .ok (.getfield 27, 3) := dk_180 0 27 (dk_at dksX4_tells_0 6 rfl rfl)
theorem dX4_tells_9 : decode cX4_tells 9 = .ok (.if_icmp .ge 47, 3) := dk_162 0 47 (dk_at dksX4_tells_0 9 rfl rfl)
theorem dX4_tells_12 : decode cX4_tells 12 = .ok (.aload_n 0, 1) := dk_42 (dk_at dksX4_tells_0 12 rfl rfl)
theorem dX4_tells_13 : decode cX4_tells 13 = .ok (.getfield 9, 3) := dk_180 0 9 (dk_at dksX4_tells_0 13 rfl rfl)
theorem dX4_tells_16 : decode cX4_tells 16 = .ok (.iload 4, 2) := dk_21 4 (dk_at dksX4_tells_0 16 rfl rfl)
theorem dX4_tells_18 : decode cX4_tells 18 = .ok (.iaload, 1) := dk_46 (dk_at dksX4_tells_0 18 rfl rfl)
theorem dX4_tells_19 : decode cX4_tells 19 = .ok (.iload_n 1, 1) := dk_27 (dk_at dksX4_tells_0 19 rfl rfl)
theorem dX4_tells_20 : decode cX4_tells 20 = .ok (.if_icmp .ne 30, 3) := dk_160 0 30 (dk_at dksX4_tells_0 20 rfl rfl)
theorem dX4_tells_23 : decode cX4_tells 23 = .ok (.aload_n 0, 1) := dk_42 (dk_at dksX4_tells_0 23 rfl rfl)
theorem dX4_tells_24 : decode cX4_tells 24 = .ok (.getfield 23, 3) := dk_180 0 23 (dk_at dksX4_tells_1 0 rfl rfl)
theorem dX4_tells_27 : decode cX4_tells 27 = .ok (.iload 4, 2) := dk_21 4 (dk_at dksX4_tells_1 3 rfl rfl)
theorem dX4_tells_29 : decode cX4_tells 29 = .ok (.aaload, 1) := dk_50 (dk_at dksX4_tells_1 5 rfl rfl)
theorem dX4_tells_30 : decode cX4_tells 30 = .ok (.aload_n 3, 1) := dk_45 (dk_at dksX4_tells_1 6 rfl rfl)
theorem dX4_tells_31 : decode cX4_tells 31 = .ok (.invokevirtual 31, 3) := dk_182 0 31 (dk_at dksX4_tells_1 7 rfl rfl)
theorem dX4_tells_34 : decode cX4_tells 34 = .ok (.iconst 1, 1) := dk_4 (dk_at dksX4_tells_1 10 rfl rfl)
theorem dX4_tells_35 : decode cX4_tells 35 = .ok (.if_icmp .ne 15, 3) := dk_160 0 15 (dk_at dksX4_tells_1 11 rfl rfl)
theorem dX4_tells_38 : decode cX4_tells 38 = .ok (.aload_n 0, 1) := dk_42 (dk_at dksX4_tells_1 14 rfl rfl)
theorem dX4_tells_39 : decode cX4_tells 39 = .ok (.getfield 17, 3) := dk_180 0 17 (dk_at dksX4_tells_1 15 rfl rfl)
theorem dX4_tells_42 : decode cX4_tells 42 = .ok (.iload 4, 2) := dk_21 4 (dk_at dksX4_tells_1 18 rfl rfl)
theorem dX4_tells_44 : decode cX4_tells 44 = .ok (.aaload, 1) := dk_50 (dk_at dksX4_tells_1 20 rfl rfl)
theorem dX4_tells_45 : decode cX4_tells 45 = .ok (.aload_n 3, 1) := dk_45 (dk_at dksX4_tells_1 21 rfl rfl)
theorem dX4_tells_46 : decode cX4_tells 46 = .ok (.invokevirtual 35, 3) := dk_182 0 35 (dk_at dksX4_tells_2 0 rfl rfl)
theorem dX4_tells_49 : decode cX4_tells 49 = .ok (.ireturn, 1) := dk_172 (dk_at dksX4_tells_2 3 rfl rfl)
theorem dX4_tells_50 : decode cX4_tells 50 = .ok (.iinc 4 1, 3) := dk_132 4 1 (dk_at dksX4_tells_2 4 rfl rfl)
theorem dX4_tells_53 : decode cX4_tells 53 = .ok (.goto (-50), 3) := dk_167 255 206 (dk_at dksX4_tells_2 7 rfl rfl)
theorem dX4_tells_56 : decode cX4_tells 56 = .ok (.iload_n 2, 1) := dk_28 (dk_at dksX4_tells_2 10 rfl rfl)
theorem dX4_tells_57 : decode cX4_tells 57 = .ok (.ireturn, 1) := dk_172 (dk_at dksX4_tells_2 11 rfl rfl)
theorem q121 : (Jvm.Cond.initialized "HighSpots$Text") ∈ lw_all := lw_g (lw_at lw_m1 5 rfl) rfl
theorem q204 : (Jvm.Cond.instantiable "HighSpots$Text" (4 : Nat)) ∈ lw_all := lw_g (lw_at lw_m1 88 rfl) rfl
theorem q206 : (Jvm.Cond.instanceMethod ({ cls := "HighSpots$Text", name := "<init>", desc := "()V" } : Jvm.MethodName)) ∈ lw_all := lw_g (lw_at lw_m1 90 rfl) rfl
theorem q207 : (Jvm.Cond.code ({ cls := "HighSpots$Text", name := "<init>", desc := "()V" } : Jvm.MethodName) prog_17_method_1_code (1 : Nat) (Option.none : Option Jvm.ClassFile.FieldType)) ∈ lw_all := lw_g (lw_at lw_m1 91 rfl) rfl
theorem q208 : (Jvm.Cond.methodLink "HighSpots$Text" (3 : Nat) ({ cls := "java/lang/Object", name := "<init>", desc := "()V" } : Jvm.MethodName)) ∈ lw_all := lw_g (lw_at lw_m1 92 rfl) rfl
theorem q209 : (Jvm.Cond.classLink "HighSpots$Text" (15 : Nat) "HighSpots$Sum") ∈ lw_all := lw_g (lw_at lw_m1 93 rfl) rfl
theorem q211 : (Jvm.Cond.classLink "HighSpots$Text" (21 : Nat) "HighSpots$Condition") ∈ lw_all := lw_g (lw_at lw_m1 95 rfl) rfl
theorem q213 : (Jvm.Cond.fieldLink "HighSpots$Text" (9 : Nat) "HighSpots$Text" "letters" "[I") ∈ lw_all := lw_g (lw_at lw_m1 97 rfl) rfl
theorem q215 : (Jvm.Cond.fieldLink "HighSpots$Text" (17 : Nat) "HighSpots$Text" "sums" "[LHighSpots$Sum;") ∈ lw_all := lw_g (lw_at lw_m1 99 rfl) rfl
theorem q217 : (Jvm.Cond.fieldLink "HighSpots$Text" (23 : Nat) "HighSpots$Text" "conditions" "[LHighSpots$Condition;") ∈ lw_all := lw_g (lw_at lw_m1 101 rfl) rfl
theorem q219 : (Jvm.Cond.fieldLink "HighSpots$Text" (27 : Nat) "HighSpots$Text" "many" "I") ∈ lw_all := lw_g (lw_at lw_m1 103 rfl) rfl
theorem q222 : (Jvm.Cond.laysFinal "HighSpots$Text" "HighSpots$Text" "letters" "[I") ∈ lw_all := lw_g (lw_at lw_m1 106 rfl) rfl
theorem q223 : (Jvm.Cond.soleField "HighSpots$Text" "letters") ∈ lw_all := lw_g (lw_at lw_m1 107 rfl) rfl
theorem q224 : (Jvm.Cond.laysFinal "HighSpots$Text" "HighSpots$Text" "sums" "[LHighSpots$Sum;") ∈ lw_all := lw_g (lw_at lw_m1 108 rfl) rfl
theorem q225 : (Jvm.Cond.soleField "HighSpots$Text" "sums") ∈ lw_all := lw_g (lw_at lw_m1 109 rfl) rfl
theorem q226 : (Jvm.Cond.laysFinal "HighSpots$Text" "HighSpots$Text" "conditions" "[LHighSpots$Condition;") ∈ lw_all := lw_g (lw_at lw_m1 110 rfl) rfl
theorem q227 : (Jvm.Cond.soleField "HighSpots$Text" "conditions") ∈ lw_all := lw_g (lw_at lw_m1 111 rfl) rfl
theorem q228 : (Jvm.Cond.lays "HighSpots$Text" "HighSpots$Text" "many" "I") ∈ lw_all := lw_g (lw_at lw_m1 112 rfl) rfl
theorem q229 : (Jvm.Cond.soleField "HighSpots$Text" "many") ∈ lw_all := lw_g (lw_at lw_m1 113 rfl) rfl
theorem q230 : (Jvm.Cond.superclass "HighSpots$Text" "java/lang/Object") ∈ lw_all := lw_g (lw_at lw_m1 114 rfl) rfl
theorem q1094 : (Jvm.Cond.instanceMethod ({ cls := "HighSpots$Text", name := "says", desc := "(ILHighSpots$Asked;)Z" } : Jvm.MethodName)) ∈ lw_all := lw_g (lw_at lw_m5 18 rfl) rfl
theorem q1095 : (Jvm.Cond.selects "HighSpots$Text" ({ cls := "HighSpots$Text", name := "says", desc := "(ILHighSpots$Asked;)Z" } : Jvm.MethodName) ({ cls := "HighSpots$Text", name := "says", desc := "(ILHighSpots$Asked;)Z" } : Jvm.MethodName)) ∈ lw_all := lw_g (lw_at lw_m5 19 rfl) rfl
theorem q1096 : (Jvm.Cond.code ({ cls := "HighSpots$Text", name := "says", desc := "(ILHighSpots$Asked;)Z" } : Jvm.MethodName) prog_17_method_3_code (4 : Nat) (Option.some Jvm.ClassFile.FieldType.boolean)) ∈ lw_all := lw_g (lw_at lw_m5 20 rfl) rfl
theorem q1097 : (Jvm.Cond.methodLink "HighSpots$Text" (31 : Nat) ({ cls := "HighSpots$Condition", name := "holds", desc := "(LHighSpots$Asked;)I" } : Jvm.MethodName)) ∈ lw_all := lw_g (lw_at lw_m5 21 rfl) rfl
theorem q1128 : (Jvm.Cond.instanceMethod ({ cls := "HighSpots$Text", name := "tells", desc := "(IILHighSpots$Asked;)I" } : Jvm.MethodName)) ∈ lw_all := lw_g (lw_at lw_m5 52 rfl) rfl
theorem q1129 : (Jvm.Cond.selects "HighSpots$Text" ({ cls := "HighSpots$Text", name := "tells", desc := "(IILHighSpots$Asked;)I" } : Jvm.MethodName) ({ cls := "HighSpots$Text", name := "tells", desc := "(IILHighSpots$Asked;)I" } : Jvm.MethodName)) ∈ lw_all := lw_g (lw_at lw_m5 53 rfl) rfl
theorem q1130 : (Jvm.Cond.code ({ cls := "HighSpots$Text", name := "tells", desc := "(IILHighSpots$Asked;)I" } : Jvm.MethodName) prog_17_method_2_code (5 : Nat) (Option.some Jvm.ClassFile.FieldType.int)) ∈ lw_all := lw_g (lw_at lw_m5 54 rfl) rfl
theorem q1131 : (Jvm.Cond.methodLink "HighSpots$Text" (35 : Nat) ({ cls := "HighSpots$Sum", name := "told", desc := "(LHighSpots$Asked;)I" } : Jvm.MethodName)) ∈ lw_all := lw_g (lw_at lw_m5 55 rfl) rfl
theorem in_X4 : ∀ w ∈ wsX40, w ∈ lw_all := lw_in wsX40 [222, 224, 226, 228] (by decide +kernel) (by decide +kernel)

end
section
/-! HighSpots$Sum -/
set_option maxRecDepth 100000
def RX7 : String := "HighSpots$Sum"
abbrev cX7_init : ByteArray := prog_16_method_1_code
def yX7_init : MethodName := ⟨RX7, "<init>", "()V"⟩
theorem dX7_init_0 : decode cX7_init 0 = .ok (.aload_n 0, 1) := by decide +kernel
theorem dX7_init_1 : decode cX7_init 1 = .ok (.invokespecial 1, 3) := by decide +kernel
theorem dX7_init_4 : decode cX7_init 4 = .ok (.return_, 1) := by decide +kernel
abbrev cX7_told : ByteArray := prog_16_method_3_code
def yX7_told : MethodName := ⟨RX7, "told", "(LHighSpots$Asked;)I"⟩
def dkwX7_told_0 : List UInt8 := [43, 3, 181, 0, 7, 42, 43, 182, 0, 13, 61, 43, 180, 0, 7, 153, 0, 7, 3, 167, 0, 4, 28, 172]
abbrev dktX7_told_0 : List UInt8 := dkwX7_told_0 ++ []
theorem dksX7_told_0 : cX7_told.data.toList.drop 0 = dktX7_told_0 := by decide +kernel
theorem dX7_told_0 : decode cX7_told 0 = .ok (.aload_n 1, 1) := dk_43 (dk_at dksX7_told_0 0 rfl rfl)
theorem dX7_told_1 : decode cX7_told 1 = .ok (.iconst 0, 1) := dk_3 (dk_at dksX7_told_0 1 rfl rfl)
theorem dX7_told_2 : decode cX7_told 2 = .ok (.putfield 7, 3) := dk_181 0 7 (dk_at dksX7_told_0 2 rfl rfl)
theorem dX7_told_5 : decode cX7_told 5 = .ok (.aload_n 0, 1) := dk_42 (dk_at dksX7_told_0 5 rfl rfl)
theorem dX7_told_6 : decode cX7_told 6 = .ok (.aload_n 1, 1) := dk_43 (dk_at dksX7_told_0 6 rfl rfl)
theorem dX7_told_7 : decode cX7_told 7 = .ok (.invokevirtual 13, 3) := dk_182 0 13 (dk_at dksX7_told_0 7 rfl rfl)
theorem dX7_told_10 : decode cX7_told 10 = .ok (.istore_n 2, 1) := dk_61 (dk_at dksX7_told_0 10 rfl rfl)
theorem dX7_told_11 : decode cX7_told 11 = .ok (.aload_n 1, 1) := dk_43 (dk_at dksX7_told_0 11 rfl rfl)
theorem dX7_told_12 : decode cX7_told 12 = .ok (.getfield 7, 3) := dk_180 0 7 (dk_at dksX7_told_0 12 rfl rfl)
theorem dX7_told_15 : decode cX7_told 15 = .ok (.ifCond .eq 7, 3) := dk_153 0 7 (dk_at dksX7_told_0 15 rfl rfl)
theorem dX7_told_18 : decode cX7_told 18 = .ok (.iconst 0, 1) := dk_3 (dk_at dksX7_told_0 18 rfl rfl)
theorem dX7_told_19 : decode cX7_told 19 = .ok (.goto 4, 3) := dk_167 0 4 (dk_at dksX7_told_0 19 rfl rfl)
theorem dX7_told_22 : decode cX7_told 22 = .ok (.iload_n 2, 1) := dk_28 (dk_at dksX7_told_0 22 rfl rfl)
theorem dX7_told_23 : decode cX7_told 23 = .ok (.ireturn, 1) := dk_172 (dk_at dksX7_told_0 23 rfl rfl)
theorem q130 : (Jvm.Cond.initialized "HighSpots$Sum") ∈ lw_all := lw_g (lw_at lw_m1 14 rfl) rfl
theorem q163 : (Jvm.Cond.fieldLinkNest "HighSpots$Sum" (7 : Nat) "HighSpots$Asked" "isRefused" "Z" "HighSpots") ∈ lw_tbl := lw_at lw_m1 47 rfl
theorem q510 : (Jvm.Cond.instanceMethod ({ cls := "HighSpots$Sum", name := "<init>", desc := "()V" } : Jvm.MethodName)) ∈ lw_all := lw_g (lw_at lw_m2 154 rfl) rfl
theorem q511 : (Jvm.Cond.code ({ cls := "HighSpots$Sum", name := "<init>", desc := "()V" } : Jvm.MethodName) prog_16_method_1_code (1 : Nat) (Option.none : Option Jvm.ClassFile.FieldType)) ∈ lw_all := lw_g (lw_at lw_m2 155 rfl) rfl
theorem q512 : (Jvm.Cond.methodLink "HighSpots$Sum" (1 : Nat) ({ cls := "java/lang/Object", name := "<init>", desc := "()V" } : Jvm.MethodName)) ∈ lw_all := lw_g (lw_at lw_m2 156 rfl) rfl
theorem q1104 : (Jvm.Cond.declares ({ cls := "HighSpots$Sum", name := "worth", desc := "(LHighSpots$Asked;)I" } : Jvm.MethodName)) ∈ lw_tbl := lw_at lw_m5 28 rfl
theorem q1105 : (Jvm.Cond.sameMethod "HighSpots$Sum" "HighSpots$Sum" "worth" "(LHighSpots$Asked;)I") ∈ lw_all := lw_g (lw_at lw_m5 29 rfl) rfl
theorem q1132 : (Jvm.Cond.instanceMethod ({ cls := "HighSpots$Sum", name := "told", desc := "(LHighSpots$Asked;)I" } : Jvm.MethodName)) ∈ lw_all := lw_g (lw_at lw_m5 56 rfl) rfl
theorem q1133 : (Jvm.Cond.sameMethod "HighSpots$Sum" "HighSpots$Sum" "told" "(LHighSpots$Asked;)I") ∈ lw_all := lw_g (lw_at lw_m5 57 rfl) rfl
theorem q1137 : (Jvm.Cond.code ({ cls := "HighSpots$Sum", name := "told", desc := "(LHighSpots$Asked;)I" } : Jvm.MethodName) prog_16_method_3_code (3 : Nat) (Option.some Jvm.ClassFile.FieldType.int)) ∈ lw_all := lw_g (lw_at lw_m5 61 rfl) rfl
theorem q1138 : (Jvm.Cond.methodLink "HighSpots$Sum" (13 : Nat) ({ cls := "HighSpots$Sum", name := "worth", desc := "(LHighSpots$Asked;)I" } : Jvm.MethodName)) ∈ lw_all := lw_g (lw_at lw_m5 62 rfl) rfl

end
section
/-! HighSpots$Row -/
set_option maxRecDepth 100000
def RX8 : String := "HighSpots$Row"
def TX8 : u_T := fun k => match k with
  | 0 => ("HighSpots$Row", "sign", "I", true)
  | 1 => ("HighSpots$Row", "part", "LHighSpots$Sum;", true)
  | _ => ("HighSpots$Row", "next", "LHighSpots$Row;", false)
def tyX8 : Nat → FieldType := fun k => match k with
  | 0 => .int
  | 1 => .object "HighSpots$Sum"
  | _ => .object "HighSpots$Row"
abbrev wsX80 : List Cond := u_ws RX8 TX8 3
theorem nmX8 : ∀ a, a < 3 → ∀ b, b < 3 → a ≠ b → (TX8 a).2.1 ≠ (TX8 b).2.1 := by decide +kernel
theorem tyX8_ok : ∀ k, k < 3 → parseFieldDescriptor (TX8 k).2.2.1 = some (tyX8 k) := by decide +kernel
abbrev cX8_init : ByteArray := prog_13_method_1_code
def yX8_init : MethodName := ⟨RX8, "<init>", "(ILHighSpots$Sum;)V"⟩
def dkwX8_init_0 : List UInt8 := [42, 183, 0, 1, 42, 27, 181, 0, 7, 42, 44, 181, 0, 13, 177]
abbrev dktX8_init_0 : List UInt8 := dkwX8_init_0 ++ []
theorem dksX8_init_0 : cX8_init.data.toList.drop 0 = dktX8_init_0 := by decide +kernel
theorem dX8_init_0 : decode cX8_init 0 = .ok (.aload_n 0, 1) := dk_42 (dk_at dksX8_init_0 0 rfl rfl)
theorem dX8_init_1 : decode cX8_init 1 = .ok (.invokespecial 1, 3) := dk_183 0 1 (dk_at dksX8_init_0 1 rfl rfl)
theorem dX8_init_4 : decode cX8_init 4 = .ok (.aload_n 0, 1) := dk_42 (dk_at dksX8_init_0 4 rfl rfl)
theorem dX8_init_5 : decode cX8_init 5 = .ok (.iload_n 1, 1) := dk_27 (dk_at dksX8_init_0 5 rfl rfl)
theorem dX8_init_6 : decode cX8_init 6 = .ok (.putfield 7, 3) := dk_181 0 7 (dk_at dksX8_init_0 6 rfl rfl)
theorem dX8_init_9 : decode cX8_init 9 = .ok (.aload_n 0, 1) := dk_42 (dk_at dksX8_init_0 9 rfl rfl)
theorem dX8_init_10 : decode cX8_init 10 = .ok (.aload_n 2, 1) := dk_44 (dk_at dksX8_init_0 10 rfl rfl)
theorem dX8_init_11 : decode cX8_init 11 = .ok (.putfield 13, 3) := dk_181 0 13 (dk_at dksX8_init_0 11 rfl rfl)
theorem dX8_init_14 : decode cX8_init 14 = .ok (.return_, 1) := dk_177 (dk_at dksX8_init_0 14 rfl rfl)
abbrev cX8_worth : ByteArray := prog_13_method_3_code
def yX8_worth : MethodName := ⟨RX8, "worth", "(LHighSpots$Asked;)I"⟩
def dkwX8_worth_1 : List UInt8 := [180, 0, 13, 43, 182, 0, 23, 43, 184, 0, 31, 61, 45, 180, 0, 27, 78, 167, 255, 229, 28, 172]
abbrev dktX8_worth_1 : List UInt8 := dkwX8_worth_1 ++ []
def dkwX8_worth_0 : List UInt8 := [42, 180, 0, 13, 43, 182, 0, 23, 61, 42, 180, 0, 27, 78, 45, 198, 0, 29, 45, 180, 0, 7, 28, 45]
abbrev dktX8_worth_0 : List UInt8 := dkwX8_worth_0 ++ dktX8_worth_1
theorem dksX8_worth_0 : cX8_worth.data.toList.drop 0 = dktX8_worth_0 := by decide +kernel
theorem dksX8_worth_1 : cX8_worth.data.toList.drop 24 = dktX8_worth_1 := dk_seg dksX8_worth_0 24 rfl rfl
theorem dX8_worth_0 : decode cX8_worth 0 = .ok (.aload_n 0, 1) := dk_42 (dk_at dksX8_worth_0 0 rfl rfl)
theorem dX8_worth_1 : decode cX8_worth 1 = .ok (.getfield 13, 3) := dk_180 0 13 (dk_at dksX8_worth_0 1 rfl rfl)
theorem dX8_worth_4 : decode cX8_worth 4 = .ok (.aload_n 1, 1) := dk_43 (dk_at dksX8_worth_0 4 rfl rfl)
theorem dX8_worth_5 : decode cX8_worth 5 = .ok (.invokevirtual 23, 3) := dk_182 0 23 (dk_at dksX8_worth_0 5 rfl rfl)
theorem dX8_worth_8 : decode cX8_worth 8 = .ok (.istore_n 2, 1) := dk_61 (dk_at dksX8_worth_0 8 rfl rfl)
theorem dX8_worth_9 : decode cX8_worth 9 = .ok (.aload_n 0, 1) := dk_42 (dk_at dksX8_worth_0 9 rfl rfl)
theorem dX8_worth_10 : decode cX8_worth 10 = .ok (.getfield 27, 3) := dk_180 0 27 (dk_at dksX8_worth_0 10 rfl rfl)
theorem dX8_worth_13 : decode cX8_worth 13 = .ok (.astore_n 3, 1) := dk_78 (dk_at dksX8_worth_0 13 rfl rfl)
theorem dX8_worth_14 : decode cX8_worth 14 = .ok (.aload_n 3, 1) := dk_45 (dk_at dksX8_worth_0 14 rfl rfl)
theorem dX8_worth_15 : decode cX8_worth 15 = .ok (.ifnull 29, 3) := dk_198 0 29 (dk_at dksX8_worth_0 15 rfl rfl)
theorem dX8_worth_18 : decode cX8_worth 18 = .ok (.aload_n 3, 1) := dk_45 (dk_at dksX8_worth_0 18 rfl rfl)
theorem dX8_worth_19 : decode cX8_worth 19 = .ok (.getfield 7, 3) := dk_180 0 7 (dk_at dksX8_worth_0 19 rfl rfl)
theorem dX8_worth_22 : decode cX8_worth 22 = .ok (.iload_n 2, 1) := dk_28 (dk_at dksX8_worth_0 22 rfl rfl)
theorem dX8_worth_23 : decode cX8_worth 23 = .ok (.aload_n 3, 1) := dk_45 (dk_at dksX8_worth_0 23 rfl rfl)
theorem dX8_worth_24 : decode cX8_worth 24 = .ok (.getfield 13, 3) := dk_180 0 13 (dk_at dksX8_worth_1 0 rfl rfl)
theorem dX8_worth_27 : decode cX8_worth 27 = .ok (.aload_n 1, 1) := dk_43 (dk_at dksX8_worth_1 3 rfl rfl)
theorem dX8_worth_28 : decode cX8_worth 28 = .ok (.invokevirtual 23, 3) := dk_182 0 23 (dk_at dksX8_worth_1 4 rfl rfl)
theorem dX8_worth_31 : decode cX8_worth 31 = .ok (.aload_n 1, 1) := dk_43 (dk_at dksX8_worth_1 7 rfl rfl)
theorem dX8_worth_32 : decode cX8_worth 32 = .ok (.invokestatic 31, 3) := dk_184 0 31 (dk_at dksX8_worth_1 8 rfl rfl)
theorem dX8_worth_35 : decode cX8_worth 35 = .ok (.istore_n 2, 1) := dk_61 (dk_at dksX8_worth_1 11 rfl rfl)
theorem dX8_worth_36 : decode cX8_worth 36 = .ok (.aload_n 3, 1) := dk_45 (dk_at dksX8_worth_1 12 rfl rfl)
theorem dX8_worth_37 : decode cX8_worth 37 = .ok (.getfield 27, 3) := dk_180 0 27 (dk_at dksX8_worth_1 13 rfl rfl)
theorem dX8_worth_40 : decode cX8_worth 40 = .ok (.astore_n 3, 1) := dk_78 (dk_at dksX8_worth_1 16 rfl rfl)
theorem dX8_worth_41 : decode cX8_worth 41 = .ok (.goto (-27), 3) := dk_167 255 229 (dk_at dksX8_worth_1 17 rfl rfl)
theorem dX8_worth_44 : decode cX8_worth 44 = .ok (.iload_n 2, 1) := dk_28 (dk_at dksX8_worth_1 20 rfl rfl)
theorem dX8_worth_45 : decode cX8_worth 45 = .ok (.ireturn, 1) := dk_172 (dk_at dksX8_worth_1 21 rfl rfl)
abbrev cX8_worked : ByteArray := prog_13_method_2_code
def yX8_worked : MethodName := ⟨RX8, "worked", "(IIILHighSpots$Asked;)I"⟩
def dkwX8_worked_3 : List UInt8 := [154, 0, 7, 3, 167, 0, 18, 26, 16, 47, 160, 0, 9, 27, 28, 108, 167, 0, 6, 27, 28, 112, 172]
abbrev dktX8_worked_3 : List UInt8 := dkwX8_worked_3 ++ []
def dkwX8_worked_2 : List UInt8 := [27, 28, 96, 172, 27, 28, 100, 172, 27, 28, 104, 172, 28, 154, 0, 8, 45, 4, 181, 0, 17, 28]
abbrev dktX8_worked_2 : List UInt8 := dkwX8_worked_2 ++ dktX8_worked_3
def dkwX8_worked_1 : List UInt8 := [170, 0, 0, 0, 0, 0, 43, 0, 0, 0, 42, 0, 0, 0, 45, 0, 0, 0, 39, 0, 0, 0, 31, 0, 0, 0, 43, 0, 0, 0, 35]
abbrev dktX8_worked_1 : List UInt8 := dkwX8_worked_1 ++ dktX8_worked_2
def dkwX8_worked_0 : List UInt8 := [26]
abbrev dktX8_worked_0 : List UInt8 := dkwX8_worked_0 ++ dktX8_worked_1
theorem dksX8_worked_0 : cX8_worked.data.toList.drop 0 = dktX8_worked_0 := by decide +kernel
theorem dksX8_worked_1 : cX8_worked.data.toList.drop 1 = dktX8_worked_1 := dk_seg dksX8_worked_0 1 rfl rfl
theorem dksX8_worked_2 : cX8_worked.data.toList.drop 32 = dktX8_worked_2 := dk_seg dksX8_worked_1 31 rfl rfl
theorem dksX8_worked_3 : cX8_worked.data.toList.drop 54 = dktX8_worked_3 := dk_seg dksX8_worked_2 22 rfl rfl
theorem dX8_worked_0 : decode cX8_worked 0 = .ok (.iload_n 0, 1) := dk_26 (dk_at dksX8_worked_0 0 rfl rfl)
theorem dX8_worked_1 : decode cX8_worked 1 = .ok (.tableswitch 43 42 45 #[39, 31, 43, 35], 31) := by decide +kernel
theorem dX8_worked_32 : decode cX8_worked 32 = .ok (.iload_n 1, 1) := dk_27 (dk_at dksX8_worked_2 0 rfl rfl)
theorem dX8_worked_33 : decode cX8_worked 33 = .ok (.iload_n 2, 1) := dk_28 (dk_at dksX8_worked_2 1 rfl rfl)
theorem dX8_worked_34 : decode cX8_worked 34 = .ok (.iadd, 1) := dk_96 (dk_at dksX8_worked_2 2 rfl rfl)
theorem dX8_worked_35 : decode cX8_worked 35 = .ok (.ireturn, 1) := dk_172 (dk_at dksX8_worked_2 3 rfl rfl)
theorem dX8_worked_36 : decode cX8_worked 36 = .ok (.iload_n 1, 1) := dk_27 (dk_at dksX8_worked_2 4 rfl rfl)
theorem dX8_worked_37 : decode cX8_worked 37 = .ok (.iload_n 2, 1) := dk_28 (dk_at dksX8_worked_2 5 rfl rfl)
theorem dX8_worked_38 : decode cX8_worked 38 = .ok (.isub, 1) := dk_100 (dk_at dksX8_worked_2 6 rfl rfl)
theorem dX8_worked_39 : decode cX8_worked 39 = .ok (.ireturn, 1) := dk_172 (dk_at dksX8_worked_2 7 rfl rfl)
theorem dX8_worked_40 : decode cX8_worked 40 = .ok (.iload_n 1, 1) := dk_27 (dk_at dksX8_worked_2 8 rfl rfl)
theorem dX8_worked_41 : decode cX8_worked 41 = .ok (.iload_n 2, 1) := dk_28 (dk_at dksX8_worked_2 9 rfl rfl)
theorem dX8_worked_42 : decode cX8_worked 42 = .ok (.imul, 1) := dk_104 (dk_at dksX8_worked_2 10 rfl rfl)
theorem dX8_worked_43 : decode cX8_worked 43 = .ok (.ireturn, 1) := dk_172 (dk_at dksX8_worked_2 11 rfl rfl)
theorem dX8_worked_44 : decode cX8_worked 44 = .ok (.iload_n 2, 1) := dk_28 (dk_at dksX8_worked_2 12 rfl rfl)
theorem dX8_worked_45 : decode cX8_worked 45 = .ok (.ifCond .ne 8, 3) := dk_154 0 8 (dk_at dksX8_worked_2 13 rfl rfl)
theorem dX8_worked_48 : decode cX8_worked 48 = .ok (.aload_n 3, 1) := dk_45 (dk_at dksX8_worked_2 16 rfl rfl)
theorem dX8_worked_49 : decode cX8_worked 49 = .ok (.iconst 1, 1) := dk_4 (dk_at dksX8_worked_2 17 rfl rfl)
theorem dX8_worked_50 : decode cX8_worked 50 = .ok (.putfield 17, 3) := dk_181 0 17 (dk_at dksX8_worked_2 18 rfl rfl)
theorem dX8_worked_53 : decode cX8_worked 53 = .ok (.iload_n 2, 1) := dk_28 (dk_at dksX8_worked_2 21 rfl rfl)
theorem dX8_worked_54 : decode cX8_worked 54 = .ok (.ifCond .ne 7, 3) := dk_154 0 7 (dk_at dksX8_worked_3 0 rfl rfl)
theorem dX8_worked_57 : decode cX8_worked 57 = .ok (.iconst 0, 1) := dk_3 (dk_at dksX8_worked_3 3 rfl rfl)
theorem dX8_worked_58 : decode cX8_worked 58 = .ok (.goto 18, 3) := dk_167 0 18 (dk_at dksX8_worked_3 4 rfl rfl)
theorem dX8_worked_61 : decode cX8_worked 61 = .ok (.iload_n 0, 1) := dk_26 (dk_at dksX8_worked_3 7 rfl rfl)
theorem dX8_worked_62 : decode cX8_worked 62 = .ok (.bipush 47, 2) := dk_16 47 (dk_at dksX8_worked_3 8 rfl rfl)
theorem dX8_worked_64 : decode cX8_worked 64 = .ok (.if_icmp .ne 9, 3) := dk_160 0 9 (dk_at dksX8_worked_3 10 rfl rfl)
theorem dX8_worked_67 : decode cX8_worked 67 = .ok (.iload_n 1, 1) := dk_27 (dk_at dksX8_worked_3 13 rfl rfl)
theorem dX8_worked_68 : decode cX8_worked 68 = .ok (.iload_n 2, 1) := dk_28 (dk_at dksX8_worked_3 14 rfl rfl)
theorem dX8_worked_69 : decode cX8_worked 69 = .ok (.idiv, 1) := dk_108 (dk_at dksX8_worked_3 15 rfl rfl)
theorem dX8_worked_70 : decode cX8_worked 70 = .ok (.goto 6, 3) := dk_167 0 6 (dk_at dksX8_worked_3 16 rfl rfl)
theorem dX8_worked_73 : decode cX8_worked 73 = .ok (.iload_n 1, 1) := dk_27 (dk_at dksX8_worked_3 19 rfl rfl)
theorem dX8_worked_74 : decode cX8_worked 74 = .ok (.iload_n 2, 1) := dk_28 (dk_at dksX8_worked_3 20 rfl rfl)
theorem dX8_worked_75 : decode cX8_worked 75 = .ok (.irem, 1) := dk_112 (dk_at dksX8_worked_3 21 rfl rfl)
theorem dX8_worked_76 : decode cX8_worked 76 = .ok (.ireturn, 1) := dk_172 (dk_at dksX8_worked_3 22 rfl rfl)
theorem q131 : (Jvm.Cond.initialized "HighSpots$Row") ∈ lw_all := lw_g (lw_at lw_m1 15 rfl) rfl
theorem q162 : (Jvm.Cond.fieldLinkNest "HighSpots$Row" (17 : Nat) "HighSpots$Asked" "isRefused" "Z" "HighSpots") ∈ lw_tbl := lw_at lw_m1 46 rfl
theorem q479 : (Jvm.Cond.instantiable "HighSpots$Row" (3 : Nat)) ∈ lw_all := lw_g (lw_at lw_m2 123 rfl) rfl
theorem q529 : (Jvm.Cond.instanceMethod ({ cls := "HighSpots$Row", name := "<init>", desc := "(ILHighSpots$Sum;)V" } : Jvm.MethodName)) ∈ lw_all := lw_g (lw_at lw_m2 173 rfl) rfl
theorem q530 : (Jvm.Cond.code ({ cls := "HighSpots$Row", name := "<init>", desc := "(ILHighSpots$Sum;)V" } : Jvm.MethodName) prog_13_method_1_code (3 : Nat) (Option.none : Option Jvm.ClassFile.FieldType)) ∈ lw_all := lw_g (lw_at lw_m2 174 rfl) rfl
theorem q531 : (Jvm.Cond.methodLinkNest "HighSpots$Row" (1 : Nat) ({ cls := "HighSpots$Sum", name := "<init>", desc := "()V" } : Jvm.MethodName) "HighSpots") ∈ lw_tbl := lw_at lw_m2 175 rfl
theorem q532 : (Jvm.Cond.fieldLink "HighSpots$Row" (7 : Nat) "HighSpots$Row" "sign" "I") ∈ lw_all := lw_g (lw_at lw_m2 176 rfl) rfl
theorem q533 : (Jvm.Cond.fieldLink "HighSpots$Row" (13 : Nat) "HighSpots$Row" "part" "LHighSpots$Sum;") ∈ lw_all := lw_g (lw_at lw_m2 177 rfl) rfl
theorem q534 : (Jvm.Cond.fieldLink "HighSpots$Row" (27 : Nat) "HighSpots$Row" "next" "LHighSpots$Row;") ∈ lw_all := lw_g (lw_at lw_m2 178 rfl) rfl
theorem q536 : (Jvm.Cond.laysFinal "HighSpots$Row" "HighSpots$Row" "sign" "I") ∈ lw_all := lw_g (lw_at lw_m2 180 rfl) rfl
theorem q537 : (Jvm.Cond.soleField "HighSpots$Row" "sign") ∈ lw_all := lw_g (lw_at lw_m2 181 rfl) rfl
theorem q538 : (Jvm.Cond.laysFinal "HighSpots$Row" "HighSpots$Row" "part" "LHighSpots$Sum;") ∈ lw_all := lw_g (lw_at lw_m2 182 rfl) rfl
theorem q539 : (Jvm.Cond.soleField "HighSpots$Row" "part") ∈ lw_all := lw_g (lw_at lw_m2 183 rfl) rfl
theorem q540 : (Jvm.Cond.lays "HighSpots$Row" "HighSpots$Row" "next" "LHighSpots$Row;") ∈ lw_all := lw_g (lw_at lw_m2 184 rfl) rfl
theorem q541 : (Jvm.Cond.soleField "HighSpots$Row" "next") ∈ lw_all := lw_g (lw_at lw_m2 185 rfl) rfl
theorem q542 : (Jvm.Cond.superclass "HighSpots$Row" "HighSpots$Sum") ∈ lw_all := lw_g (lw_at lw_m2 186 rfl) rfl
theorem q1112 : (Jvm.Cond.selects "HighSpots$Row" ({ cls := "HighSpots$Sum", name := "worth", desc := "(LHighSpots$Asked;)I" } : Jvm.MethodName) ({ cls := "HighSpots$Row", name := "worth", desc := "(LHighSpots$Asked;)I" } : Jvm.MethodName)) ∈ lw_all := lw_g (lw_at lw_m5 36 rfl) rfl
theorem q1113 : (Jvm.Cond.instanceMethod ({ cls := "HighSpots$Row", name := "worth", desc := "(LHighSpots$Asked;)I" } : Jvm.MethodName)) ∈ lw_all := lw_g (lw_at lw_m5 37 rfl) rfl
theorem q1114 : (Jvm.Cond.code ({ cls := "HighSpots$Row", name := "worth", desc := "(LHighSpots$Asked;)I" } : Jvm.MethodName) prog_13_method_3_code (4 : Nat) (Option.some Jvm.ClassFile.FieldType.int)) ∈ lw_all := lw_g (lw_at lw_m5 38 rfl) rfl
theorem q1115 : (Jvm.Cond.methodLink "HighSpots$Row" (23 : Nat) ({ cls := "HighSpots$Sum", name := "worth", desc := "(LHighSpots$Asked;)I" } : Jvm.MethodName)) ∈ lw_all := lw_g (lw_at lw_m5 39 rfl) rfl
theorem q1116 : (Jvm.Cond.methodLink "HighSpots$Row" (31 : Nat) ({ cls := "HighSpots$Row", name := "worked", desc := "(IIILHighSpots$Asked;)I" } : Jvm.MethodName)) ∈ lw_all := lw_g (lw_at lw_m5 40 rfl) rfl
theorem q1117 : (Jvm.Cond.static ({ cls := "HighSpots$Row", name := "worked", desc := "(IIILHighSpots$Asked;)I" } : Jvm.MethodName)) ∈ lw_all := lw_g (lw_at lw_m5 41 rfl) rfl
theorem q1118 : (Jvm.Cond.code ({ cls := "HighSpots$Row", name := "worked", desc := "(IIILHighSpots$Asked;)I" } : Jvm.MethodName) prog_13_method_2_code (4 : Nat) (Option.some Jvm.ClassFile.FieldType.int)) ∈ lw_all := lw_g (lw_at lw_m5 42 rfl) rfl
theorem q1136 : (Jvm.Cond.selects "HighSpots$Row" ({ cls := "HighSpots$Sum", name := "told", desc := "(LHighSpots$Asked;)I" } : Jvm.MethodName) ({ cls := "HighSpots$Sum", name := "told", desc := "(LHighSpots$Asked;)I" } : Jvm.MethodName)) ∈ lw_all := lw_g (lw_at lw_m5 60 rfl) rfl
theorem q1866 : (Jvm.Cond.castable "HighSpots$Row" "HighSpots$Sum") ∈ lw_tbl := lw_at lw_m8 70 rfl
theorem in_X8 : ∀ w ∈ wsX80, w ∈ lw_all := lw_in wsX80 [536, 538, 540] (by decide +kernel) (by decide +kernel)

end
section
/-! HighSpots$Number -/
set_option maxRecDepth 100000
def RX9 : String := "HighSpots$Number"
def TX9 : u_T := fun k => match k with
  | _ => ("HighSpots$Number", "n", "I", true)
def tyX9 : Nat → FieldType := fun k => match k with
  | _ => .int
abbrev wsX90 : List Cond := u_ws RX9 TX9 1
theorem nmX9 : ∀ a, a < 1 → ∀ b, b < 1 → a ≠ b → (TX9 a).2.1 ≠ (TX9 b).2.1 := by decide +kernel
theorem tyX9_ok : ∀ k, k < 1 → parseFieldDescriptor (TX9 k).2.2.1 = some (tyX9 k) := by decide +kernel
abbrev cX9_init : ByteArray := prog_11_method_1_code
def yX9_init : MethodName := ⟨RX9, "<init>", "(I)V"⟩
def dkwX9_init_0 : List UInt8 := [42, 183, 0, 1, 42, 27, 181, 0, 7, 177]
abbrev dktX9_init_0 : List UInt8 := dkwX9_init_0 ++ []
theorem dksX9_init_0 : cX9_init.data.toList.drop 0 = dktX9_init_0 := by decide +kernel
theorem dX9_init_0 : decode cX9_init 0 = .ok (.aload_n 0, 1) := dk_42 (dk_at dksX9_init_0 0 rfl rfl)
theorem dX9_init_1 : decode cX9_init 1 = .ok (.invokespecial 1, 3) := dk_183 0 1 (dk_at dksX9_init_0 1 rfl rfl)
theorem dX9_init_4 : decode cX9_init 4 = .ok (.aload_n 0, 1) := dk_42 (dk_at dksX9_init_0 4 rfl rfl)
theorem dX9_init_5 : decode cX9_init 5 = .ok (.iload_n 1, 1) := dk_27 (dk_at dksX9_init_0 5 rfl rfl)
theorem dX9_init_6 : decode cX9_init 6 = .ok (.putfield 7, 3) := dk_181 0 7 (dk_at dksX9_init_0 6 rfl rfl)
theorem dX9_init_9 : decode cX9_init 9 = .ok (.return_, 1) := dk_177 (dk_at dksX9_init_0 9 rfl rfl)
abbrev cX9_worth : ByteArray := prog_11_method_2_code
def yX9_worth : MethodName := ⟨RX9, "worth", "(LHighSpots$Asked;)I"⟩
theorem dX9_worth_0 : decode cX9_worth 0 = .ok (.aload_n 0, 1) := by decide +kernel
theorem dX9_worth_1 : decode cX9_worth 1 = .ok (.getfield 7, 3) := by decide +kernel
theorem dX9_worth_4 : decode cX9_worth 4 = .ok (.ireturn, 1) := by decide +kernel
theorem q132 : (Jvm.Cond.initialized "HighSpots$Number") ∈ lw_all := lw_g (lw_at lw_m1 16 rfl) rfl
theorem q501 : (Jvm.Cond.instantiable "HighSpots$Number" (1 : Nat)) ∈ lw_all := lw_g (lw_at lw_m2 145 rfl) rfl
theorem q507 : (Jvm.Cond.instanceMethod ({ cls := "HighSpots$Number", name := "<init>", desc := "(I)V" } : Jvm.MethodName)) ∈ lw_all := lw_g (lw_at lw_m2 151 rfl) rfl
theorem q508 : (Jvm.Cond.code ({ cls := "HighSpots$Number", name := "<init>", desc := "(I)V" } : Jvm.MethodName) prog_11_method_1_code (2 : Nat) (Option.none : Option Jvm.ClassFile.FieldType)) ∈ lw_all := lw_g (lw_at lw_m2 152 rfl) rfl
theorem q509 : (Jvm.Cond.methodLinkNest "HighSpots$Number" (1 : Nat) ({ cls := "HighSpots$Sum", name := "<init>", desc := "()V" } : Jvm.MethodName) "HighSpots") ∈ lw_tbl := lw_at lw_m2 153 rfl
theorem q513 : (Jvm.Cond.fieldLink "HighSpots$Number" (7 : Nat) "HighSpots$Number" "n" "I") ∈ lw_all := lw_g (lw_at lw_m2 157 rfl) rfl
theorem q514 : (Jvm.Cond.laysFinal "HighSpots$Number" "HighSpots$Number" "n" "I") ∈ lw_all := lw_g (lw_at lw_m2 158 rfl) rfl
theorem q515 : (Jvm.Cond.soleField "HighSpots$Number" "n") ∈ lw_all := lw_g (lw_at lw_m2 159 rfl) rfl
theorem q516 : (Jvm.Cond.superclass "HighSpots$Number" "HighSpots$Sum") ∈ lw_all := lw_g (lw_at lw_m2 160 rfl) rfl
theorem q1109 : (Jvm.Cond.selects "HighSpots$Number" ({ cls := "HighSpots$Sum", name := "worth", desc := "(LHighSpots$Asked;)I" } : Jvm.MethodName) ({ cls := "HighSpots$Number", name := "worth", desc := "(LHighSpots$Asked;)I" } : Jvm.MethodName)) ∈ lw_all := lw_g (lw_at lw_m5 33 rfl) rfl
theorem q1110 : (Jvm.Cond.instanceMethod ({ cls := "HighSpots$Number", name := "worth", desc := "(LHighSpots$Asked;)I" } : Jvm.MethodName)) ∈ lw_all := lw_g (lw_at lw_m5 34 rfl) rfl
theorem q1111 : (Jvm.Cond.code ({ cls := "HighSpots$Number", name := "worth", desc := "(LHighSpots$Asked;)I" } : Jvm.MethodName) prog_11_method_2_code (2 : Nat) (Option.some Jvm.ClassFile.FieldType.int)) ∈ lw_all := lw_g (lw_at lw_m5 35 rfl) rfl
theorem q1135 : (Jvm.Cond.selects "HighSpots$Number" ({ cls := "HighSpots$Sum", name := "told", desc := "(LHighSpots$Asked;)I" } : Jvm.MethodName) ({ cls := "HighSpots$Sum", name := "told", desc := "(LHighSpots$Asked;)I" } : Jvm.MethodName)) ∈ lw_all := lw_g (lw_at lw_m5 59 rfl) rfl
theorem q1867 : (Jvm.Cond.castable "HighSpots$Number" "HighSpots$Sum") ∈ lw_tbl := lw_at lw_m8 71 rfl
theorem in_X9 : ∀ w ∈ wsX90, w ∈ lw_all := lw_in wsX90 [514] (by decide +kernel) (by decide +kernel)

end
section
/-! HighSpots$Letter -/
set_option maxRecDepth 100000
def RX10 : String := "HighSpots$Letter"
def TX10 : u_T := fun k => match k with
  | _ => ("HighSpots$Letter", "letter", "I", true)
def tyX10 : Nat → FieldType := fun k => match k with
  | _ => .int
abbrev wsX100 : List Cond := u_ws RX10 TX10 1
theorem nmX10 : ∀ a, a < 1 → ∀ b, b < 1 → a ≠ b → (TX10 a).2.1 ≠ (TX10 b).2.1 := by decide +kernel
theorem tyX10_ok : ∀ k, k < 1 → parseFieldDescriptor (TX10 k).2.2.1 = some (tyX10 k) := by decide +kernel
abbrev cX10_init : ByteArray := prog_8_method_1_code
def yX10_init : MethodName := ⟨RX10, "<init>", "(I)V"⟩
def dkwX10_init_0 : List UInt8 := [42, 183, 0, 1, 42, 27, 181, 0, 7, 177]
abbrev dktX10_init_0 : List UInt8 := dkwX10_init_0 ++ []
theorem dksX10_init_0 : cX10_init.data.toList.drop 0 = dktX10_init_0 := by decide +kernel
theorem dX10_init_0 : decode cX10_init 0 = .ok (.aload_n 0, 1) := dk_42 (dk_at dksX10_init_0 0 rfl rfl)
theorem dX10_init_1 : decode cX10_init 1 = .ok (.invokespecial 1, 3) := dk_183 0 1 (dk_at dksX10_init_0 1 rfl rfl)
theorem dX10_init_4 : decode cX10_init 4 = .ok (.aload_n 0, 1) := dk_42 (dk_at dksX10_init_0 4 rfl rfl)
theorem dX10_init_5 : decode cX10_init 5 = .ok (.iload_n 1, 1) := dk_27 (dk_at dksX10_init_0 5 rfl rfl)
theorem dX10_init_6 : decode cX10_init 6 = .ok (.putfield 7, 3) := dk_181 0 7 (dk_at dksX10_init_0 6 rfl rfl)
theorem dX10_init_9 : decode cX10_init 9 = .ok (.return_, 1) := dk_177 (dk_at dksX10_init_0 9 rfl rfl)
abbrev cX10_worth : ByteArray := prog_8_method_2_code
def yX10_worth : MethodName := ⟨RX10, "worth", "(LHighSpots$Asked;)I"⟩
def dkwX10_worth_0 : List UInt8 := [43, 180, 0, 13, 42, 180, 0, 7, 46, 172]
abbrev dktX10_worth_0 : List UInt8 := dkwX10_worth_0 ++ []
theorem dksX10_worth_0 : cX10_worth.data.toList.drop 0 = dktX10_worth_0 := by decide +kernel
theorem dX10_worth_0 : decode cX10_worth 0 = .ok (.aload_n 1, 1) := dk_43 (dk_at dksX10_worth_0 0 rfl rfl)
theorem dX10_worth_1 : decode cX10_worth 1 = .ok (.getfield 13, 3) := dk_180 0 13 (dk_at dksX10_worth_0 1 rfl rfl)
theorem dX10_worth_4 : decode cX10_worth 4 = .ok (.aload_n 0, 1) := dk_42 (dk_at dksX10_worth_0 4 rfl rfl)
theorem dX10_worth_5 : decode cX10_worth 5 = .ok (.getfield 7, 3) := dk_180 0 7 (dk_at dksX10_worth_0 5 rfl rfl)
theorem dX10_worth_8 : decode cX10_worth 8 = .ok (.iaload, 1) := dk_46 (dk_at dksX10_worth_0 8 rfl rfl)
theorem dX10_worth_9 : decode cX10_worth 9 = .ok (.ireturn, 1) := dk_172 (dk_at dksX10_worth_0 9 rfl rfl)
theorem q133 : (Jvm.Cond.initialized "HighSpots$Letter") ∈ lw_all := lw_g (lw_at lw_m1 17 rfl) rfl
theorem q160 : (Jvm.Cond.fieldLinkNest "HighSpots$Letter" (13 : Nat) "HighSpots$Asked" "values" "[I" "HighSpots") ∈ lw_tbl := lw_at lw_m1 44 rfl
theorem q519 : (Jvm.Cond.instantiable "HighSpots$Letter" (1 : Nat)) ∈ lw_all := lw_g (lw_at lw_m2 163 rfl) rfl
theorem q521 : (Jvm.Cond.instanceMethod ({ cls := "HighSpots$Letter", name := "<init>", desc := "(I)V" } : Jvm.MethodName)) ∈ lw_all := lw_g (lw_at lw_m2 165 rfl) rfl
theorem q522 : (Jvm.Cond.code ({ cls := "HighSpots$Letter", name := "<init>", desc := "(I)V" } : Jvm.MethodName) prog_8_method_1_code (2 : Nat) (Option.none : Option Jvm.ClassFile.FieldType)) ∈ lw_all := lw_g (lw_at lw_m2 166 rfl) rfl
theorem q523 : (Jvm.Cond.methodLinkNest "HighSpots$Letter" (1 : Nat) ({ cls := "HighSpots$Sum", name := "<init>", desc := "()V" } : Jvm.MethodName) "HighSpots") ∈ lw_tbl := lw_at lw_m2 167 rfl
theorem q524 : (Jvm.Cond.fieldLink "HighSpots$Letter" (7 : Nat) "HighSpots$Letter" "letter" "I") ∈ lw_all := lw_g (lw_at lw_m2 168 rfl) rfl
theorem q525 : (Jvm.Cond.laysFinal "HighSpots$Letter" "HighSpots$Letter" "letter" "I") ∈ lw_all := lw_g (lw_at lw_m2 169 rfl) rfl
theorem q526 : (Jvm.Cond.soleField "HighSpots$Letter" "letter") ∈ lw_all := lw_g (lw_at lw_m2 170 rfl) rfl
theorem q527 : (Jvm.Cond.superclass "HighSpots$Letter" "HighSpots$Sum") ∈ lw_all := lw_g (lw_at lw_m2 171 rfl) rfl
theorem q1106 : (Jvm.Cond.selects "HighSpots$Letter" ({ cls := "HighSpots$Sum", name := "worth", desc := "(LHighSpots$Asked;)I" } : Jvm.MethodName) ({ cls := "HighSpots$Letter", name := "worth", desc := "(LHighSpots$Asked;)I" } : Jvm.MethodName)) ∈ lw_all := lw_g (lw_at lw_m5 30 rfl) rfl
theorem q1107 : (Jvm.Cond.instanceMethod ({ cls := "HighSpots$Letter", name := "worth", desc := "(LHighSpots$Asked;)I" } : Jvm.MethodName)) ∈ lw_all := lw_g (lw_at lw_m5 31 rfl) rfl
theorem q1108 : (Jvm.Cond.code ({ cls := "HighSpots$Letter", name := "worth", desc := "(LHighSpots$Asked;)I" } : Jvm.MethodName) prog_8_method_2_code (2 : Nat) (Option.some Jvm.ClassFile.FieldType.int)) ∈ lw_all := lw_g (lw_at lw_m5 32 rfl) rfl
theorem q1134 : (Jvm.Cond.selects "HighSpots$Letter" ({ cls := "HighSpots$Sum", name := "told", desc := "(LHighSpots$Asked;)I" } : Jvm.MethodName) ({ cls := "HighSpots$Sum", name := "told", desc := "(LHighSpots$Asked;)I" } : Jvm.MethodName)) ∈ lw_all := lw_g (lw_at lw_m5 58 rfl) rfl
theorem q1868 : (Jvm.Cond.castable "HighSpots$Letter" "HighSpots$Sum") ∈ lw_tbl := lw_at lw_m8 72 rfl
theorem in_X10 : ∀ w ∈ wsX100, w ∈ lw_all := lw_in wsX100 [525] (by decide +kernel) (by decide +kernel)

end
section
/-! HighSpots$Condition -/
set_option maxRecDepth 100000
def RX11 : String := "HighSpots$Condition"
abbrev cX11_init : ByteArray := prog_6_method_1_code
def yX11_init : MethodName := ⟨RX11, "<init>", "()V"⟩
theorem dX11_init_0 : decode cX11_init 0 = .ok (.aload_n 0, 1) := by decide +kernel
theorem dX11_init_1 : decode cX11_init 1 = .ok (.invokespecial 1, 3) := by decide +kernel
theorem dX11_init_4 : decode cX11_init 4 = .ok (.return_, 1) := by decide +kernel
theorem q134 : (Jvm.Cond.initialized "HighSpots$Condition") ∈ lw_all := lw_g (lw_at lw_m1 18 rfl) rfl
theorem q563 : (Jvm.Cond.instanceMethod ({ cls := "HighSpots$Condition", name := "<init>", desc := "()V" } : Jvm.MethodName)) ∈ lw_all := lw_g (lw_at lw_m2 207 rfl) rfl
theorem q564 : (Jvm.Cond.code ({ cls := "HighSpots$Condition", name := "<init>", desc := "()V" } : Jvm.MethodName) prog_6_method_1_code (1 : Nat) (Option.none : Option Jvm.ClassFile.FieldType)) ∈ lw_all := lw_g (lw_at lw_m2 208 rfl) rfl
theorem q565 : (Jvm.Cond.methodLink "HighSpots$Condition" (1 : Nat) ({ cls := "java/lang/Object", name := "<init>", desc := "()V" } : Jvm.MethodName)) ∈ lw_all := lw_g (lw_at lw_m2 209 rfl) rfl
theorem q1098 : (Jvm.Cond.declares ({ cls := "HighSpots$Condition", name := "holds", desc := "(LHighSpots$Asked;)I" } : Jvm.MethodName)) ∈ lw_tbl := lw_at lw_m5 22 rfl
theorem q1099 : (Jvm.Cond.sameMethod "HighSpots$Condition" "HighSpots$Condition" "holds" "(LHighSpots$Asked;)I") ∈ lw_all := lw_g (lw_at lw_m5 23 rfl) rfl

end
section
/-! HighSpots$Some -/
set_option maxRecDepth 100000
def RX12 : String := "HighSpots$Some"
def TX12 : u_T := fun k => match k with
  | 0 => ("HighSpots$Some", "part", "LHighSpots$Condition;", true)
  | 1 => ("HighSpots$Some", "decides", "I", true)
  | _ => ("HighSpots$Some", "next", "LHighSpots$Some;", false)
def tyX12 : Nat → FieldType := fun k => match k with
  | 0 => .object "HighSpots$Condition"
  | 1 => .int
  | _ => .object "HighSpots$Some"
abbrev wsX120 : List Cond := u_ws RX12 TX12 3
theorem nmX12 : ∀ a, a < 3 → ∀ b, b < 3 → a ≠ b → (TX12 a).2.1 ≠ (TX12 b).2.1 := by decide +kernel
theorem tyX12_ok : ∀ k, k < 3 → parseFieldDescriptor (TX12 k).2.2.1 = some (tyX12 k) := by decide +kernel
abbrev cX12_init : ByteArray := prog_15_method_1_code
def yX12_init : MethodName := ⟨RX12, "<init>", "(LHighSpots$Condition;I)V"⟩
def dkwX12_init_0 : List UInt8 := [42, 183, 0, 1, 42, 43, 181, 0, 7, 42, 28, 181, 0, 13, 177]
abbrev dktX12_init_0 : List UInt8 := dkwX12_init_0 ++ []
theorem dksX12_init_0 : cX12_init.data.toList.drop 0 = dktX12_init_0 := by decide +kernel
theorem dX12_init_0 : decode cX12_init 0 = .ok (.aload_n 0, 1) := dk_42 (dk_at dksX12_init_0 0 rfl rfl)
theorem dX12_init_1 : decode cX12_init 1 = .ok (.invokespecial 1, 3) := dk_183 0 1 (dk_at dksX12_init_0 1 rfl rfl)
theorem dX12_init_4 : decode cX12_init 4 = .ok (.aload_n 0, 1) := dk_42 (dk_at dksX12_init_0 4 rfl rfl)
theorem dX12_init_5 : decode cX12_init 5 = .ok (.aload_n 1, 1) := dk_43 (dk_at dksX12_init_0 5 rfl rfl)
theorem dX12_init_6 : decode cX12_init 6 = .ok (.putfield 7, 3) := dk_181 0 7 (dk_at dksX12_init_0 6 rfl rfl)
theorem dX12_init_9 : decode cX12_init 9 = .ok (.aload_n 0, 1) := dk_42 (dk_at dksX12_init_0 9 rfl rfl)
theorem dX12_init_10 : decode cX12_init 10 = .ok (.iload_n 2, 1) := dk_28 (dk_at dksX12_init_0 10 rfl rfl)
theorem dX12_init_11 : decode cX12_init 11 = .ok (.putfield 13, 3) := dk_181 0 13 (dk_at dksX12_init_0 11 rfl rfl)
theorem dX12_init_14 : decode cX12_init 14 = .ok (.return_, 1) := dk_177 (dk_at dksX12_init_0 14 rfl rfl)
abbrev cX12_holds : ByteArray := prog_15_method_2_code
def yX12_holds : MethodName := ⟨RX12, "holds", "(LHighSpots$Asked;)I"⟩
def dkwX12_holds_1 : List UInt8 := [180, 0, 13, 160, 0, 5, 29, 172, 44, 180, 0, 21, 77, 167, 255, 223, 4, 42, 180, 0, 13, 100, 172]
abbrev dktX12_holds_1 : List UInt8 := dkwX12_holds_1 ++ []
def dkwX12_holds_0 : List UInt8 := [42, 77, 44, 198, 0, 35, 44, 180, 0, 7, 43, 182, 0, 17, 62, 29, 5, 159, 0, 11, 29, 42]
abbrev dktX12_holds_0 : List UInt8 := dkwX12_holds_0 ++ dktX12_holds_1
theorem dksX12_holds_0 : cX12_holds.data.toList.drop 0 = dktX12_holds_0 := by decide +kernel
theorem dksX12_holds_1 : cX12_holds.data.toList.drop 22 = dktX12_holds_1 := dk_seg dksX12_holds_0 22 rfl rfl
theorem dX12_holds_0 : decode cX12_holds 0 = .ok (.aload_n 0, 1) := dk_42 (dk_at dksX12_holds_0 0 rfl rfl)
theorem dX12_holds_1 : decode cX12_holds 1 = .ok (.astore_n 2, 1) := dk_77 (dk_at dksX12_holds_0 1 rfl rfl)
theorem dX12_holds_2 : decode cX12_holds 2 = .ok (.aload_n 2, 1) := dk_44 (dk_at dksX12_holds_0 2 rfl rfl)
theorem dX12_holds_3 : decode cX12_holds 3 = .ok (.ifnull 35, 3) := dk_198 0 35 (dk_at dksX12_holds_0 3 rfl rfl)
theorem dX12_holds_6 : decode cX12_holds 6 = .ok (.aload_n 2, 1) := dk_44 (dk_at dksX12_holds_0 6 rfl rfl)
theorem dX12_holds_7 : decode cX12_holds 7 = .ok (.getfield 7, 3) := dk_180 0 7 (dk_at dksX12_holds_0 7 rfl rfl)
theorem dX12_holds_10 : decode cX12_holds 10 = .ok (.aload_n 1, 1) := dk_43 (dk_at dksX12_holds_0 10 rfl rfl)
theorem dX12_holds_11 : decode cX12_holds 11 = .ok (.invokevirtual 17, 3) := dk_182 0 17 (dk_at dksX12_holds_0 11 rfl rfl)
theorem dX12_holds_14 : decode cX12_holds 14 = .ok (.istore_n 3, 1) := dk_62 (dk_at dksX12_holds_0 14 rfl rfl)
theorem dX12_holds_15 : decode cX12_holds 15 = .ok (.iload_n 3, 1) := dk_29 (dk_at dksX12_holds_0 15 rfl rfl)
theorem dX12_holds_16 : decode cX12_holds 16 = .ok (.iconst 2, 1) := dk_5 (dk_at dksX12_holds_0 16 rfl rfl)
theorem dX12_holds_17 : decode cX12_holds 17 = .ok (.if_icmp .eq 11, 3) := dk_159 0 11 (dk_at dksX12_holds_0 17 rfl rfl)
theorem dX12_holds_20 : decode cX12_holds 20 = .ok (.iload_n 3, 1) := dk_29 (dk_at dksX12_holds_0 20 rfl rfl)
theorem dX12_holds_21 : decode cX12_holds 21 = .ok (.aload_n 0, 1) := dk_42 (dk_at dksX12_holds_0 21 rfl rfl)
theorem dX12_holds_22 : decode cX12_holds 22 = .ok (.getfield 13, 3) := dk_180 0 13 (dk_at dksX12_holds_1 0 rfl rfl)
theorem dX12_holds_25 : decode cX12_holds 25 = .ok (.if_icmp .ne 5, 3) := dk_160 0 5 (dk_at dksX12_holds_1 3 rfl rfl)
theorem dX12_holds_28 : decode cX12_holds 28 = .ok (.iload_n 3, 1) := dk_29 (dk_at dksX12_holds_1 6 rfl rfl)
theorem dX12_holds_29 : decode cX12_holds 29 = .ok (.ireturn, 1) := dk_172 (dk_at dksX12_holds_1 7 rfl rfl)
theorem dX12_holds_30 : decode cX12_holds 30 = .ok (.aload_n 2, 1) := dk_44 (dk_at dksX12_holds_1 8 rfl rfl)
theorem dX12_holds_31 : decode cX12_holds 31 = .ok (.getfield 21, 3) := dk_180 0 21 (dk_at dksX12_holds_1 9 rfl rfl)
theorem dX12_holds_34 : decode cX12_holds 34 = .ok (.astore_n 2, 1) := dk_77 (dk_at dksX12_holds_1 12 rfl rfl)
theorem dX12_holds_35 : decode cX12_holds 35 = .ok (.goto (-33), 3) := dk_167 255 223 (dk_at dksX12_holds_1 13 rfl rfl)
theorem dX12_holds_38 : decode cX12_holds 38 = .ok (.iconst 1, 1) := dk_4 (dk_at dksX12_holds_1 16 rfl rfl)
theorem dX12_holds_39 : decode cX12_holds 39 = .ok (.aload_n 0, 1) := dk_42 (dk_at dksX12_holds_1 17 rfl rfl)
theorem dX12_holds_40 : decode cX12_holds 40 = .ok (.getfield 13, 3) := dk_180 0 13 (dk_at dksX12_holds_1 18 rfl rfl)
theorem dX12_holds_43 : decode cX12_holds 43 = .ok (.isub, 1) := dk_100 (dk_at dksX12_holds_1 21 rfl rfl)
theorem dX12_holds_44 : decode cX12_holds 44 = .ok (.ireturn, 1) := dk_172 (dk_at dksX12_holds_1 22 rfl rfl)
theorem q135 : (Jvm.Cond.initialized "HighSpots$Some") ∈ lw_all := lw_g (lw_at lw_m1 19 rfl) rfl
theorem q548 : (Jvm.Cond.instantiable "HighSpots$Some" (3 : Nat)) ∈ lw_all := lw_g (lw_at lw_m2 192 rfl) rfl
theorem q587 : (Jvm.Cond.instanceMethod ({ cls := "HighSpots$Some", name := "<init>", desc := "(LHighSpots$Condition;I)V" } : Jvm.MethodName)) ∈ lw_all := lw_g (lw_at lw_m2 231 rfl) rfl
theorem q588 : (Jvm.Cond.code ({ cls := "HighSpots$Some", name := "<init>", desc := "(LHighSpots$Condition;I)V" } : Jvm.MethodName) prog_15_method_1_code (3 : Nat) (Option.none : Option Jvm.ClassFile.FieldType)) ∈ lw_all := lw_g (lw_at lw_m2 232 rfl) rfl
theorem q589 : (Jvm.Cond.methodLinkNest "HighSpots$Some" (1 : Nat) ({ cls := "HighSpots$Condition", name := "<init>", desc := "()V" } : Jvm.MethodName) "HighSpots") ∈ lw_tbl := lw_at lw_m2 233 rfl
theorem q590 : (Jvm.Cond.fieldLink "HighSpots$Some" (7 : Nat) "HighSpots$Some" "part" "LHighSpots$Condition;") ∈ lw_all := lw_g (lw_at lw_m2 234 rfl) rfl
theorem q591 : (Jvm.Cond.fieldLink "HighSpots$Some" (13 : Nat) "HighSpots$Some" "decides" "I") ∈ lw_all := lw_g (lw_at lw_m2 235 rfl) rfl
theorem q592 : (Jvm.Cond.fieldLink "HighSpots$Some" (21 : Nat) "HighSpots$Some" "next" "LHighSpots$Some;") ∈ lw_all := lw_g (lw_at lw_m2 236 rfl) rfl
theorem q594 : (Jvm.Cond.laysFinal "HighSpots$Some" "HighSpots$Some" "part" "LHighSpots$Condition;") ∈ lw_all := lw_g (lw_at lw_m2 238 rfl) rfl
theorem q595 : (Jvm.Cond.soleField "HighSpots$Some" "part") ∈ lw_all := lw_g (lw_at lw_m2 239 rfl) rfl
theorem q596 : (Jvm.Cond.laysFinal "HighSpots$Some" "HighSpots$Some" "decides" "I") ∈ lw_all := lw_g (lw_at lw_m3 0 rfl) rfl
theorem q597 : (Jvm.Cond.soleField "HighSpots$Some" "decides") ∈ lw_all := lw_g (lw_at lw_m3 1 rfl) rfl
theorem q598 : (Jvm.Cond.lays "HighSpots$Some" "HighSpots$Some" "next" "LHighSpots$Some;") ∈ lw_all := lw_g (lw_at lw_m3 2 rfl) rfl
theorem q599 : (Jvm.Cond.soleField "HighSpots$Some" "next") ∈ lw_all := lw_g (lw_at lw_m3 3 rfl) rfl
theorem q600 : (Jvm.Cond.superclass "HighSpots$Some" "HighSpots$Condition") ∈ lw_all := lw_g (lw_at lw_m3 4 rfl) rfl
theorem q1123 : (Jvm.Cond.instanceMethod ({ cls := "HighSpots$Some", name := "holds", desc := "(LHighSpots$Asked;)I" } : Jvm.MethodName)) ∈ lw_all := lw_g (lw_at lw_m5 47 rfl) rfl
theorem q1124 : (Jvm.Cond.code ({ cls := "HighSpots$Some", name := "holds", desc := "(LHighSpots$Asked;)I" } : Jvm.MethodName) prog_15_method_2_code (4 : Nat) (Option.some Jvm.ClassFile.FieldType.int)) ∈ lw_all := lw_g (lw_at lw_m5 48 rfl) rfl
theorem q1125 : (Jvm.Cond.methodLink "HighSpots$Some" (17 : Nat) ({ cls := "HighSpots$Condition", name := "holds", desc := "(LHighSpots$Asked;)I" } : Jvm.MethodName)) ∈ lw_all := lw_g (lw_at lw_m5 49 rfl) rfl
theorem q1126 : (Jvm.Cond.selects "HighSpots$Some" ({ cls := "HighSpots$Condition", name := "holds", desc := "(LHighSpots$Asked;)I" } : Jvm.MethodName) ({ cls := "HighSpots$Some", name := "holds", desc := "(LHighSpots$Asked;)I" } : Jvm.MethodName)) ∈ lw_all := lw_g (lw_at lw_m5 50 rfl) rfl
theorem q1869 : (Jvm.Cond.castable "HighSpots$Some" "HighSpots$Condition") ∈ lw_tbl := lw_at lw_m8 73 rfl
theorem in_X12 : ∀ w ∈ wsX120, w ∈ lw_all := lw_in wsX120 [594, 596, 598] (by decide +kernel) (by decide +kernel)

end
section
/-! HighSpots$Not -/
set_option maxRecDepth 100000
def RX13 : String := "HighSpots$Not"
def TX13 : u_T := fun k => match k with
  | _ => ("HighSpots$Not", "x", "LHighSpots$Condition;", true)
def tyX13 : Nat → FieldType := fun k => match k with
  | _ => .object "HighSpots$Condition"
abbrev wsX130 : List Cond := u_ws RX13 TX13 1
theorem nmX13 : ∀ a, a < 1 → ∀ b, b < 1 → a ≠ b → (TX13 a).2.1 ≠ (TX13 b).2.1 := by decide +kernel
theorem tyX13_ok : ∀ k, k < 1 → parseFieldDescriptor (TX13 k).2.2.1 = some (tyX13 k) := by decide +kernel
abbrev cX13_init : ByteArray := prog_10_method_1_code
def yX13_init : MethodName := ⟨RX13, "<init>", "(LHighSpots$Condition;)V"⟩
def dkwX13_init_0 : List UInt8 := [42, 183, 0, 1, 42, 43, 181, 0, 7, 177]
abbrev dktX13_init_0 : List UInt8 := dkwX13_init_0 ++ []
theorem dksX13_init_0 : cX13_init.data.toList.drop 0 = dktX13_init_0 := by decide +kernel
theorem dX13_init_0 : decode cX13_init 0 = .ok (.aload_n 0, 1) := dk_42 (dk_at dksX13_init_0 0 rfl rfl)
theorem dX13_init_1 : decode cX13_init 1 = .ok (.invokespecial 1, 3) := dk_183 0 1 (dk_at dksX13_init_0 1 rfl rfl)
theorem dX13_init_4 : decode cX13_init 4 = .ok (.aload_n 0, 1) := dk_42 (dk_at dksX13_init_0 4 rfl rfl)
theorem dX13_init_5 : decode cX13_init 5 = .ok (.aload_n 1, 1) := dk_43 (dk_at dksX13_init_0 5 rfl rfl)
theorem dX13_init_6 : decode cX13_init 6 = .ok (.putfield 7, 3) := dk_181 0 7 (dk_at dksX13_init_0 6 rfl rfl)
theorem dX13_init_9 : decode cX13_init 9 = .ok (.return_, 1) := dk_177 (dk_at dksX13_init_0 9 rfl rfl)
abbrev cX13_holds : ByteArray := prog_10_method_2_code
def yX13_holds : MethodName := ⟨RX13, "holds", "(LHighSpots$Asked;)I"⟩
def dkwX13_holds_0 : List UInt8 := [42, 180, 0, 7, 43, 182, 0, 13, 61, 28, 5, 160, 0, 7, 5, 167, 0, 6, 4, 28, 100, 172]
abbrev dktX13_holds_0 : List UInt8 := dkwX13_holds_0 ++ []
theorem dksX13_holds_0 : cX13_holds.data.toList.drop 0 = dktX13_holds_0 := by decide +kernel
theorem dX13_holds_0 : decode cX13_holds 0 = .ok (.aload_n 0, 1) := dk_42 (dk_at dksX13_holds_0 0 rfl rfl)
theorem dX13_holds_1 : decode cX13_holds 1 = .ok (.getfield 7, 3) := dk_180 0 7 (dk_at dksX13_holds_0 1 rfl rfl)
theorem dX13_holds_4 : decode cX13_holds 4 = .ok (.aload_n 1, 1) := dk_43 (dk_at dksX13_holds_0 4 rfl rfl)
theorem dX13_holds_5 : decode cX13_holds 5 = .ok (.invokevirtual 13, 3) := dk_182 0 13 (dk_at dksX13_holds_0 5 rfl rfl)
theorem dX13_holds_8 : decode cX13_holds 8 = .ok (.istore_n 2, 1) := dk_61 (dk_at dksX13_holds_0 8 rfl rfl)
theorem dX13_holds_9 : decode cX13_holds 9 = .ok (.iload_n 2, 1) := dk_28 (dk_at dksX13_holds_0 9 rfl rfl)
theorem dX13_holds_10 : decode cX13_holds 10 = .ok (.iconst 2, 1) := dk_5 (dk_at dksX13_holds_0 10 rfl rfl)
theorem dX13_holds_11 : decode cX13_holds 11 = .ok (.if_icmp .ne 7, 3) := dk_160 0 7 (dk_at dksX13_holds_0 11 rfl rfl)
theorem dX13_holds_14 : decode cX13_holds 14 = .ok (.iconst 2, 1) := dk_5 (dk_at dksX13_holds_0 14 rfl rfl)
theorem dX13_holds_15 : decode cX13_holds 15 = .ok (.goto 6, 3) := dk_167 0 6 (dk_at dksX13_holds_0 15 rfl rfl)
theorem dX13_holds_18 : decode cX13_holds 18 = .ok (.iconst 1, 1) := dk_4 (dk_at dksX13_holds_0 18 rfl rfl)
theorem dX13_holds_19 : decode cX13_holds 19 = .ok (.iload_n 2, 1) := dk_28 (dk_at dksX13_holds_0 19 rfl rfl)
theorem dX13_holds_20 : decode cX13_holds 20 = .ok (.isub, 1) := dk_100 (dk_at dksX13_holds_0 20 rfl rfl)
theorem dX13_holds_21 : decode cX13_holds 21 = .ok (.ireturn, 1) := dk_172 (dk_at dksX13_holds_0 21 rfl rfl)
theorem q136 : (Jvm.Cond.initialized "HighSpots$Not") ∈ lw_all := lw_g (lw_at lw_m1 20 rfl) rfl
theorem q558 : (Jvm.Cond.instantiable "HighSpots$Not" (1 : Nat)) ∈ lw_all := lw_g (lw_at lw_m2 202 rfl) rfl
theorem q560 : (Jvm.Cond.instanceMethod ({ cls := "HighSpots$Not", name := "<init>", desc := "(LHighSpots$Condition;)V" } : Jvm.MethodName)) ∈ lw_all := lw_g (lw_at lw_m2 204 rfl) rfl
theorem q561 : (Jvm.Cond.code ({ cls := "HighSpots$Not", name := "<init>", desc := "(LHighSpots$Condition;)V" } : Jvm.MethodName) prog_10_method_1_code (2 : Nat) (Option.none : Option Jvm.ClassFile.FieldType)) ∈ lw_all := lw_g (lw_at lw_m2 205 rfl) rfl
theorem q562 : (Jvm.Cond.methodLinkNest "HighSpots$Not" (1 : Nat) ({ cls := "HighSpots$Condition", name := "<init>", desc := "()V" } : Jvm.MethodName) "HighSpots") ∈ lw_tbl := lw_at lw_m2 206 rfl
theorem q566 : (Jvm.Cond.fieldLink "HighSpots$Not" (7 : Nat) "HighSpots$Not" "x" "LHighSpots$Condition;") ∈ lw_all := lw_g (lw_at lw_m2 210 rfl) rfl
theorem q567 : (Jvm.Cond.laysFinal "HighSpots$Not" "HighSpots$Not" "x" "LHighSpots$Condition;") ∈ lw_all := lw_g (lw_at lw_m2 211 rfl) rfl
theorem q568 : (Jvm.Cond.soleField "HighSpots$Not" "x") ∈ lw_all := lw_g (lw_at lw_m2 212 rfl) rfl
theorem q569 : (Jvm.Cond.superclass "HighSpots$Not" "HighSpots$Condition") ∈ lw_all := lw_g (lw_at lw_m2 213 rfl) rfl
theorem q1119 : (Jvm.Cond.selects "HighSpots$Not" ({ cls := "HighSpots$Condition", name := "holds", desc := "(LHighSpots$Asked;)I" } : Jvm.MethodName) ({ cls := "HighSpots$Not", name := "holds", desc := "(LHighSpots$Asked;)I" } : Jvm.MethodName)) ∈ lw_all := lw_g (lw_at lw_m5 43 rfl) rfl
theorem q1120 : (Jvm.Cond.instanceMethod ({ cls := "HighSpots$Not", name := "holds", desc := "(LHighSpots$Asked;)I" } : Jvm.MethodName)) ∈ lw_all := lw_g (lw_at lw_m5 44 rfl) rfl
theorem q1121 : (Jvm.Cond.code ({ cls := "HighSpots$Not", name := "holds", desc := "(LHighSpots$Asked;)I" } : Jvm.MethodName) prog_10_method_2_code (3 : Nat) (Option.some Jvm.ClassFile.FieldType.int)) ∈ lw_all := lw_g (lw_at lw_m5 45 rfl) rfl
theorem q1122 : (Jvm.Cond.methodLink "HighSpots$Not" (13 : Nat) ({ cls := "HighSpots$Condition", name := "holds", desc := "(LHighSpots$Asked;)I" } : Jvm.MethodName)) ∈ lw_all := lw_g (lw_at lw_m5 46 rfl) rfl
theorem q1870 : (Jvm.Cond.castable "HighSpots$Not" "HighSpots$Condition") ∈ lw_tbl := lw_at lw_m8 74 rfl
theorem in_X13 : ∀ w ∈ wsX130, w ∈ lw_all := lw_in wsX130 [567] (by decide +kernel) (by decide +kernel)

end
section
/-! HighSpots$Compared -/
set_option maxRecDepth 100000
def RX14 : String := "HighSpots$Compared"
def TX14 : u_T := fun k => match k with
  | 0 => ("HighSpots$Compared", "x", "LHighSpots$Sum;", true)
  | 1 => ("HighSpots$Compared", "y", "LHighSpots$Sum;", true)
  | _ => ("HighSpots$Compared", "sign", "I", true)
def tyX14 : Nat → FieldType := fun k => match k with
  | 0 => .object "HighSpots$Sum"
  | 1 => .object "HighSpots$Sum"
  | _ => .int
abbrev wsX140 : List Cond := u_ws RX14 TX14 3
theorem nmX14 : ∀ a, a < 3 → ∀ b, b < 3 → a ≠ b → (TX14 a).2.1 ≠ (TX14 b).2.1 := by decide +kernel
theorem tyX14_ok : ∀ k, k < 3 → parseFieldDescriptor (TX14 k).2.2.1 = some (tyX14 k) := by decide +kernel
abbrev cX14_init : ByteArray := prog_5_method_1_code
def yX14_init : MethodName := ⟨RX14, "<init>", "(LHighSpots$Sum;ILHighSpots$Sum;)V"⟩
def dkwX14_init_0 : List UInt8 := [42, 183, 0, 1, 42, 43, 181, 0, 7, 42, 28, 181, 0, 13, 42, 45, 181, 0, 17, 177]
abbrev dktX14_init_0 : List UInt8 := dkwX14_init_0 ++ []
theorem dksX14_init_0 : cX14_init.data.toList.drop 0 = dktX14_init_0 := by decide +kernel
theorem dX14_init_0 : decode cX14_init 0 = .ok (.aload_n 0, 1) := dk_42 (dk_at dksX14_init_0 0 rfl rfl)
theorem dX14_init_1 : decode cX14_init 1 = .ok (.invokespecial 1, 3) := dk_183 0 1 (dk_at dksX14_init_0 1 rfl rfl)
theorem dX14_init_4 : decode cX14_init 4 = .ok (.aload_n 0, 1) := dk_42 (dk_at dksX14_init_0 4 rfl rfl)
theorem dX14_init_5 : decode cX14_init 5 = .ok (.aload_n 1, 1) := dk_43 (dk_at dksX14_init_0 5 rfl rfl)
theorem dX14_init_6 : decode cX14_init 6 = .ok (.putfield 7, 3) := dk_181 0 7 (dk_at dksX14_init_0 6 rfl rfl)
theorem dX14_init_9 : decode cX14_init 9 = .ok (.aload_n 0, 1) := dk_42 (dk_at dksX14_init_0 9 rfl rfl)
theorem dX14_init_10 : decode cX14_init 10 = .ok (.iload_n 2, 1) := dk_28 (dk_at dksX14_init_0 10 rfl rfl)
theorem dX14_init_11 : decode cX14_init 11 = .ok (.putfield 13, 3) := dk_181 0 13 (dk_at dksX14_init_0 11 rfl rfl)
theorem dX14_init_14 : decode cX14_init 14 = .ok (.aload_n 0, 1) := dk_42 (dk_at dksX14_init_0 14 rfl rfl)
theorem dX14_init_15 : decode cX14_init 15 = .ok (.aload_n 3, 1) := dk_45 (dk_at dksX14_init_0 15 rfl rfl)
theorem dX14_init_16 : decode cX14_init 16 = .ok (.putfield 17, 3) := dk_181 0 17 (dk_at dksX14_init_0 16 rfl rfl)
theorem dX14_init_19 : decode cX14_init 19 = .ok (.return_, 1) := dk_177 (dk_at dksX14_init_0 19 rfl rfl)
abbrev cX14_holds : ByteArray := prog_5_method_2_code
def yX14_holds : MethodName := ⟨RX14, "holds", "(LHighSpots$Asked;)I"⟩
def dkwX14_holds_4 : List UInt8 := [153, 0, 7, 4, 167, 0, 4, 3, 172]
abbrev dktX14_holds_4 : List UInt8 := dkwX14_holds_4 ++ []
def dkwX14_holds_3 : List UInt8 := [160, 0, 7, 4, 167, 0, 4, 3, 54, 4, 43, 180, 0, 20, 153, 0, 7, 5, 167, 0, 13, 21, 4]
abbrev dktX14_holds_3 : List UInt8 := dkwX14_holds_3 ++ dktX14_holds_4
def dkwX14_holds_2 : List UInt8 := [180, 0, 13, 16, 62, 160, 0, 16, 28, 29, 164, 0, 7, 4, 167, 0, 17, 3, 167, 0, 13, 28, 29]
abbrev dktX14_holds_2 : List UInt8 := dkwX14_holds_2 ++ dktX14_holds_3
def dkwX14_holds_1 : List UInt8 := [180, 0, 13, 16, 60, 160, 0, 16, 28, 29, 162, 0, 7, 4, 167, 0, 39, 3, 167, 0, 35, 42]
abbrev dktX14_holds_1 : List UInt8 := dkwX14_holds_1 ++ dktX14_holds_2
def dkwX14_holds_0 : List UInt8 := [43, 3, 181, 0, 20, 42, 180, 0, 7, 43, 182, 0, 26, 61, 42, 180, 0, 17, 43, 182, 0, 26, 62, 42]
abbrev dktX14_holds_0 : List UInt8 := dkwX14_holds_0 ++ dktX14_holds_1
theorem dksX14_holds_0 : cX14_holds.data.toList.drop 0 = dktX14_holds_0 := by decide +kernel
theorem dksX14_holds_1 : cX14_holds.data.toList.drop 24 = dktX14_holds_1 := dk_seg dksX14_holds_0 24 rfl rfl
theorem dksX14_holds_2 : cX14_holds.data.toList.drop 46 = dktX14_holds_2 := dk_seg dksX14_holds_1 22 rfl rfl
theorem dksX14_holds_3 : cX14_holds.data.toList.drop 69 = dktX14_holds_3 := dk_seg dksX14_holds_2 23 rfl rfl
theorem dksX14_holds_4 : cX14_holds.data.toList.drop 92 = dktX14_holds_4 := dk_seg dksX14_holds_3 23 rfl rfl
theorem dX14_holds_0 : decode cX14_holds 0 = .ok (.aload_n 1, 1) := dk_43 (dk_at dksX14_holds_0 0 rfl rfl)
theorem dX14_holds_1 : decode cX14_holds 1 = .ok (.iconst 0, 1) := dk_3 (dk_at dksX14_holds_0 1 rfl rfl)
theorem dX14_holds_2 : decode cX14_holds 2 = .ok (.putfield 20, 3) := dk_181 0 20 (dk_at dksX14_holds_0 2 rfl rfl)
theorem dX14_holds_5 : decode cX14_holds 5 = .ok (.aload_n 0, 1) := dk_42 (dk_at dksX14_holds_0 5 rfl rfl)
theorem dX14_holds_6 : decode cX14_holds 6 = .ok (.getfield 7, 3) := dk_180 0 7 (dk_at dksX14_holds_0 6 rfl rfl)
theorem dX14_holds_9 : decode cX14_holds 9 = .ok (.aload_n 1, 1) := dk_43 (dk_at dksX14_holds_0 9 rfl rfl)
theorem dX14_holds_10 : decode cX14_holds 10 = .ok (.invokevirtual 26, 3) := dk_182 0 26 (dk_at dksX14_holds_0 10 rfl rfl)
theorem dX14_holds_13 : decode cX14_holds 13 = .ok (.istore_n 2, 1) := dk_61 (dk_at dksX14_holds_0 13 rfl rfl)
theorem dX14_holds_14 : decode cX14_holds 14 = .ok (.aload_n 0, 1) := dk_42 (dk_at dksX14_holds_0 14 rfl rfl)
theorem dX14_holds_15 : decode cX14_holds 15 = .ok (.getfield 17, 3) := dk_180 0 17 (dk_at dksX14_holds_0 15 rfl rfl)
theorem dX14_holds_18 : decode cX14_holds 18 = .ok (.aload_n 1, 1) := dk_43 (dk_at dksX14_holds_0 18 rfl rfl)
theorem dX14_holds_19 : decode cX14_holds 19 = .ok (.invokevirtual 26, 3) := dk_182 0 26 (dk_at dksX14_holds_0 19 rfl rfl)
theorem dX14_holds_22 : decode cX14_holds 22 = .ok (.istore_n 3, 1) := dk_62 (dk_at dksX14_holds_0 22 rfl rfl)
theorem dX14_holds_23 : decode cX14_holds 23 = .ok (.aload_n 0, 1) := dk_42 (dk_at dksX14_holds_0 23 rfl rfl)
theorem dX14_holds_24 : decode cX14_holds 24 = .ok (.getfield 13, 3) := dk_180 0 13 (dk_at dksX14_holds_1 0 rfl rfl)
theorem dX14_holds_27 : decode cX14_holds 27 = .ok (.bipush 60, 2) := dk_16 60 (dk_at dksX14_holds_1 3 rfl rfl)
theorem dX14_holds_29 : decode cX14_holds 29 = .ok (.if_icmp .ne 16, 3) := dk_160 0 16 (dk_at dksX14_holds_1 5 rfl rfl)
theorem dX14_holds_32 : decode cX14_holds 32 = .ok (.iload_n 2, 1) := dk_28 (dk_at dksX14_holds_1 8 rfl rfl)
theorem dX14_holds_33 : decode cX14_holds 33 = .ok (.iload_n 3, 1) := dk_29 (dk_at dksX14_holds_1 9 rfl rfl)
theorem dX14_holds_34 : decode cX14_holds 34 = .ok (.if_icmp .ge 7, 3) := dk_162 0 7 (dk_at dksX14_holds_1 10 rfl rfl)
theorem dX14_holds_37 : decode cX14_holds 37 = .ok (.iconst 1, 1) := dk_4 (dk_at dksX14_holds_1 13 rfl rfl)
theorem dX14_holds_38 : decode cX14_holds 38 = .ok (.goto 39, 3) := dk_167 0 39 (dk_at dksX14_holds_1 14 rfl rfl)
theorem dX14_holds_41 : decode cX14_holds 41 = .ok (.iconst 0, 1) := dk_3 (dk_at dksX14_holds_1 17 rfl rfl)
theorem dX14_holds_42 : decode cX14_holds 42 = .ok (.goto 35, 3) := dk_167 0 35 (dk_at dksX14_holds_1 18 rfl rfl)
theorem dX14_holds_45 : decode cX14_holds 45 = .ok (.aload_n 0, 1) := dk_42 (dk_at dksX14_holds_1 21 rfl rfl)
theorem dX14_holds_46 : decode cX14_holds 46 = .ok (.getfield 13, 3) := dk_180 0 13 (dk_at dksX14_holds_2 0 rfl rfl)
theorem dX14_holds_49 : decode cX14_holds 49 = .ok (.bipush 62, 2) := dk_16 62 (dk_at dksX14_holds_2 3 rfl rfl)
theorem dX14_holds_51 : decode cX14_holds 51 = .ok (.if_icmp .ne 16, 3) := dk_160 0 16 (dk_at dksX14_holds_2 5 rfl rfl)
theorem dX14_holds_54 : decode cX14_holds 54 = .ok (.iload_n 2, 1) := dk_28 (dk_at dksX14_holds_2 8 rfl rfl)
theorem dX14_holds_55 : decode cX14_holds 55 = .ok (.iload_n 3, 1) := dk_29 (dk_at dksX14_holds_2 9 rfl rfl)
theorem dX14_holds_56 : decode cX14_holds 56 = .ok (.if_icmp .le 7, 3) := dk_164 0 7 (dk_at dksX14_holds_2 10 rfl rfl)
theorem dX14_holds_59 : decode cX14_holds 59 = .ok (.iconst 1, 1) := dk_4 (dk_at dksX14_holds_2 13 rfl rfl)
theorem dX14_holds_60 : decode cX14_holds 60 = .ok (.goto 17, 3) := dk_167 0 17 (dk_at dksX14_holds_2 14 rfl rfl)
theorem dX14_holds_63 : decode cX14_holds 63 = .ok (.iconst 0, 1) := dk_3 (dk_at dksX14_holds_2 17 rfl rfl)
theorem dX14_holds_64 : decode cX14_holds 64 = .ok (.goto 13, 3) := dk_167 0 13 (dk_at dksX14_holds_2 18 rfl rfl)
theorem dX14_holds_67 : decode cX14_holds 67 = .ok (.iload_n 2, 1) := dk_28 (dk_at dksX14_holds_2 21 rfl rfl)
theorem dX14_holds_68 : decode cX14_holds 68 = .ok (.iload_n 3, 1) := dk_29 (dk_at dksX14_holds_2 22 rfl rfl)
theorem dX14_holds_69 : decode cX14_holds 69 = .ok (.if_icmp .ne 7, 3) := dk_160 0 7 (dk_at dksX14_holds_3 0 rfl rfl)
theorem dX14_holds_72 : decode cX14_holds 72 = .ok (.iconst 1, 1) := dk_4 (dk_at dksX14_holds_3 3 rfl rfl)
theorem dX14_holds_73 : decode cX14_holds 73 = .ok (.goto 4, 3) := dk_167 0 4 (dk_at dksX14_holds_3 4 rfl rfl)
theorem dX14_holds_76 : decode cX14_holds 76 = .ok (.iconst 0, 1) := dk_3 (dk_at dksX14_holds_3 7 rfl rfl)
theorem dX14_holds_77 : decode cX14_holds 77 = .ok (.istore 4, 2) := dk_54 4 (dk_at dksX14_holds_3 8 rfl rfl)
theorem dX14_holds_79 : decode cX14_holds 79 = .ok (.aload_n 1, 1) := dk_43 (dk_at dksX14_holds_3 10 rfl rfl)
theorem dX14_holds_80 : decode cX14_holds 80 = .ok (.getfield 20, 3) := dk_180 0 20 (dk_at dksX14_holds_3 11 rfl rfl)
theorem dX14_holds_83 : decode cX14_holds 83 = .ok (.ifCond .eq 7, 3) := dk_153 0 7 (dk_at dksX14_holds_3 14 rfl rfl)
theorem dX14_holds_86 : decode cX14_holds 86 = .ok (.iconst 2, 1) := dk_5 (dk_at dksX14_holds_3 17 rfl rfl)
theorem dX14_holds_87 : decode cX14_holds 87 = .ok (.goto 13, 3) := dk_167 0 13 (dk_at dksX14_holds_3 18 rfl rfl)
theorem dX14_holds_90 : decode cX14_holds 90 = .ok (.iload 4, 2) := dk_21 4 (dk_at dksX14_holds_3 21 rfl rfl)
theorem dX14_holds_92 : decode cX14_holds 92 = .ok (.ifCond .eq 7, 3) := dk_153 0 7 (dk_at dksX14_holds_4 0 rfl rfl)
theorem dX14_holds_95 : decode cX14_holds 95 = .ok (.iconst 1, 1) := dk_4 (dk_at dksX14_holds_4 3 rfl rfl)
theorem dX14_holds_96 : decode cX14_holds 96 = .ok (.goto 4, 3) := dk_167 0 4 (dk_at dksX14_holds_4 4 rfl rfl)
theorem dX14_holds_99 : decode cX14_holds 99 = .ok (.iconst 0, 1) := dk_3 (dk_at dksX14_holds_4 7 rfl rfl)
theorem dX14_holds_100 : decode cX14_holds 100 = .ok (.ireturn, 1) := dk_172 (dk_at dksX14_holds_4 8 rfl rfl)
theorem q137 : (Jvm.Cond.initialized "HighSpots$Compared") ∈ lw_all := lw_g (lw_at lw_m1 21 rfl) rfl
theorem q161 : (Jvm.Cond.fieldLinkNest "HighSpots$Compared" (20 : Nat) "HighSpots$Asked" "isRefused" "Z" "HighSpots") ∈ lw_tbl := lw_at lw_m1 45 rfl
theorem q571 : (Jvm.Cond.instantiable "HighSpots$Compared" (3 : Nat)) ∈ lw_all := lw_g (lw_at lw_m2 215 rfl) rfl
theorem q573 : (Jvm.Cond.instanceMethod ({ cls := "HighSpots$Compared", name := "<init>", desc := "(LHighSpots$Sum;ILHighSpots$Sum;)V" } : Jvm.MethodName)) ∈ lw_all := lw_g (lw_at lw_m2 217 rfl) rfl
theorem q574 : (Jvm.Cond.code ({ cls := "HighSpots$Compared", name := "<init>", desc := "(LHighSpots$Sum;ILHighSpots$Sum;)V" } : Jvm.MethodName) prog_5_method_1_code (4 : Nat) (Option.none : Option Jvm.ClassFile.FieldType)) ∈ lw_all := lw_g (lw_at lw_m2 218 rfl) rfl
theorem q575 : (Jvm.Cond.methodLinkNest "HighSpots$Compared" (1 : Nat) ({ cls := "HighSpots$Condition", name := "<init>", desc := "()V" } : Jvm.MethodName) "HighSpots") ∈ lw_tbl := lw_at lw_m2 219 rfl
theorem q576 : (Jvm.Cond.fieldLink "HighSpots$Compared" (7 : Nat) "HighSpots$Compared" "x" "LHighSpots$Sum;") ∈ lw_all := lw_g (lw_at lw_m2 220 rfl) rfl
theorem q577 : (Jvm.Cond.fieldLink "HighSpots$Compared" (17 : Nat) "HighSpots$Compared" "y" "LHighSpots$Sum;") ∈ lw_all := lw_g (lw_at lw_m2 221 rfl) rfl
theorem q578 : (Jvm.Cond.fieldLink "HighSpots$Compared" (13 : Nat) "HighSpots$Compared" "sign" "I") ∈ lw_all := lw_g (lw_at lw_m2 222 rfl) rfl
theorem q579 : (Jvm.Cond.laysFinal "HighSpots$Compared" "HighSpots$Compared" "x" "LHighSpots$Sum;") ∈ lw_all := lw_g (lw_at lw_m2 223 rfl) rfl
theorem q580 : (Jvm.Cond.soleField "HighSpots$Compared" "x") ∈ lw_all := lw_g (lw_at lw_m2 224 rfl) rfl
theorem q581 : (Jvm.Cond.laysFinal "HighSpots$Compared" "HighSpots$Compared" "y" "LHighSpots$Sum;") ∈ lw_all := lw_g (lw_at lw_m2 225 rfl) rfl
theorem q582 : (Jvm.Cond.soleField "HighSpots$Compared" "y") ∈ lw_all := lw_g (lw_at lw_m2 226 rfl) rfl
theorem q583 : (Jvm.Cond.laysFinal "HighSpots$Compared" "HighSpots$Compared" "sign" "I") ∈ lw_all := lw_g (lw_at lw_m2 227 rfl) rfl
theorem q584 : (Jvm.Cond.soleField "HighSpots$Compared" "sign") ∈ lw_all := lw_g (lw_at lw_m2 228 rfl) rfl
theorem q585 : (Jvm.Cond.superclass "HighSpots$Compared" "HighSpots$Condition") ∈ lw_all := lw_g (lw_at lw_m2 229 rfl) rfl
theorem q1100 : (Jvm.Cond.selects "HighSpots$Compared" ({ cls := "HighSpots$Condition", name := "holds", desc := "(LHighSpots$Asked;)I" } : Jvm.MethodName) ({ cls := "HighSpots$Compared", name := "holds", desc := "(LHighSpots$Asked;)I" } : Jvm.MethodName)) ∈ lw_all := lw_g (lw_at lw_m5 24 rfl) rfl
theorem q1101 : (Jvm.Cond.instanceMethod ({ cls := "HighSpots$Compared", name := "holds", desc := "(LHighSpots$Asked;)I" } : Jvm.MethodName)) ∈ lw_all := lw_g (lw_at lw_m5 25 rfl) rfl
theorem q1102 : (Jvm.Cond.code ({ cls := "HighSpots$Compared", name := "holds", desc := "(LHighSpots$Asked;)I" } : Jvm.MethodName) prog_5_method_2_code (5 : Nat) (Option.some Jvm.ClassFile.FieldType.int)) ∈ lw_all := lw_g (lw_at lw_m5 26 rfl) rfl
theorem q1103 : (Jvm.Cond.methodLink "HighSpots$Compared" (26 : Nat) ({ cls := "HighSpots$Sum", name := "worth", desc := "(LHighSpots$Asked;)I" } : Jvm.MethodName)) ∈ lw_all := lw_g (lw_at lw_m5 27 rfl) rfl
theorem q1871 : (Jvm.Cond.castable "HighSpots$Compared" "HighSpots$Condition") ∈ lw_tbl := lw_at lw_m8 75 rfl
theorem in_X14 : ∀ w ∈ wsX140, w ∈ lw_all := lw_in wsX140 [579, 581, 583] (by decide +kernel) (by decide +kernel)

end
section
/-! HighSpots$Scribe -/
set_option maxRecDepth 100000
def RX15 : String := "HighSpots$Scribe"
abbrev cX15_init : ByteArray := prog_14_method_1_code
def yX15_init : MethodName := ⟨RX15, "<init>", "(LHighSpots;I)V"⟩
def dkwX15_init_0 : List UInt8 := [42, 43, 181, 0, 1, 42, 183, 0, 7, 42, 28, 181, 0, 13, 177]
abbrev dktX15_init_0 : List UInt8 := dkwX15_init_0 ++ []
theorem dksX15_init_0 : cX15_init.data.toList.drop 0 = dktX15_init_0 := by decide +kernel
theorem dX15_init_0 : decode cX15_init 0 = .ok (.aload_n 0, 1) := dk_42 (dk_at dksX15_init_0 0 rfl rfl)
theorem dX15_init_1 : decode cX15_init 1 = .ok (.aload_n 1, 1) := dk_43 (dk_at dksX15_init_0 1 rfl rfl)
theorem dX15_init_2 : decode cX15_init 2 = .ok (.putfield 1, 3) := dk_181 0 1 (dk_at dksX15_init_0 2 rfl rfl)
theorem dX15_init_5 : decode cX15_init 5 = .ok (.aload_n 0, 1) := dk_42 (dk_at dksX15_init_0 5 rfl rfl)
theorem dX15_init_6 : decode cX15_init 6 = .ok (.invokespecial 7, 3) := dk_183 0 7 (dk_at dksX15_init_0 6 rfl rfl)
theorem dX15_init_9 : decode cX15_init 9 = .ok (.aload_n 0, 1) := dk_42 (dk_at dksX15_init_0 9 rfl rfl)
theorem dX15_init_10 : decode cX15_init 10 = .ok (.iload_n 2, 1) := dk_28 (dk_at dksX15_init_0 10 rfl rfl)
theorem dX15_init_11 : decode cX15_init 11 = .ok (.putfield 13, 3) := dk_181 0 13 (dk_at dksX15_init_0 11 rfl rfl)
theorem dX15_init_14 : decode cX15_init 14 = .ok (.return_, 1) := dk_177 (dk_at dksX15_init_0 14 rfl rfl)
abbrev cX15_here : ByteArray := prog_14_method_2_code
def yX15_here : MethodName := ⟨RX15, "here", "()I"⟩
def dkwX15_here_1 : List UInt8 := [17, 0, 255, 126, 167, 0, 4, 3, 172]
abbrev dktX15_here_1 : List UInt8 := dkwX15_here_1 ++ []
def dkwX15_here_0 : List UInt8 := [42, 180, 0, 17, 42, 180, 0, 13, 162, 0, 22, 42, 180, 0, 1, 180, 0, 20, 42, 180, 0, 17, 51]
abbrev dktX15_here_0 : List UInt8 := dkwX15_here_0 ++ dktX15_here_1
theorem dksX15_here_0 : cX15_here.data.toList.drop 0 = dktX15_here_0 := by decide +kernel
theorem dksX15_here_1 : cX15_here.data.toList.drop 23 = dktX15_here_1 := dk_seg dksX15_here_0 23 rfl rfl
theorem dX15_here_0 : decode cX15_here 0 = .ok (.aload_n 0, 1) := dk_42 (dk_at dksX15_here_0 0 rfl rfl)
theorem dX15_here_1 : decode cX15_here 1 = .ok (.getfield 17, 3) := dk_180 0 17 (dk_at dksX15_here_0 1 rfl rfl)
theorem dX15_here_4 : decode cX15_here 4 = .ok (.aload_n 0, 1) := dk_42 (dk_at dksX15_here_0 4 rfl rfl)
theorem dX15_here_5 : decode cX15_here 5 = .ok (.getfield 13, 3) := dk_180 0 13 (dk_at dksX15_here_0 5 rfl rfl)
theorem dX15_here_8 : decode cX15_here 8 = .ok (.if_icmp .ge 22, 3) := dk_162 0 22 (dk_at dksX15_here_0 8 rfl rfl)
theorem dX15_here_11 : decode cX15_here 11 = .ok (.aload_n 0, 1) := dk_42 (dk_at dksX15_here_0 11 rfl rfl)
theorem dX15_here_12 : decode cX15_here 12 = .ok (.getfield 1, 3) := dk_180 0 1 (dk_at dksX15_here_0 12 rfl rfl)
theorem dX15_here_15 : decode cX15_here 15 = .ok (.getfield 20, 3) := dk_180 0 20 (dk_at dksX15_here_0 15 rfl rfl)
theorem dX15_here_18 : decode cX15_here 18 = .ok (.aload_n 0, 1) := dk_42 (dk_at dksX15_here_0 18 rfl rfl)
theorem dX15_here_19 : decode cX15_here 19 = .ok (.getfield 17, 3) := dk_180 0 17 (dk_at dksX15_here_0 19 rfl rfl)
theorem dX15_here_22 : decode cX15_here 22 = .ok (.baload, 1) := dk_51 (dk_at dksX15_here_0 22 rfl rfl)
theorem dX15_here_23 : decode cX15_here 23 = .ok (.sipush 255, 3) := dk_17 0 255 (dk_at dksX15_here_1 0 rfl rfl)
theorem dX15_here_26 : decode cX15_here 26 = .ok (.iand, 1) := dk_126 (dk_at dksX15_here_1 3 rfl rfl)
theorem dX15_here_27 : decode cX15_here 27 = .ok (.goto 4, 3) := dk_167 0 4 (dk_at dksX15_here_1 4 rfl rfl)
theorem dX15_here_30 : decode cX15_here 30 = .ok (.iconst 0, 1) := dk_3 (dk_at dksX15_here_1 7 rfl rfl)
theorem dX15_here_31 : decode cX15_here 31 = .ok (.ireturn, 1) := dk_172 (dk_at dksX15_here_1 8 rfl rfl)
abbrev cX15_place : ByteArray := prog_14_method_3_code
def yX15_place : MethodName := ⟨RX15, "place", "()I"⟩
theorem dX15_place_0 : decode cX15_place 0 = .ok (.aload_n 0, 1) := by decide +kernel
theorem dX15_place_1 : decode cX15_place 1 = .ok (.getfield 17, 3) := by decide +kernel
theorem dX15_place_4 : decode cX15_place 4 = .ok (.ireturn, 1) := by decide +kernel
abbrev cX15_bad : ByteArray := prog_14_method_6_code
def yX15_bad : MethodName := ⟨RX15, "bad", "(II)V"⟩
def dkwX15_bad_0 : List UInt8 := [42, 180, 0, 26, 158, 0, 4, 177, 42, 27, 181, 0, 26, 42, 28, 181, 0, 29, 177]
abbrev dktX15_bad_0 : List UInt8 := dkwX15_bad_0 ++ []
theorem dksX15_bad_0 : cX15_bad.data.toList.drop 0 = dktX15_bad_0 := by decide +kernel
theorem dX15_bad_0 : decode cX15_bad 0 = .ok (.aload_n 0, 1) := dk_42 (dk_at dksX15_bad_0 0 rfl rfl)
theorem dX15_bad_1 : decode cX15_bad 1 = .ok (.getfield 26, 3) := dk_180 0 26 (dk_at dksX15_bad_0 1 rfl rfl)
theorem dX15_bad_4 : decode cX15_bad 4 = .ok (.ifCond .le 4, 3) := dk_158 0 4 (dk_at dksX15_bad_0 4 rfl rfl)
theorem dX15_bad_7 : decode cX15_bad 7 = .ok (.return_, 1) := dk_177 (dk_at dksX15_bad_0 7 rfl rfl)
theorem dX15_bad_8 : decode cX15_bad 8 = .ok (.aload_n 0, 1) := dk_42 (dk_at dksX15_bad_0 8 rfl rfl)
theorem dX15_bad_9 : decode cX15_bad 9 = .ok (.iload_n 1, 1) := dk_27 (dk_at dksX15_bad_0 9 rfl rfl)
theorem dX15_bad_10 : decode cX15_bad 10 = .ok (.putfield 26, 3) := dk_181 0 26 (dk_at dksX15_bad_0 10 rfl rfl)
theorem dX15_bad_13 : decode cX15_bad 13 = .ok (.aload_n 0, 1) := dk_42 (dk_at dksX15_bad_0 13 rfl rfl)
theorem dX15_bad_14 : decode cX15_bad 14 = .ok (.iload_n 2, 1) := dk_28 (dk_at dksX15_bad_0 14 rfl rfl)
theorem dX15_bad_15 : decode cX15_bad 15 = .ok (.putfield 29, 3) := dk_181 0 29 (dk_at dksX15_bad_0 15 rfl rfl)
theorem dX15_bad_18 : decode cX15_bad 18 = .ok (.return_, 1) := dk_177 (dk_at dksX15_bad_0 18 rfl rfl)
abbrev cX15_goesOn : ByteArray := prog_14_method_4_code
def yX15_goesOn : MethodName := ⟨RX15, "goesOn", "()V"⟩
def dkwX15_goesOn_0 : List UInt8 := [42, 89, 180, 0, 17, 4, 96, 181, 0, 17, 177]
abbrev dktX15_goesOn_0 : List UInt8 := dkwX15_goesOn_0 ++ []
theorem dksX15_goesOn_0 : cX15_goesOn.data.toList.drop 0 = dktX15_goesOn_0 := by decide +kernel
theorem dX15_goesOn_0 : decode cX15_goesOn 0 = .ok (.aload_n 0, 1) := dk_42 (dk_at dksX15_goesOn_0 0 rfl rfl)
theorem dX15_goesOn_1 : decode cX15_goesOn 1 = .ok (.dup, 1) := dk_89 (dk_at dksX15_goesOn_0 1 rfl rfl)
theorem dX15_goesOn_2 : decode cX15_goesOn 2 = .ok (.getfield 17, 3) := dk_180 0 17 (dk_at dksX15_goesOn_0 2 rfl rfl)
theorem dX15_goesOn_5 : decode cX15_goesOn 5 = .ok (.iconst 1, 1) := dk_4 (dk_at dksX15_goesOn_0 5 rfl rfl)
theorem dX15_goesOn_6 : decode cX15_goesOn 6 = .ok (.iadd, 1) := dk_96 (dk_at dksX15_goesOn_0 6 rfl rfl)
theorem dX15_goesOn_7 : decode cX15_goesOn 7 = .ok (.putfield 17, 3) := dk_181 0 17 (dk_at dksX15_goesOn_0 7 rfl rfl)
theorem dX15_goesOn_10 : decode cX15_goesOn 10 = .ok (.return_, 1) := dk_177 (dk_at dksX15_goesOn_0 10 rfl rfl)
abbrev cX15_isGood : ByteArray := prog_14_method_7_code
def yX15_isGood : MethodName := ⟨RX15, "isGood", "()Z"⟩
def dkwX15_isGood_0 : List UInt8 := [42, 180, 0, 26, 154, 0, 7, 4, 167, 0, 4, 3, 172]
abbrev dktX15_isGood_0 : List UInt8 := dkwX15_isGood_0 ++ []
theorem dksX15_isGood_0 : cX15_isGood.data.toList.drop 0 = dktX15_isGood_0 := by decide +kernel
theorem dX15_isGood_0 : decode cX15_isGood 0 = .ok (.aload_n 0, 1) := dk_42 (dk_at dksX15_isGood_0 0 rfl rfl)
theorem dX15_isGood_1 : decode cX15_isGood 1 = .ok (.getfield 26, 3) := dk_180 0 26 (dk_at dksX15_isGood_0 1 rfl rfl)
theorem dX15_isGood_4 : decode cX15_isGood 4 = .ok (.ifCond .ne 7, 3) := dk_154 0 7 (dk_at dksX15_isGood_0 4 rfl rfl)
theorem dX15_isGood_7 : decode cX15_isGood 7 = .ok (.iconst 1, 1) := dk_4 (dk_at dksX15_isGood_0 7 rfl rfl)
theorem dX15_isGood_8 : decode cX15_isGood 8 = .ok (.goto 4, 3) := dk_167 0 4 (dk_at dksX15_isGood_0 8 rfl rfl)
theorem dX15_isGood_11 : decode cX15_isGood 11 = .ok (.iconst 0, 1) := dk_3 (dk_at dksX15_isGood_0 11 rfl rfl)
theorem dX15_isGood_12 : decode cX15_isGood 12 = .ok (.ireturn, 1) := dk_172 (dk_at dksX15_isGood_0 12 rfl rfl)
abbrev cX15_must : ByteArray := prog_14_method_10_code
def yX15_must : MethodName := ⟨RX15, "must", "(I)V"⟩
def dkwX15_must_1 : List UInt8 := [42, 89, 180, 0, 17, 4, 96, 181, 0, 17, 177]
abbrev dktX15_must_1 : List UInt8 := dkwX15_must_1 ++ []
def dkwX15_must_0 : List UInt8 := [42, 182, 0, 32, 153, 0, 20, 42, 182, 0, 36, 27, 159, 0, 12, 42, 4, 42, 180, 0, 17, 182, 0, 40]
abbrev dktX15_must_0 : List UInt8 := dkwX15_must_0 ++ dktX15_must_1
theorem dksX15_must_0 : cX15_must.data.toList.drop 0 = dktX15_must_0 := by decide +kernel
theorem dksX15_must_1 : cX15_must.data.toList.drop 24 = dktX15_must_1 := dk_seg dksX15_must_0 24 rfl rfl
theorem dX15_must_0 : decode cX15_must 0 = .ok (.aload_n 0, 1) := dk_42 (dk_at dksX15_must_0 0 rfl rfl)
theorem dX15_must_1 : decode cX15_must 1 = .ok (.invokevirtual 32, 3) := dk_182 0 32 (dk_at dksX15_must_0 1 rfl rfl)
theorem dX15_must_4 : decode cX15_must 4 = .ok (.ifCond .eq 20, 3) := dk_153 0 20 (dk_at dksX15_must_0 4 rfl rfl)
theorem dX15_must_7 : decode cX15_must 7 = .ok (.aload_n 0, 1) := dk_42 (dk_at dksX15_must_0 7 rfl rfl)
theorem dX15_must_8 : decode cX15_must 8 = .ok (.invokevirtual 36, 3) := dk_182 0 36 (dk_at dksX15_must_0 8 rfl rfl)
theorem dX15_must_11 : decode cX15_must 11 = .ok (.iload_n 1, 1) := dk_27 (dk_at dksX15_must_0 11 rfl rfl)
theorem dX15_must_12 : decode cX15_must 12 = .ok (.if_icmp .eq 12, 3) := dk_159 0 12 (dk_at dksX15_must_0 12 rfl rfl)
theorem dX15_must_15 : decode cX15_must 15 = .ok (.aload_n 0, 1) := dk_42 (dk_at dksX15_must_0 15 rfl rfl)
theorem dX15_must_16 : decode cX15_must 16 = .ok (.iconst 1, 1) := dk_4 (dk_at dksX15_must_0 16 rfl rfl)
theorem dX15_must_17 : decode cX15_must 17 = .ok (.aload_n 0, 1) := dk_42 (dk_at dksX15_must_0 17 rfl rfl)
theorem dX15_must_18 : decode cX15_must 18 = .ok (.getfield 17, 3) := dk_180 0 17 (dk_at dksX15_must_0 18 rfl rfl)
theorem dX15_must_21 : decode cX15_must 21 = .ok (.invokevirtual 40, 3) := dk_182 0 40 (dk_at dksX15_must_0 21 rfl rfl)
theorem dX15_must_24 : decode cX15_must 24 = .ok (.aload_n 0, 1) := dk_42 (dk_at dksX15_must_1 0 rfl rfl)
theorem dX15_must_25 : decode cX15_must 25 = .ok (.dup, 1) := dk_89 (dk_at dksX15_must_1 1 rfl rfl)
theorem dX15_must_26 : decode cX15_must 26 = .ok (.getfield 17, 3) := dk_180 0 17 (dk_at dksX15_must_1 2 rfl rfl)
theorem dX15_must_29 : decode cX15_must 29 = .ok (.iconst 1, 1) := dk_4 (dk_at dksX15_must_1 5 rfl rfl)
theorem dX15_must_30 : decode cX15_must 30 = .ok (.iadd, 1) := dk_96 (dk_at dksX15_must_1 6 rfl rfl)
theorem dX15_must_31 : decode cX15_must 31 = .ok (.putfield 17, 3) := dk_181 0 17 (dk_at dksX15_must_1 7 rfl rfl)
theorem dX15_must_34 : decode cX15_must 34 = .ok (.return_, 1) := dk_177 (dk_at dksX15_must_1 10 rfl rfl)
abbrev cX15_times : ByteArray := prog_14_method_11_code
def yX15_times : MethodName := ⟨RX15, "times", "(I)I"⟩
def dkwX15_times_1 : List UInt8 := [164, 0, 13, 42, 89, 180, 0, 17, 4, 96, 181, 0, 17, 28, 172]
abbrev dktX15_times_1 : List UInt8 := dkwX15_times_1 ++ []
def dkwX15_times_0 : List UInt8 := [42, 16, 50, 27, 182, 0, 44, 153, 0, 13, 42, 182, 0, 36, 16, 48, 100, 167, 0, 4, 4, 61, 28, 4]
abbrev dktX15_times_0 : List UInt8 := dkwX15_times_0 ++ dktX15_times_1
theorem dksX15_times_0 : cX15_times.data.toList.drop 0 = dktX15_times_0 := by decide +kernel
theorem dksX15_times_1 : cX15_times.data.toList.drop 24 = dktX15_times_1 := dk_seg dksX15_times_0 24 rfl rfl
theorem dX15_times_0 : decode cX15_times 0 = .ok (.aload_n 0, 1) := dk_42 (dk_at dksX15_times_0 0 rfl rfl)
theorem dX15_times_1 : decode cX15_times 1 = .ok (.bipush 50, 2) := dk_16 50 (dk_at dksX15_times_0 1 rfl rfl)
theorem dX15_times_3 : decode cX15_times 3 = .ok (.iload_n 1, 1) := dk_27 (dk_at dksX15_times_0 3 rfl rfl)
theorem dX15_times_4 : decode cX15_times 4 = .ok (.invokevirtual 44, 3) := dk_182 0 44 (dk_at dksX15_times_0 4 rfl rfl)
theorem dX15_times_7 : decode cX15_times 7 = .ok (.ifCond .eq 13, 3) := dk_153 0 13 (dk_at dksX15_times_0 7 rfl rfl)
theorem dX15_times_10 : decode cX15_times 10 = .ok (.aload_n 0, 1) := dk_42 (dk_at dksX15_times_0 10 rfl rfl)
theorem dX15_times_11 : decode cX15_times 11 = .ok (.invokevirtual 36, 3) := dk_182 0 36 (dk_at dksX15_times_0 11 rfl rfl)
theorem dX15_times_14 : decode cX15_times 14 = .ok (.bipush 48, 2) := dk_16 48 (dk_at dksX15_times_0 14 rfl rfl)
theorem dX15_times_16 : decode cX15_times 16 = .ok (.isub, 1) := dk_100 (dk_at dksX15_times_0 16 rfl rfl)
theorem dX15_times_17 : decode cX15_times 17 = .ok (.goto 4, 3) := dk_167 0 4 (dk_at dksX15_times_0 17 rfl rfl)
theorem dX15_times_20 : decode cX15_times 20 = .ok (.iconst 1, 1) := dk_4 (dk_at dksX15_times_0 20 rfl rfl)
theorem dX15_times_21 : decode cX15_times 21 = .ok (.istore_n 2, 1) := dk_61 (dk_at dksX15_times_0 21 rfl rfl)
theorem dX15_times_22 : decode cX15_times 22 = .ok (.iload_n 2, 1) := dk_28 (dk_at dksX15_times_0 22 rfl rfl)
theorem dX15_times_23 : decode cX15_times 23 = .ok (.iconst 1, 1) := dk_4 (dk_at dksX15_times_0 23 rfl rfl)
theorem dX15_times_24 : decode cX15_times 24 = .ok (.if_icmp .le 13, 3) := dk_164 0 13 (dk_at dksX15_times_1 0 rfl rfl)
theorem dX15_times_27 : decode cX15_times 27 = .ok (.aload_n 0, 1) := dk_42 (dk_at dksX15_times_1 3 rfl rfl)
theorem dX15_times_28 : decode cX15_times 28 = .ok (.dup, 1) := dk_89 (dk_at dksX15_times_1 4 rfl rfl)
theorem dX15_times_29 : decode cX15_times 29 = .ok (.getfield 17, 3) := dk_180 0 17 (dk_at dksX15_times_1 5 rfl rfl)
theorem dX15_times_32 : decode cX15_times 32 = .ok (.iconst 1, 1) := dk_4 (dk_at dksX15_times_1 8 rfl rfl)
theorem dX15_times_33 : decode cX15_times 33 = .ok (.iadd, 1) := dk_96 (dk_at dksX15_times_1 9 rfl rfl)
theorem dX15_times_34 : decode cX15_times 34 = .ok (.putfield 17, 3) := dk_181 0 17 (dk_at dksX15_times_1 10 rfl rfl)
theorem dX15_times_37 : decode cX15_times 37 = .ok (.iload_n 2, 1) := dk_28 (dk_at dksX15_times_1 13 rfl rfl)
theorem dX15_times_38 : decode cX15_times 38 = .ok (.ireturn, 1) := dk_172 (dk_at dksX15_times_1 14 rfl rfl)
abbrev cX15_sees : ByteArray := prog_14_method_9_code
def yX15_sees : MethodName := ⟨RX15, "sees", "(II)Z"⟩
def dkwX15_sees_0 : List UInt8 := [42, 182, 0, 36, 27, 161, 0, 15, 42, 182, 0, 36, 28, 163, 0, 7, 4, 167, 0, 4, 3, 172]
abbrev dktX15_sees_0 : List UInt8 := dkwX15_sees_0 ++ []
theorem dksX15_sees_0 : cX15_sees.data.toList.drop 0 = dktX15_sees_0 := by decide +kernel
theorem dX15_sees_0 : decode cX15_sees 0 = .ok (.aload_n 0, 1) := dk_42 (dk_at dksX15_sees_0 0 rfl rfl)
theorem dX15_sees_1 : decode cX15_sees 1 = .ok (.invokevirtual 36, 3) := dk_182 0 36 (dk_at dksX15_sees_0 1 rfl rfl)
theorem dX15_sees_4 : decode cX15_sees 4 = .ok (.iload_n 1, 1) := dk_27 (dk_at dksX15_sees_0 4 rfl rfl)
theorem dX15_sees_5 : decode cX15_sees 5 = .ok (.if_icmp .lt 15, 3) := dk_161 0 15 (dk_at dksX15_sees_0 5 rfl rfl)
theorem dX15_sees_8 : decode cX15_sees 8 = .ok (.aload_n 0, 1) := dk_42 (dk_at dksX15_sees_0 8 rfl rfl)
theorem dX15_sees_9 : decode cX15_sees 9 = .ok (.invokevirtual 36, 3) := dk_182 0 36 (dk_at dksX15_sees_0 9 rfl rfl)
theorem dX15_sees_12 : decode cX15_sees 12 = .ok (.iload_n 2, 1) := dk_28 (dk_at dksX15_sees_0 12 rfl rfl)
theorem dX15_sees_13 : decode cX15_sees 13 = .ok (.if_icmp .gt 7, 3) := dk_163 0 7 (dk_at dksX15_sees_0 13 rfl rfl)
theorem dX15_sees_16 : decode cX15_sees 16 = .ok (.iconst 1, 1) := dk_4 (dk_at dksX15_sees_0 16 rfl rfl)
theorem dX15_sees_17 : decode cX15_sees 17 = .ok (.goto 4, 3) := dk_167 0 4 (dk_at dksX15_sees_0 17 rfl rfl)
theorem dX15_sees_20 : decode cX15_sees 20 = .ok (.iconst 0, 1) := dk_3 (dk_at dksX15_sees_0 20 rfl rfl)
theorem dX15_sees_21 : decode cX15_sees 21 = .ok (.ireturn, 1) := dk_172 (dk_at dksX15_sees_0 21 rfl rfl)
abbrev cX15_isEnd : ByteArray := prog_14_method_5_code
def yX15_isEnd : MethodName := ⟨RX15, "isEnd", "()Z"⟩
def dkwX15_isEnd_0 : List UInt8 := [42, 180, 0, 17, 42, 180, 0, 13, 161, 0, 7, 4, 167, 0, 4, 3, 172]
abbrev dktX15_isEnd_0 : List UInt8 := dkwX15_isEnd_0 ++ []
theorem dksX15_isEnd_0 : cX15_isEnd.data.toList.drop 0 = dktX15_isEnd_0 := by decide +kernel
theorem dX15_isEnd_0 : decode cX15_isEnd 0 = .ok (.aload_n 0, 1) := dk_42 (dk_at dksX15_isEnd_0 0 rfl rfl)
theorem dX15_isEnd_1 : decode cX15_isEnd 1 = .ok (.getfield 17, 3) := dk_180 0 17 (dk_at dksX15_isEnd_0 1 rfl rfl)
theorem dX15_isEnd_4 : decode cX15_isEnd 4 = .ok (.aload_n 0, 1) := dk_42 (dk_at dksX15_isEnd_0 4 rfl rfl)
theorem dX15_isEnd_5 : decode cX15_isEnd 5 = .ok (.getfield 13, 3) := dk_180 0 13 (dk_at dksX15_isEnd_0 5 rfl rfl)
theorem dX15_isEnd_8 : decode cX15_isEnd 8 = .ok (.if_icmp .lt 7, 3) := dk_161 0 7 (dk_at dksX15_isEnd_0 8 rfl rfl)
theorem dX15_isEnd_11 : decode cX15_isEnd 11 = .ok (.iconst 1, 1) := dk_4 (dk_at dksX15_isEnd_0 11 rfl rfl)
theorem dX15_isEnd_12 : decode cX15_isEnd 12 = .ok (.goto 4, 3) := dk_167 0 4 (dk_at dksX15_isEnd_0 12 rfl rfl)
theorem dX15_isEnd_15 : decode cX15_isEnd 15 = .ok (.iconst 0, 1) := dk_3 (dk_at dksX15_isEnd_0 15 rfl rfl)
theorem dX15_isEnd_16 : decode cX15_isEnd 16 = .ok (.ireturn, 1) := dk_172 (dk_at dksX15_isEnd_0 16 rfl rfl)
abbrev cX15_answer : ByteArray := prog_14_method_8_code
def yX15_answer : MethodName := ⟨RX15, "answer", "(I)I"⟩
def dkwX15_answer_1 : List UInt8 := [172]
abbrev dktX15_answer_1 : List UInt8 := dkwX15_answer_1 ++ []
def dkwX15_answer_0 : List UInt8 := [42, 182, 0, 32, 153, 0, 7, 27, 167, 0, 16, 17, 252, 24, 42, 180, 0, 26, 104, 42, 180, 0, 29, 100]
abbrev dktX15_answer_0 : List UInt8 := dkwX15_answer_0 ++ dktX15_answer_1
theorem dksX15_answer_0 : cX15_answer.data.toList.drop 0 = dktX15_answer_0 := by decide +kernel
theorem dksX15_answer_1 : cX15_answer.data.toList.drop 24 = dktX15_answer_1 := dk_seg dksX15_answer_0 24 rfl rfl
theorem dX15_answer_0 : decode cX15_answer 0 = .ok (.aload_n 0, 1) := dk_42 (dk_at dksX15_answer_0 0 rfl rfl)
theorem dX15_answer_1 : decode cX15_answer 1 = .ok (.invokevirtual 32, 3) := dk_182 0 32 (dk_at dksX15_answer_0 1 rfl rfl)
theorem dX15_answer_4 : decode cX15_answer 4 = .ok (.ifCond .eq 7, 3) := dk_153 0 7 (dk_at dksX15_answer_0 4 rfl rfl)
theorem dX15_answer_7 : decode cX15_answer 7 = .ok (.iload_n 1, 1) := dk_27 (dk_at dksX15_answer_0 7 rfl rfl)
theorem dX15_answer_8 : decode cX15_answer 8 = .ok (.goto 16, 3) := dk_167 0 16 (dk_at dksX15_answer_0 8 rfl rfl)
theorem dX15_answer_11 : decode cX15_answer 11 = .ok (.sipush (-1000), 3) := dk_17 252 24 (dk_at dksX15_answer_0 11 rfl rfl)
theorem dX15_answer_14 : decode cX15_answer 14 = .ok (.aload_n 0, 1) := dk_42 (dk_at dksX15_answer_0 14 rfl rfl)
theorem dX15_answer_15 : decode cX15_answer 15 = .ok (.getfield 26, 3) := dk_180 0 26 (dk_at dksX15_answer_0 15 rfl rfl)
theorem dX15_answer_18 : decode cX15_answer 18 = .ok (.imul, 1) := dk_104 (dk_at dksX15_answer_0 18 rfl rfl)
theorem dX15_answer_19 : decode cX15_answer 19 = .ok (.aload_n 0, 1) := dk_42 (dk_at dksX15_answer_0 19 rfl rfl)
theorem dX15_answer_20 : decode cX15_answer 20 = .ok (.getfield 29, 3) := dk_180 0 29 (dk_at dksX15_answer_0 20 rfl rfl)
theorem dX15_answer_23 : decode cX15_answer 23 = .ok (.isub, 1) := dk_100 (dk_at dksX15_answer_0 23 rfl rfl)
theorem dX15_answer_24 : decode cX15_answer 24 = .ok (.ireturn, 1) := dk_172 (dk_at dksX15_answer_1 0 rfl rfl)
theorem q138 : (Jvm.Cond.initialized "HighSpots$Scribe") ∈ lw_all := lw_g (lw_at lw_m1 22 rfl) rfl
theorem q246 : (Jvm.Cond.fieldLinkNest "HighSpots$Scribe" (20 : Nat) "HighSpots" "tape" "[B" "HighSpots") ∈ lw_tbl := lw_at lw_m1 130 rfl
theorem q611 : (Jvm.Cond.instanceMethod ({ cls := "HighSpots$Scribe", name := "<init>", desc := "(LHighSpots;I)V" } : Jvm.MethodName)) ∈ lw_all := lw_g (lw_at lw_m3 15 rfl) rfl
theorem q612 : (Jvm.Cond.code ({ cls := "HighSpots$Scribe", name := "<init>", desc := "(LHighSpots;I)V" } : Jvm.MethodName) prog_14_method_1_code (3 : Nat) (Option.none : Option Jvm.ClassFile.FieldType)) ∈ lw_all := lw_g (lw_at lw_m3 16 rfl) rfl
theorem q613 : (Jvm.Cond.methodLink "HighSpots$Scribe" (7 : Nat) ({ cls := "java/lang/Object", name := "<init>", desc := "()V" } : Jvm.MethodName)) ∈ lw_all := lw_g (lw_at lw_m3 17 rfl) rfl
theorem q620 : (Jvm.Cond.fieldLink "HighSpots$Scribe" (13 : Nat) "HighSpots$Scribe" "n" "I") ∈ lw_all := lw_g (lw_at lw_m3 24 rfl) rfl
theorem q621 : (Jvm.Cond.fieldLink "HighSpots$Scribe" (17 : Nat) "HighSpots$Scribe" "at" "I") ∈ lw_all := lw_g (lw_at lw_m3 25 rfl) rfl
theorem q622 : (Jvm.Cond.fieldLink "HighSpots$Scribe" (26 : Nat) "HighSpots$Scribe" "fault" "I") ∈ lw_all := lw_g (lw_at lw_m3 26 rfl) rfl
theorem q623 : (Jvm.Cond.fieldLink "HighSpots$Scribe" (29 : Nat) "HighSpots$Scribe" "place" "I") ∈ lw_all := lw_g (lw_at lw_m3 27 rfl) rfl
theorem q624 : (Jvm.Cond.fieldLink "HighSpots$Scribe" (1 : Nat) "HighSpots$Scribe" "this$0" "LHighSpots;") ∈ lw_all := lw_g (lw_at lw_m3 28 rfl) rfl
theorem q634 : (Jvm.Cond.soleField "HighSpots$Scribe" "n") ∈ lw_all := lw_g (lw_at lw_m3 38 rfl) rfl
theorem q636 : (Jvm.Cond.soleField "HighSpots$Scribe" "at") ∈ lw_all := lw_g (lw_at lw_m3 40 rfl) rfl
theorem q638 : (Jvm.Cond.soleField "HighSpots$Scribe" "fault") ∈ lw_all := lw_g (lw_at lw_m3 42 rfl) rfl
theorem q640 : (Jvm.Cond.soleField "HighSpots$Scribe" "place") ∈ lw_all := lw_g (lw_at lw_m3 44 rfl) rfl
theorem q642 : (Jvm.Cond.soleField "HighSpots$Scribe" "this$0") ∈ lw_all := lw_g (lw_at lw_m3 46 rfl) rfl
theorem q654 : (Jvm.Cond.declares ({ cls := "HighSpots$Scribe", name := "here", desc := "()I" } : Jvm.MethodName)) ∈ lw_tbl := lw_at lw_m3 58 rfl
theorem q656 : (Jvm.Cond.instanceMethod ({ cls := "HighSpots$Scribe", name := "here", desc := "()I" } : Jvm.MethodName)) ∈ lw_all := lw_g (lw_at lw_m3 60 rfl) rfl
theorem q657 : (Jvm.Cond.code ({ cls := "HighSpots$Scribe", name := "here", desc := "()I" } : Jvm.MethodName) prog_14_method_2_code (1 : Nat) (Option.some Jvm.ClassFile.FieldType.int)) ∈ lw_all := lw_g (lw_at lw_m3 61 rfl) rfl
theorem q660 : (Jvm.Cond.declares ({ cls := "HighSpots$Scribe", name := "place", desc := "()I" } : Jvm.MethodName)) ∈ lw_tbl := lw_at lw_m3 64 rfl
theorem q662 : (Jvm.Cond.instanceMethod ({ cls := "HighSpots$Scribe", name := "place", desc := "()I" } : Jvm.MethodName)) ∈ lw_all := lw_g (lw_at lw_m3 66 rfl) rfl
theorem q663 : (Jvm.Cond.code ({ cls := "HighSpots$Scribe", name := "place", desc := "()I" } : Jvm.MethodName) prog_14_method_3_code (1 : Nat) (Option.some Jvm.ClassFile.FieldType.int)) ∈ lw_all := lw_g (lw_at lw_m3 67 rfl) rfl
theorem q666 : (Jvm.Cond.declares ({ cls := "HighSpots$Scribe", name := "bad", desc := "(II)V" } : Jvm.MethodName)) ∈ lw_tbl := lw_at lw_m3 70 rfl
theorem q668 : (Jvm.Cond.instanceMethod ({ cls := "HighSpots$Scribe", name := "bad", desc := "(II)V" } : Jvm.MethodName)) ∈ lw_all := lw_g (lw_at lw_m3 72 rfl) rfl
theorem q669 : (Jvm.Cond.code ({ cls := "HighSpots$Scribe", name := "bad", desc := "(II)V" } : Jvm.MethodName) prog_14_method_6_code (3 : Nat) (Option.none : Option Jvm.ClassFile.FieldType)) ∈ lw_all := lw_g (lw_at lw_m3 73 rfl) rfl
theorem q672 : (Jvm.Cond.declares ({ cls := "HighSpots$Scribe", name := "goesOn", desc := "()V" } : Jvm.MethodName)) ∈ lw_tbl := lw_at lw_m3 76 rfl
theorem q674 : (Jvm.Cond.instanceMethod ({ cls := "HighSpots$Scribe", name := "goesOn", desc := "()V" } : Jvm.MethodName)) ∈ lw_all := lw_g (lw_at lw_m3 78 rfl) rfl
theorem q675 : (Jvm.Cond.code ({ cls := "HighSpots$Scribe", name := "goesOn", desc := "()V" } : Jvm.MethodName) prog_14_method_4_code (1 : Nat) (Option.none : Option Jvm.ClassFile.FieldType)) ∈ lw_all := lw_g (lw_at lw_m3 79 rfl) rfl
theorem q678 : (Jvm.Cond.declares ({ cls := "HighSpots$Scribe", name := "isGood", desc := "()Z" } : Jvm.MethodName)) ∈ lw_tbl := lw_at lw_m3 82 rfl
theorem q680 : (Jvm.Cond.instanceMethod ({ cls := "HighSpots$Scribe", name := "isGood", desc := "()Z" } : Jvm.MethodName)) ∈ lw_all := lw_g (lw_at lw_m3 84 rfl) rfl
theorem q681 : (Jvm.Cond.code ({ cls := "HighSpots$Scribe", name := "isGood", desc := "()Z" } : Jvm.MethodName) prog_14_method_7_code (1 : Nat) (Option.some Jvm.ClassFile.FieldType.boolean)) ∈ lw_all := lw_g (lw_at lw_m3 85 rfl) rfl
theorem q685 : (Jvm.Cond.declares ({ cls := "HighSpots$Scribe", name := "must", desc := "(I)V" } : Jvm.MethodName)) ∈ lw_tbl := lw_at lw_m3 89 rfl
theorem q687 : (Jvm.Cond.instanceMethod ({ cls := "HighSpots$Scribe", name := "must", desc := "(I)V" } : Jvm.MethodName)) ∈ lw_all := lw_g (lw_at lw_m3 91 rfl) rfl
theorem q688 : (Jvm.Cond.code ({ cls := "HighSpots$Scribe", name := "must", desc := "(I)V" } : Jvm.MethodName) prog_14_method_10_code (2 : Nat) (Option.none : Option Jvm.ClassFile.FieldType)) ∈ lw_all := lw_g (lw_at lw_m3 92 rfl) rfl
theorem q689 : (Jvm.Cond.methodLink "HighSpots$Scribe" (32 : Nat) ({ cls := "HighSpots$Scribe", name := "isGood", desc := "()Z" } : Jvm.MethodName)) ∈ lw_all := lw_g (lw_at lw_m3 93 rfl) rfl
theorem q690 : (Jvm.Cond.methodLink "HighSpots$Scribe" (36 : Nat) ({ cls := "HighSpots$Scribe", name := "here", desc := "()I" } : Jvm.MethodName)) ∈ lw_all := lw_g (lw_at lw_m3 94 rfl) rfl
theorem q691 : (Jvm.Cond.methodLink "HighSpots$Scribe" (40 : Nat) ({ cls := "HighSpots$Scribe", name := "bad", desc := "(II)V" } : Jvm.MethodName)) ∈ lw_all := lw_g (lw_at lw_m3 95 rfl) rfl
theorem q698 : (Jvm.Cond.declares ({ cls := "HighSpots$Scribe", name := "times", desc := "(I)I" } : Jvm.MethodName)) ∈ lw_tbl := lw_at lw_m3 102 rfl
theorem q700 : (Jvm.Cond.instanceMethod ({ cls := "HighSpots$Scribe", name := "times", desc := "(I)I" } : Jvm.MethodName)) ∈ lw_all := lw_g (lw_at lw_m3 104 rfl) rfl
theorem q701 : (Jvm.Cond.code ({ cls := "HighSpots$Scribe", name := "times", desc := "(I)I" } : Jvm.MethodName) prog_14_method_11_code (3 : Nat) (Option.some Jvm.ClassFile.FieldType.int)) ∈ lw_all := lw_g (lw_at lw_m3 105 rfl) rfl
theorem q702 : (Jvm.Cond.methodLink "HighSpots$Scribe" (44 : Nat) ({ cls := "HighSpots$Scribe", name := "sees", desc := "(II)Z" } : Jvm.MethodName)) ∈ lw_all := lw_g (lw_at lw_m3 106 rfl) rfl
theorem q703 : (Jvm.Cond.instanceMethod ({ cls := "HighSpots$Scribe", name := "sees", desc := "(II)Z" } : Jvm.MethodName)) ∈ lw_all := lw_g (lw_at lw_m3 107 rfl) rfl
theorem q704 : (Jvm.Cond.sameMethod "HighSpots$Scribe" "HighSpots$Scribe" "sees" "(II)Z") ∈ lw_all := lw_g (lw_at lw_m3 108 rfl) rfl
theorem q707 : (Jvm.Cond.code ({ cls := "HighSpots$Scribe", name := "sees", desc := "(II)Z" } : Jvm.MethodName) prog_14_method_9_code (3 : Nat) (Option.some Jvm.ClassFile.FieldType.boolean)) ∈ lw_all := lw_g (lw_at lw_m3 111 rfl) rfl
theorem q710 : (Jvm.Cond.declares ({ cls := "HighSpots$Scribe", name := "sees", desc := "(II)Z" } : Jvm.MethodName)) ∈ lw_tbl := lw_at lw_m3 114 rfl
theorem q714 : (Jvm.Cond.declares ({ cls := "HighSpots$Scribe", name := "isEnd", desc := "()Z" } : Jvm.MethodName)) ∈ lw_tbl := lw_at lw_m3 118 rfl
theorem q716 : (Jvm.Cond.instanceMethod ({ cls := "HighSpots$Scribe", name := "isEnd", desc := "()Z" } : Jvm.MethodName)) ∈ lw_all := lw_g (lw_at lw_m3 120 rfl) rfl
theorem q717 : (Jvm.Cond.code ({ cls := "HighSpots$Scribe", name := "isEnd", desc := "()Z" } : Jvm.MethodName) prog_14_method_5_code (1 : Nat) (Option.some Jvm.ClassFile.FieldType.boolean)) ∈ lw_all := lw_g (lw_at lw_m3 121 rfl) rfl
theorem q720 : (Jvm.Cond.declares ({ cls := "HighSpots$Scribe", name := "answer", desc := "(I)I" } : Jvm.MethodName)) ∈ lw_tbl := lw_at lw_m3 124 rfl
theorem q722 : (Jvm.Cond.instanceMethod ({ cls := "HighSpots$Scribe", name := "answer", desc := "(I)I" } : Jvm.MethodName)) ∈ lw_all := lw_g (lw_at lw_m3 126 rfl) rfl
theorem q723 : (Jvm.Cond.code ({ cls := "HighSpots$Scribe", name := "answer", desc := "(I)I" } : Jvm.MethodName) prog_14_method_8_code (2 : Nat) (Option.some Jvm.ClassFile.FieldType.int)) ∈ lw_all := lw_g (lw_at lw_m3 127 rfl) rfl
theorem q1857 : (Jvm.Cond.sameMethod "HighSpots$Scribe" "HighSpots$Scribe" "isGood" "()Z") ∈ lw_all := lw_g (lw_at lw_m8 61 rfl) rfl
theorem q1860 : (Jvm.Cond.sameMethod "HighSpots$Scribe" "HighSpots$Scribe" "here" "()I") ∈ lw_all := lw_g (lw_at lw_m8 64 rfl) rfl
theorem q1863 : (Jvm.Cond.sameMethod "HighSpots$Scribe" "HighSpots$Scribe" "bad" "(II)V") ∈ lw_all := lw_g (lw_at lw_m8 67 rfl) rfl

end