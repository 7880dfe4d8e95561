section
/-! HighSpots$Bench -/
set_option maxRecDepth 100000
def RX3 : String := "HighSpots$Bench"
def TX3 : u_T := fun k => match k with
  | 0 => ("HighSpots$Bench", "heights", "[[I", true)
  | 1 => ("HighSpots$Bench", "worn", "[I", true)
  | 2 => ("HighSpots$Bench", "night", "I", false)
  | 3 => ("HighSpots$Bench", "x", "I", false)
  | 4 => ("HighSpots$Bench", "wornNow", "I", false)
  | _ => ("HighSpots$Bench", "this$0", "LHighSpots;", true)
def tyX3 : Nat → FieldType := fun k => match k with
  | 0 => .array (.array .int)
  | 1 => .array .int
  | 2 => .int
  | 3 => .int
  | 4 => .int
  | _ => .object "HighSpots"
abbrev wsX30 : List Cond := u_ws RX3 TX3 6
theorem nmX3 : ∀ a, a < 6 → ∀ b, b < 6 → a ≠ b → (TX3 a).2.1 ≠ (TX3 b).2.1 := by decide +kernel
theorem tyX3_ok : ∀ k, k < 6 → parseFieldDescriptor (TX3 k).2.2.1 = some (tyX3 k) := by decide +kernel
abbrev cX3_init : ByteArray := prog_3_method_1_code
def yX3_init : MethodName := ⟨RX3, "<init>", "(LHighSpots;)V"⟩
def dkwX3_init_1 : List UInt8 := [181, 0, 20, 177]
abbrev dktX3_init_1 : List UInt8 := dkwX3_init_1 ++ []
def dkwX3_init_0 : List UInt8 := [42, 43, 181, 0, 3, 42, 183, 0, 9, 42, 5, 16, 48, 197, 0, 15, 2, 181, 0, 17, 42, 5, 188, 10]
abbrev dktX3_init_0 : List UInt8 := dkwX3_init_0 ++ dktX3_init_1
theorem dksX3_init_0 : cX3_init.data.toList.drop 0 = dktX3_init_0 := by decide +kernel
theorem dksX3_init_1 : cX3_init.data.toList.drop 24 = dktX3_init_1 := dk_seg dksX3_init_0 24 rfl rfl
theorem dX3_init_0 : decode cX3_init 0 = .ok (.aload_n 0, 1) := dk_42 (dk_at dksX3_init_0 0 rfl rfl)
theorem dX3_init_1 : decode cX3_init 1 = .ok (.aload_n 1, 1) := dk_43 (dk_at dksX3_init_0 1 rfl rfl)
theorem dX3_init_2 : decode cX3_init 2 = .ok (.putfield 3, 3) := dk_181 0 3 (dk_at dksX3_init_0 2 rfl rfl)
theorem dX3_init_5 : decode cX3_init 5 = .ok (.aload_n 0, 1) := dk_42 (dk_at dksX3_init_0 5 rfl rfl)
theorem dX3_init_6 : decode cX3_init 6 = .ok (.invokespecial 9, 3) := dk_183 0 9 (dk_at dksX3_init_0 6 rfl rfl)
theorem dX3_init_9 : decode cX3_init 9 = .ok (.aload_n 0, 1) := dk_42 (dk_at dksX3_init_0 9 rfl rfl)
theorem dX3_init_10 : decode cX3_init 10 = .ok (.iconst 2, 1) := dk_5 (dk_at dksX3_init_0 10 rfl rfl)
theorem dX3_init_11 : decode cX3_init 11 = .ok (.bipush 48, 2) := dk_16 48 (dk_at dksX3_init_0 11 rfl rfl)
theorem dX3_init_13 : decode cX3_init 13 = .ok (.multianewarray 15 2, 4) := by decide +kernel
theorem dX3_init_17 : decode cX3_init 17 = .ok (.putfield 17, 3) := dk_181 0 17 (dk_at dksX3_init_0 17 rfl rfl)
theorem dX3_init_20 : decode cX3_init 20 = .ok (.aload_n 0, 1) := dk_42 (dk_at dksX3_init_0 20 rfl rfl)
theorem dX3_init_21 : decode cX3_init 21 = .ok (.iconst 2, 1) := dk_5 (dk_at dksX3_init_0 21 rfl rfl)
theorem dX3_init_22 : decode cX3_init 22 = .ok (.newarray .int, 2) := dk_188_10 (dk_at dksX3_init_0 22 rfl rfl)
theorem dX3_init_24 : decode cX3_init 24 = .ok (.putfield 20, 3) := dk_181 0 20 (dk_at dksX3_init_1 0 rfl rfl)
theorem dX3_init_27 : decode cX3_init 27 = .ok (.return_, 1) := dk_177 (dk_at dksX3_init_1 3 rfl rfl)
abbrev cX3_marks : ByteArray := prog_3_method_5_code
def yX3_marks : MethodName := ⟨RX3, "marks", "(II)I"⟩
def dkwX3_marks_3 : List UInt8 := [51, 153, 0, 7, 4, 167, 0, 4, 3, 96, 62, 132, 5, 1, 167, 255, 188, 29, 172]
abbrev dktX3_marks_3 : List UInt8 := dkwX3_marks_3 ++ []
def dkwX3_marks_2 : List UInt8 := [182, 0, 35, 21, 4, 161, 0, 7, 4, 167, 0, 4, 3, 84, 29, 42, 180, 0, 3, 180, 0, 47, 21, 5]
abbrev dktX3_marks_2 : List UInt8 := dkwX3_marks_2 ++ dktX3_marks_3
def dkwX3_marks_1 : List UInt8 := [180, 0, 3, 180, 0, 47, 21, 5, 21, 5, 27, 184, 0, 31, 2, 159, 0, 19, 42, 21, 5, 27]
abbrev dktX3_marks_1 : List UInt8 := dkwX3_marks_1 ++ dktX3_marks_2
def dkwX3_marks_0 : List UInt8 := [3, 62, 42, 27, 182, 0, 43, 28, 100, 54, 4, 3, 54, 5, 21, 5, 16, 48, 162, 0, 67, 42]
abbrev dktX3_marks_0 : List UInt8 := dkwX3_marks_0 ++ dktX3_marks_1
theorem dksX3_marks_0 : cX3_marks.data.toList.drop 0 = dktX3_marks_0 := by decide +kernel
theorem dksX3_marks_1 : cX3_marks.data.toList.drop 22 = dktX3_marks_1 := dk_seg dksX3_marks_0 22 rfl rfl
theorem dksX3_marks_2 : cX3_marks.data.toList.drop 44 = dktX3_marks_2 := dk_seg dksX3_marks_1 22 rfl rfl
theorem dksX3_marks_3 : cX3_marks.data.toList.drop 68 = dktX3_marks_3 := dk_seg dksX3_marks_2 24 rfl rfl
theorem dX3_marks_0 : decode cX3_marks 0 = .ok (.iconst 0, 1) := dk_3 (dk_at dksX3_marks_0 0 rfl rfl)
theorem dX3_marks_1 : decode cX3_marks 1 = .ok (.istore_n 3, 1) := dk_62 (dk_at dksX3_marks_0 1 rfl rfl)
theorem dX3_marks_2 : decode cX3_marks 2 = .ok (.aload_n 0, 1) := dk_42 (dk_at dksX3_marks_0 2 rfl rfl)
theorem dX3_marks_3 : decode cX3_marks 3 = .ok (.iload_n 1, 1) := dk_27 (dk_at dksX3_marks_0 3 rfl rfl)
theorem dX3_marks_4 : decode cX3_marks 4 = .ok (.invokevirtual 43, 3) := dk_182 0 43 (dk_at dksX3_marks_0 4 rfl rfl)
theorem dX3_marks_7 : decode cX3_marks 7 = .ok (.iload_n 2, 1) := dk_28 (dk_at dksX3_marks_0 7 rfl rfl)
theorem dX3_marks_8 : decode cX3_marks 8 = .ok (.isub, 1) := dk_100 (dk_at dksX3_marks_0 8 rfl rfl)
theorem dX3_marks_9 : decode cX3_marks 9 = .ok (.istore 4, 2) := dk_54 4 (dk_at dksX3_marks_0 9 rfl rfl)
theorem dX3_marks_11 : decode cX3_marks 11 = .ok (.iconst 0, 1) := dk_3 (dk_at dksX3_marks_0 11 rfl rfl)
theorem dX3_marks_12 : decode cX3_marks 12 = .ok (.istore 5, 2) := dk_54 5 (dk_at dksX3_marks_0 12 rfl rfl)
theorem dX3_marks_14 : decode cX3_marks 14 = .ok (.iload 5, 2) := dk_21 5 (dk_at dksX3_marks_0 14 rfl rfl)
theorem dX3_marks_16 : decode cX3_marks 16 = .ok (.bipush 48, 2) := dk_16 48 (dk_at dksX3_marks_0 16 rfl rfl)
theorem dX3_marks_18 : decode cX3_marks 18 = .ok (.if_icmp .ge 67, 3) := dk_162 0 67 (dk_at dksX3_marks_0 18 rfl rfl)
theorem dX3_marks_21 : decode cX3_marks 21 = .ok (.aload_n 0, 1) := dk_42 (dk_at dksX3_marks_0 21 rfl rfl)
theorem dX3_marks_22 : decode cX3_marks 22 = .ok (.getfield 3, 3) := dk_180 0 3 (dk_at dksX3_marks_1 0 rfl rfl)
theorem dX3_marks_25 : decode cX3_marks 25 = .ok (.getfield 47, 3) := dk_180 0 47 (dk_at dksX3_marks_1 3 rfl rfl)
theorem dX3_marks_28 : decode cX3_marks 28 = .ok (.iload 5, 2) := dk_21 5 (dk_at dksX3_marks_1 6 rfl rfl)
theorem dX3_marks_30 : decode cX3_marks 30 = .ok (.iload 5, 2) := dk_21 5 (dk_at dksX3_marks_1 8 rfl rfl)
theorem dX3_marks_32 : decode cX3_marks 32 = .ok (.iload_n 1, 1) := dk_27 (dk_at dksX3_marks_1 10 rfl rfl)
theorem dX3_marks_33 : decode cX3_marks 33 = .ok (.invokestatic 31, 3) := dk_184 0 31 (dk_at dksX3_marks_1 11 rfl rfl)
theorem dX3_marks_36 : decode cX3_marks 36 = .ok (.iconst (-1), 1) := dk_2 (dk_at dksX3_marks_1 14 rfl rfl)
theorem dX3_marks_37 : decode cX3_marks 37 = .ok (.if_icmp .eq 19, 3) := dk_159 0 19 (dk_at dksX3_marks_1 15 rfl rfl)
theorem dX3_marks_40 : decode cX3_marks 40 = .ok (.aload_n 0, 1) := dk_42 (dk_at dksX3_marks_1 18 rfl rfl)
theorem dX3_marks_41 : decode cX3_marks 41 = .ok (.iload 5, 2) := dk_21 5 (dk_at dksX3_marks_1 19 rfl rfl)
theorem dX3_marks_43 : decode cX3_marks 43 = .ok (.iload_n 1, 1) := dk_27 (dk_at dksX3_marks_1 21 rfl rfl)
theorem dX3_marks_44 : decode cX3_marks 44 = .ok (.invokevirtual 35, 3) := dk_182 0 35 (dk_at dksX3_marks_2 0 rfl rfl)
theorem dX3_marks_47 : decode cX3_marks 47 = .ok (.iload 4, 2) := dk_21 4 (dk_at dksX3_marks_2 3 rfl rfl)
theorem dX3_marks_49 : decode cX3_marks 49 = .ok (.if_icmp .lt 7, 3) := dk_161 0 7 (dk_at dksX3_marks_2 5 rfl rfl)
theorem dX3_marks_52 : decode cX3_marks 52 = .ok (.iconst 1, 1) := dk_4 (dk_at dksX3_marks_2 8 rfl rfl)
theorem dX3_marks_53 : decode cX3_marks 53 = .ok (.goto 4, 3) := dk_167 0 4 (dk_at dksX3_marks_2 9 rfl rfl)
theorem dX3_marks_56 : decode cX3_marks 56 = .ok (.iconst 0, 1) := dk_3 (dk_at dksX3_marks_2 12 rfl rfl)
theorem dX3_marks_57 : decode cX3_marks 57 = .ok (.bastore, 1) := dk_84 (dk_at dksX3_marks_2 13 rfl rfl)
theorem dX3_marks_58 : decode cX3_marks 58 = .ok (.iload_n 3, 1) := dk_29 (dk_at dksX3_marks_2 14 rfl rfl)
theorem dX3_marks_59 : decode cX3_marks 59 = .ok (.aload_n 0, 1) := dk_42 (dk_at dksX3_marks_2 15 rfl rfl)
theorem dX3_marks_60 : decode cX3_marks 60 = .ok (.getfield 3, 3) := dk_180 0 3 (dk_at dksX3_marks_2 16 rfl rfl)
theorem dX3_marks_63 : decode cX3_marks 63 = .ok (.getfield 47, 3) := dk_180 0 47 (dk_at dksX3_marks_2 19 rfl rfl)
theorem dX3_marks_66 : decode cX3_marks 66 = .ok (.iload 5, 2) := dk_21 5 (dk_at dksX3_marks_2 22 rfl rfl)
theorem dX3_marks_68 : decode cX3_marks 68 = .ok (.baload, 1) := dk_51 (dk_at dksX3_marks_3 0 rfl rfl)
theorem dX3_marks_69 : decode cX3_marks 69 = .ok (.ifCond .eq 7, 3) := dk_153 0 7 (dk_at dksX3_marks_3 1 rfl rfl)
theorem dX3_marks_72 : decode cX3_marks 72 = .ok (.iconst 1, 1) := dk_4 (dk_at dksX3_marks_3 4 rfl rfl)
theorem dX3_marks_73 : decode cX3_marks 73 = .ok (.goto 4, 3) := dk_167 0 4 (dk_at dksX3_marks_3 5 rfl rfl)
theorem dX3_marks_76 : decode cX3_marks 76 = .ok (.iconst 0, 1) := dk_3 (dk_at dksX3_marks_3 8 rfl rfl)
theorem dX3_marks_77 : decode cX3_marks 77 = .ok (.iadd, 1) := dk_96 (dk_at dksX3_marks_3 9 rfl rfl)
theorem dX3_marks_78 : decode cX3_marks 78 = .ok (.istore_n 3, 1) := dk_62 (dk_at dksX3_marks_3 10 rfl rfl)
theorem dX3_marks_79 : decode cX3_marks 79 = .ok (.iinc 5 1, 3) := dk_132 5 1 (dk_at dksX3_marks_3 11 rfl rfl)
theorem dX3_marks_82 : decode cX3_marks 82 = .ok (.goto (-68), 3) := dk_167 255 188 (dk_at dksX3_marks_3 14 rfl rfl)
theorem dX3_marks_85 : decode cX3_marks 85 = .ok (.iload_n 3, 1) := dk_29 (dk_at dksX3_marks_3 17 rfl rfl)
theorem dX3_marks_86 : decode cX3_marks 86 = .ok (.ireturn, 1) := dk_172 (dk_at dksX3_marks_3 18 rfl rfl)
abbrev cX3_opening : ByteArray := prog_3_method_4_code
def yX3_opening : MethodName := ⟨RX3, "opening", "(I)I"⟩
def dkwX3_opening_1 : List UInt8 := [182, 0, 35, 184, 0, 38, 61, 132, 3, 1, 167, 255, 227, 28, 172]
abbrev dktX3_opening_1 : List UInt8 := dkwX3_opening_1 ++ []
def dkwX3_opening_0 : List UInt8 := [3, 61, 3, 62, 29, 16, 48, 162, 0, 29, 29, 27, 184, 0, 31, 2, 159, 0, 14, 28, 42, 29, 27]
abbrev dktX3_opening_0 : List UInt8 := dkwX3_opening_0 ++ dktX3_opening_1
theorem dksX3_opening_0 : cX3_opening.data.toList.drop 0 = dktX3_opening_0 := by decide +kernel
theorem dksX3_opening_1 : cX3_opening.data.toList.drop 23 = dktX3_opening_1 := dk_seg dksX3_opening_0 23 rfl rfl
theorem dX3_opening_0 : decode cX3_opening 0 = .ok (.iconst 0, 1) := dk_3 (dk_at dksX3_opening_0 0 rfl rfl)
theorem dX3_opening_1 : decode cX3_opening 1 = .ok (.istore_n 2, 1) := dk_61 (dk_at dksX3_opening_0 1 rfl rfl)
theorem dX3_opening_2 : decode cX3_opening 2 = .ok (.iconst 0, 1) := dk_3 (dk_at dksX3_opening_0 2 rfl rfl)
theorem dX3_opening_3 : decode cX3_opening 3 = .ok (.istore_n 3, 1) := dk_62 (dk_at dksX3_opening_0 3 rfl rfl)
theorem dX3_opening_4 : decode cX3_opening 4 = .ok (.iload_n 3, 1) := dk_29 (dk_at dksX3_opening_0 4 rfl rfl)
theorem dX3_opening_5 : decode cX3_opening 5 = .ok (.bipush 48, 2) := dk_16 48 (dk_at dksX3_opening_0 5 rfl rfl)
theorem dX3_opening_7 : decode cX3_opening 7 = .ok (.if_icmp .ge 29, 3) := dk_162 0 29 (dk_at dksX3_opening_0 7 rfl rfl)
theorem dX3_opening_10 : decode cX3_opening 10 = .ok (.iload_n 3, 1) := dk_29 (dk_at dksX3_opening_0 10 rfl rfl)
theorem dX3_opening_11 : decode cX3_opening 11 = .ok (.iload_n 1, 1) := dk_27 (dk_at dksX3_opening_0 11 rfl rfl)
theorem dX3_opening_12 : decode cX3_opening 12 = .ok (.invokestatic 31, 3) := dk_184 0 31 (dk_at dksX3_opening_0 12 rfl rfl)
theorem dX3_opening_15 : decode cX3_opening 15 = .ok (.iconst (-1), 1) := dk_2 (dk_at dksX3_opening_0 15 rfl rfl)
theorem dX3_opening_16 : decode cX3_opening 16 = .ok (.if_icmp .eq 14, 3) := dk_159 0 14 (dk_at dksX3_opening_0 16 rfl rfl)
theorem dX3_opening_19 : decode cX3_opening 19 = .ok (.iload_n 2, 1) := dk_28 (dk_at dksX3_opening_0 19 rfl rfl)
theorem dX3_opening_20 : decode cX3_opening 20 = .ok (.aload_n 0, 1) := dk_42 (dk_at dksX3_opening_0 20 rfl rfl)
theorem dX3_opening_21 : decode cX3_opening 21 = .ok (.iload_n 3, 1) := dk_29 (dk_at dksX3_opening_0 21 rfl rfl)
theorem dX3_opening_22 : decode cX3_opening 22 = .ok (.iload_n 1, 1) := dk_27 (dk_at dksX3_opening_0 22 rfl rfl)
theorem dX3_opening_23 : decode cX3_opening 23 = .ok (.invokevirtual 35, 3) := dk_182 0 35 (dk_at dksX3_opening_1 0 rfl rfl)
theorem dX3_opening_26 : decode cX3_opening 26 = .ok (.invokestatic 38, 3) := dk_184 0 38 (dk_at dksX3_opening_1 3 rfl rfl)
theorem dX3_opening_29 : decode cX3_opening 29 = .ok (.istore_n 2, 1) := dk_61 (dk_at dksX3_opening_1 6 rfl rfl)
theorem dX3_opening_30 : decode cX3_opening 30 = .ok (.iinc 3 1, 3) := dk_132 3 1 (dk_at dksX3_opening_1 7 rfl rfl)
theorem dX3_opening_33 : decode cX3_opening 33 = .ok (.goto (-29), 3) := dk_167 255 227 (dk_at dksX3_opening_1 10 rfl rfl)
theorem dX3_opening_36 : decode cX3_opening 36 = .ok (.iload_n 2, 1) := dk_28 (dk_at dksX3_opening_1 13 rfl rfl)
theorem dX3_opening_37 : decode cX3_opening 37 = .ok (.ireturn, 1) := dk_172 (dk_at dksX3_opening_1 14 rfl rfl)
abbrev cX3_sumAt : ByteArray := prog_3_method_3_code
def yX3_sumAt : MethodName := ⟨RX3, "sumAt", "(II)I"⟩
def dkwX3_sumAt_0 : List UInt8 := [42, 180, 0, 17, 4, 50, 27, 46, 42, 180, 0, 17, 3, 50, 27, 28, 184, 0, 31, 46, 96, 172]
abbrev dktX3_sumAt_0 : List UInt8 := dkwX3_sumAt_0 ++ []
theorem dksX3_sumAt_0 : cX3_sumAt.data.toList.drop 0 = dktX3_sumAt_0 := by decide +kernel
theorem dX3_sumAt_0 : decode cX3_sumAt 0 = .ok (.aload_n 0, 1) := dk_42 (dk_at dksX3_sumAt_0 0 rfl rfl)
theorem dX3_sumAt_1 : decode cX3_sumAt 1 = .ok (.getfield 17, 3) := dk_180 0 17 (dk_at dksX3_sumAt_0 1 rfl rfl)
theorem dX3_sumAt_4 : decode cX3_sumAt 4 = .ok (.iconst 1, 1) := dk_4 (dk_at dksX3_sumAt_0 4 rfl rfl)
theorem dX3_sumAt_5 : decode cX3_sumAt 5 = .ok (.aaload, 1) := dk_50 (dk_at dksX3_sumAt_0 5 rfl rfl)
theorem dX3_sumAt_6 : decode cX3_sumAt 6 = .ok (.iload_n 1, 1) := dk_27 (dk_at dksX3_sumAt_0 6 rfl rfl)
theorem dX3_sumAt_7 : decode cX3_sumAt 7 = .ok (.iaload, 1) := dk_46 (dk_at dksX3_sumAt_0 7 rfl rfl)
theorem dX3_sumAt_8 : decode cX3_sumAt 8 = .ok (.aload_n 0, 1) := dk_42 (dk_at dksX3_sumAt_0 8 rfl rfl)
theorem dX3_sumAt_9 : decode cX3_sumAt 9 = .ok (.getfield 17, 3) := dk_180 0 17 (dk_at dksX3_sumAt_0 9 rfl rfl)
theorem dX3_sumAt_12 : decode cX3_sumAt 12 = .ok (.iconst 0, 1) := dk_3 (dk_at dksX3_sumAt_0 12 rfl rfl)
theorem dX3_sumAt_13 : decode cX3_sumAt 13 = .ok (.aaload, 1) := dk_50 (dk_at dksX3_sumAt_0 13 rfl rfl)
theorem dX3_sumAt_14 : decode cX3_sumAt 14 = .ok (.iload_n 1, 1) := dk_27 (dk_at dksX3_sumAt_0 14 rfl rfl)
theorem dX3_sumAt_15 : decode cX3_sumAt 15 = .ok (.iload_n 2, 1) := dk_28 (dk_at dksX3_sumAt_0 15 rfl rfl)
theorem dX3_sumAt_16 : decode cX3_sumAt 16 = .ok (.invokestatic 31, 3) := dk_184 0 31 (dk_at dksX3_sumAt_0 16 rfl rfl)
theorem dX3_sumAt_19 : decode cX3_sumAt 19 = .ok (.iaload, 1) := dk_46 (dk_at dksX3_sumAt_0 19 rfl rfl)
theorem dX3_sumAt_20 : decode cX3_sumAt 20 = .ok (.iadd, 1) := dk_96 (dk_at dksX3_sumAt_0 20 rfl rfl)
theorem dX3_sumAt_21 : decode cX3_sumAt 21 = .ok (.ireturn, 1) := dk_172 (dk_at dksX3_sumAt_0 21 rfl rfl)
abbrev cX3_wears : ByteArray := prog_3_method_7_code
def yX3_wears : MethodName := ⟨RX3, "wears", "(III)V"⟩
def dkwX3_wears_2 : List UInt8 := [46, 21, 4, 96, 79, 42, 89, 180, 0, 58, 21, 4, 96, 181, 0, 58, 177]
abbrev dktX3_wears_2 : List UInt8 := dkwX3_wears_2 ++ []
def dkwX3_wears_1 : List UInt8 := [184, 0, 55, 54, 4, 42, 180, 0, 17, 27, 50, 28, 92, 46, 21, 4, 100, 79, 42, 180, 0, 20, 27, 92]
abbrev dktX3_wears_1 : List UInt8 := dkwX3_wears_1 ++ dktX3_wears_2
def dkwX3_wears_0 : List UInt8 := [42, 180, 0, 3, 180, 0, 52, 28, 51, 153, 0, 4, 177, 29, 42, 180, 0, 17, 27, 50, 28, 46]
abbrev dktX3_wears_0 : List UInt8 := dkwX3_wears_0 ++ dktX3_wears_1
theorem dksX3_wears_0 : cX3_wears.data.toList.drop 0 = dktX3_wears_0 := by decide +kernel
theorem dksX3_wears_1 : cX3_wears.data.toList.drop 22 = dktX3_wears_1 := dk_seg dksX3_wears_0 22 rfl rfl
theorem dksX3_wears_2 : cX3_wears.data.toList.drop 46 = dktX3_wears_2 := dk_seg dksX3_wears_1 24 rfl rfl
theorem dX3_wears_0 : decode cX3_wears 0 = .ok (.aload_n 0, 1) := dk_42 (dk_at dksX3_wears_0 0 rfl rfl)
theorem dX3_wears_1 : decode cX3_wears 1 = .ok (.getfield 3, 3) := dk_180 0 3 (dk_at dksX3_wears_0 1 rfl rfl)
theorem dX3_wears_4 : decode cX3_wears 4 = .ok (.getfield 52, 3) := dk_180 0 52 (dk_at dksX3_wears_0 4 rfl rfl)
theorem dX3_wears_7 : decode cX3_wears 7 = .ok (.iload_n 2, 1) := dk_28 (dk_at dksX3_wears_0 7 rfl rfl)
theorem dX3_wears_8 : decode cX3_wears 8 = .ok (.baload, 1) := dk_51 (dk_at dksX3_wears_0 8 rfl rfl)
theorem dX3_wears_9 : decode cX3_wears 9 = .ok (.ifCond .eq 4, 3) := dk_153 0 4 (dk_at dksX3_wears_0 9 rfl rfl)
theorem dX3_wears_12 : decode cX3_wears 12 = .ok (.return_, 1) := dk_177 (dk_at dksX3_wears_0 12 rfl rfl)
theorem dX3_wears_13 : decode cX3_wears 13 = .ok (.iload_n 3, 1) := dk_29 (dk_at dksX3_wears_0 13 rfl rfl)
theorem dX3_wears_14 : decode cX3_wears 14 = .ok (.aload_n 0, 1) := dk_42 (dk_at dksX3_wears_0 14 rfl rfl)
theorem dX3_wears_15 : decode cX3_wears 15 = .ok (.getfield 17, 3) := dk_180 0 17 (dk_at dksX3_wears_0 15 rfl rfl)
theorem dX3_wears_18 : decode cX3_wears 18 = .ok (.iload_n 1, 1) := dk_27 (dk_at dksX3_wears_0 18 rfl rfl)
theorem dX3_wears_19 : decode cX3_wears 19 = .ok (.aaload, 1) := dk_50 (dk_at dksX3_wears_0 19 rfl rfl)
theorem dX3_wears_20 : decode cX3_wears 20 = .ok (.iload_n 2, 1) := dk_28 (dk_at dksX3_wears_0 20 rfl rfl)
theorem dX3_wears_21 : decode cX3_wears 21 = .ok (.iaload, 1) := dk_46 (dk_at dksX3_wears_0 21 rfl rfl)
theorem dX3_wears_22 : decode cX3_wears 22 = .ok (.invokestatic 55, 3) := dk_184 0 55 (dk_at dksX3_wears_1 0 rfl rfl)
theorem dX3_wears_25 : decode cX3_wears 25 = .ok (.istore 4, 2) := dk_54 4 (dk_at dksX3_wears_1 3 rfl rfl)
theorem dX3_wears_27 : decode cX3_wears 27 = .ok (.aload_n 0, 1) := dk_42 (dk_at dksX3_wears_1 5 rfl rfl)
theorem dX3_wears_28 : decode cX3_wears 28 = .ok (.getfield 17, 3) := dk_180 0 17 (dk_at dksX3_wears_1 6 rfl rfl)
theorem dX3_wears_31 : decode cX3_wears 31 = .ok (.iload_n 1, 1) := dk_27 (dk_at dksX3_wears_1 9 rfl rfl)
theorem dX3_wears_32 : decode cX3_wears 32 = .ok (.aaload, 1) := dk_50 (dk_at dksX3_wears_1 10 rfl rfl)
theorem dX3_wears_33 : decode cX3_wears 33 = .ok (.iload_n 2, 1) := dk_28 (dk_at dksX3_wears_1 11 rfl rfl)
theorem dX3_wears_34 : decode cX3_wears 34 = .ok (.dup2, 1) := dk_92 (dk_at dksX3_wears_1 12 rfl rfl)
theorem dX3_wears_35 : decode cX3_wears 35 = .ok (.iaload, 1) := dk_46 (dk_at dksX3_wears_1 13 rfl rfl)
theorem dX3_wears_36 : decode cX3_wears 36 = .ok (.iload 4, 2) := dk_21 4 (dk_at dksX3_wears_1 14 rfl rfl)
theorem dX3_wears_38 : decode cX3_wears 38 = .ok (.isub, 1) := dk_100 (dk_at dksX3_wears_1 16 rfl rfl)
theorem dX3_wears_39 : decode cX3_wears 39 = .ok (.iastore, 1) := dk_79 (dk_at dksX3_wears_1 17 rfl rfl)
theorem dX3_wears_40 : decode cX3_wears 40 = .ok (.aload_n 0, 1) := dk_42 (dk_at dksX3_wears_1 18 rfl rfl)
theorem dX3_wears_41 : decode cX3_wears 41 = .ok (.getfield 20, 3) := dk_180 0 20 (dk_at dksX3_wears_1 19 rfl rfl)
theorem dX3_wears_44 : decode cX3_wears 44 = .ok (.iload_n 1, 1) := dk_27 (dk_at dksX3_wears_1 22 rfl rfl)
theorem dX3_wears_45 : decode cX3_wears 45 = .ok (.dup2, 1) := dk_92 (dk_at dksX3_wears_1 23 rfl rfl)
theorem dX3_wears_46 : decode cX3_wears 46 = .ok (.iaload, 1) := dk_46 (dk_at dksX3_wears_2 0 rfl rfl)
theorem dX3_wears_47 : decode cX3_wears 47 = .ok (.iload 4, 2) := dk_21 4 (dk_at dksX3_wears_2 1 rfl rfl)
theorem dX3_wears_49 : decode cX3_wears 49 = .ok (.iadd, 1) := dk_96 (dk_at dksX3_wears_2 3 rfl rfl)
theorem dX3_wears_50 : decode cX3_wears 50 = .ok (.iastore, 1) := dk_79 (dk_at dksX3_wears_2 4 rfl rfl)
theorem dX3_wears_51 : decode cX3_wears 51 = .ok (.aload_n 0, 1) := dk_42 (dk_at dksX3_wears_2 5 rfl rfl)
theorem dX3_wears_52 : decode cX3_wears 52 = .ok (.dup, 1) := dk_89 (dk_at dksX3_wears_2 6 rfl rfl)
theorem dX3_wears_53 : decode cX3_wears 53 = .ok (.getfield 58, 3) := dk_180 0 58 (dk_at dksX3_wears_2 7 rfl rfl)
theorem dX3_wears_56 : decode cX3_wears 56 = .ok (.iload 4, 2) := dk_21 4 (dk_at dksX3_wears_2 10 rfl rfl)
theorem dX3_wears_58 : decode cX3_wears 58 = .ok (.iadd, 1) := dk_96 (dk_at dksX3_wears_2 12 rfl rfl)
theorem dX3_wears_59 : decode cX3_wears 59 = .ok (.putfield 58, 3) := dk_181 0 58 (dk_at dksX3_wears_2 13 rfl rfl)
theorem dX3_wears_62 : decode cX3_wears 62 = .ok (.return_, 1) := dk_177 (dk_at dksX3_wears_2 16 rfl rfl)
abbrev cX3_goes : ByteArray := prog_3_method_10_code
def yX3_goes : MethodName := ⟨RX3, "goes", "(II)LHighSpots$Bench;"⟩
def dkwX3_goes_1 : List UInt8 := [182, 0, 112, 132, 3, 1, 167, 255, 233, 42, 176]
abbrev dktX3_goes_1 : List UInt8 := dkwX3_goes_1 ++ []
def dkwX3_goes_0 : List UInt8 := [42, 3, 181, 0, 58, 3, 62, 29, 27, 162, 0, 24, 42, 180, 0, 24, 17, 39, 15, 162, 0, 14, 42, 28]
abbrev dktX3_goes_0 : List UInt8 := dkwX3_goes_0 ++ dktX3_goes_1
theorem dksX3_goes_0 : cX3_goes.data.toList.drop 0 = dktX3_goes_0 := by decide +kernel
theorem dksX3_goes_1 : cX3_goes.data.toList.drop 24 = dktX3_goes_1 := dk_seg dksX3_goes_0 24 rfl rfl
theorem dX3_goes_0 : decode cX3_goes 0 = .ok (.aload_n 0, 1) := dk_42 (dk_at dksX3_goes_0 0 rfl rfl)
theorem dX3_goes_1 : decode cX3_goes 1 = .ok (.iconst 0, 1) := dk_3 (dk_at dksX3_goes_0 1 rfl rfl)
theorem dX3_goes_2 : decode cX3_goes 2 = .ok (.putfield 58, 3) := dk_181 0 58 (dk_at dksX3_goes_0 2 rfl rfl)
theorem dX3_goes_5 : decode cX3_goes 5 = .ok (.iconst 0, 1) := dk_3 (dk_at dksX3_goes_0 5 rfl rfl)
theorem dX3_goes_6 : decode cX3_goes 6 = .ok (.istore_n 3, 1) := dk_62 (dk_at dksX3_goes_0 6 rfl rfl)
theorem dX3_goes_7 : decode cX3_goes 7 = .ok (.iload_n 3, 1) := dk_29 (dk_at dksX3_goes_0 7 rfl rfl)
theorem dX3_goes_8 : decode cX3_goes 8 = .ok (.iload_n 1, 1) := dk_27 (dk_at dksX3_goes_0 8 rfl rfl)
theorem dX3_goes_9 : decode cX3_goes 9 = .ok (.if_icmp .ge 24, 3) := dk_162 0 24 (dk_at dksX3_goes_0 9 rfl rfl)
theorem dX3_goes_12 : decode cX3_goes 12 = .ok (.aload_n 0, 1) := dk_42 (dk_at dksX3_goes_0 12 rfl rfl)
theorem dX3_goes_13 : decode cX3_goes 13 = .ok (.getfield 24, 3) := dk_180 0 24 (dk_at dksX3_goes_0 13 rfl rfl)
theorem dX3_goes_16 : decode cX3_goes 16 = .ok (.sipush 9999, 3) := dk_17 39 15 (dk_at dksX3_goes_0 16 rfl rfl)
theorem dX3_goes_19 : decode cX3_goes 19 = .ok (.if_icmp .ge 14, 3) := dk_162 0 14 (dk_at dksX3_goes_0 19 rfl rfl)
theorem dX3_goes_22 : decode cX3_goes 22 = .ok (.aload_n 0, 1) := dk_42 (dk_at dksX3_goes_0 22 rfl rfl)
theorem dX3_goes_23 : decode cX3_goes 23 = .ok (.iload_n 2, 1) := dk_28 (dk_at dksX3_goes_0 23 rfl rfl)
theorem dX3_goes_24 : decode cX3_goes 24 = .ok (.invokevirtual 112, 3) := dk_182 0 112 (dk_at dksX3_goes_1 0 rfl rfl)
theorem dX3_goes_27 : decode cX3_goes 27 = .ok (.iinc 3 1, 3) := dk_132 3 1 (dk_at dksX3_goes_1 3 rfl rfl)
theorem dX3_goes_30 : decode cX3_goes 30 = .ok (.goto (-23), 3) := dk_167 255 233 (dk_at dksX3_goes_1 6 rfl rfl)
theorem dX3_goes_33 : decode cX3_goes 33 = .ok (.aload_n 0, 1) := dk_42 (dk_at dksX3_goes_1 9 rfl rfl)
theorem dX3_goes_34 : decode cX3_goes 34 = .ok (.areturn, 1) := dk_176 (dk_at dksX3_goes_1 10 rfl rfl)
abbrev cX3_nightGoes : ByteArray := prog_3_method_9_code
def yX3_nightGoes : MethodName := ⟨RX3, "nightGoes", "(I)V"⟩
def dkwX3_nightGoes_3 : List UInt8 := [167, 255, 216, 132, 2, 1, 167, 255, 181, 42, 89, 180, 0, 24, 4, 96, 181, 0, 24, 177]
abbrev dktX3_nightGoes_3 : List UInt8 := dkwX3_nightGoes_3 ++ []
def dkwX3_nightGoes_2 : List UInt8 := [153, 0, 20, 42, 21, 4, 42, 180, 0, 3, 180, 0, 102, 28, 46, 29, 28, 182, 0, 108, 132, 4, 1]
abbrev dktX3_nightGoes_2 : List UInt8 := dkwX3_nightGoes_2 ++ dktX3_nightGoes_3
def dkwX3_nightGoes_1 : List UInt8 := [182, 0, 105, 62, 3, 54, 4, 21, 4, 16, 48, 162, 0, 39, 42, 180, 0, 3, 180, 0, 47, 21, 4, 51]
abbrev dktX3_nightGoes_1 : List UInt8 := dkwX3_nightGoes_1 ++ dktX3_nightGoes_2
def dkwX3_nightGoes_0 : List UInt8 := [3, 61, 28, 42, 180, 0, 3, 180, 0, 99, 162, 0, 70, 42, 42, 180, 0, 3, 180, 0, 102, 28, 46, 27]
abbrev dktX3_nightGoes_0 : List UInt8 := dkwX3_nightGoes_0 ++ dktX3_nightGoes_1
theorem dksX3_nightGoes_0 : cX3_nightGoes.data.toList.drop 0 = dktX3_nightGoes_0 := by decide +kernel
theorem dksX3_nightGoes_1 : cX3_nightGoes.data.toList.drop 24 = dktX3_nightGoes_1 := dk_seg dksX3_nightGoes_0 24 rfl rfl
theorem dksX3_nightGoes_2 : cX3_nightGoes.data.toList.drop 48 = dktX3_nightGoes_2 := dk_seg dksX3_nightGoes_1 24 rfl rfl
theorem dksX3_nightGoes_3 : cX3_nightGoes.data.toList.drop 71 = dktX3_nightGoes_3 := dk_seg dksX3_nightGoes_2 23 rfl rfl
theorem dX3_nightGoes_0 : decode cX3_nightGoes 0 = .ok (.iconst 0, 1) := dk_3 (dk_at dksX3_nightGoes_0 0 rfl rfl)
theorem dX3_nightGoes_1 : decode cX3_nightGoes 1 = .ok (.istore_n 2, 1) := dk_61 (dk_at dksX3_nightGoes_0 1 rfl rfl)
theorem dX3_nightGoes_2 : decode cX3_nightGoes 2 = .ok (.iload_n 2, 1) := dk_28 (dk_at dksX3_nightGoes_0 2 rfl rfl)
theorem dX3_nightGoes_3 : decode cX3_nightGoes 3 = .ok (.aload_n 0, 1) := dk_42 (dk_at dksX3_nightGoes_0 3 rfl rfl)
theorem dX3_nightGoes_4 : decode cX3_nightGoes 4 = .ok (.getfield 3, 3) := dk_180 0 3 (dk_at dksX3_nightGoes_0 4 rfl rfl)
theorem dX3_nightGoes_7 : decode cX3_nightGoes 7 = .ok (.getfield 99, 3) := dk_180 0 99 (dk_at dksX3_nightGoes_0 7 rfl rfl)
theorem dX3_nightGoes_10 : decode cX3_nightGoes 10 = .ok (.if_icmp .ge 70, 3) := dk_162 0 70 (dk_at dksX3_nightGoes_0 10 rfl rfl)
theorem dX3_nightGoes_13 : decode cX3_nightGoes 13 = .ok (.aload_n 0, 1) := dk_42 (dk_at dksX3_nightGoes_0 13 rfl rfl)
theorem dX3_nightGoes_14 : decode cX3_nightGoes 14 = .ok (.aload_n 0, 1) := dk_42 (dk_at dksX3_nightGoes_0 14 rfl rfl)
theorem dX3_nightGoes_15 : decode cX3_nightGoes 15 = .ok (.getfield 3, 3) := dk_180 0 3 (dk_at dksX3_nightGoes_0 15 rfl rfl)
theorem dX3_nightGoes_18 : decode cX3_nightGoes 18 = .ok (.getfield 102, 3) := dk_180 0 102 (dk_at dksX3_nightGoes_0 18 rfl rfl)
theorem dX3_nightGoes_21 : decode cX3_nightGoes 21 = .ok (.iload_n 2, 1) := dk_28 (dk_at dksX3_nightGoes_0 21 rfl rfl)
theorem dX3_nightGoes_22 : decode cX3_nightGoes 22 = .ok (.iaload, 1) := dk_46 (dk_at dksX3_nightGoes_0 22 rfl rfl)
theorem dX3_nightGoes_23 : decode cX3_nightGoes 23 = .ok (.iload_n 1, 1) := dk_27 (dk_at dksX3_nightGoes_0 23 rfl rfl)
theorem dX3_nightGoes_24 : decode cX3_nightGoes 24 = .ok (.invokevirtual 105, 3) := dk_182 0 105 (dk_at dksX3_nightGoes_1 0 rfl rfl)
theorem dX3_nightGoes_27 : decode cX3_nightGoes 27 = .ok (.istore_n 3, 1) := dk_62 (dk_at dksX3_nightGoes_1 3 rfl rfl)
theorem dX3_nightGoes_28 : decode cX3_nightGoes 28 = .ok (.iconst 0, 1) := dk_3 (dk_at dksX3_nightGoes_1 4 rfl rfl)
theorem dX3_nightGoes_29 : decode cX3_nightGoes 29 = .ok (.istore 4, 2) := dk_54 4 (dk_at dksX3_nightGoes_1 5 rfl rfl)
theorem dX3_nightGoes_31 : decode cX3_nightGoes 31 = .ok (.iload 4, 2) := dk_21 4 (dk_at dksX3_nightGoes_1 7 rfl rfl)
theorem dX3_nightGoes_33 : decode cX3_nightGoes 33 = .ok (.bipush 48, 2) := dk_16 48 (dk_at dksX3_nightGoes_1 9 rfl rfl)
theorem dX3_nightGoes_35 : decode cX3_nightGoes 35 = .ok (.if_icmp .ge 39, 3) := dk_162 0 39 (dk_at dksX3_nightGoes_1 11 rfl rfl)
theorem dX3_nightGoes_38 : decode cX3_nightGoes 38 = .ok (.aload_n 0, 1) := dk_42 (dk_at dksX3_nightGoes_1 14 rfl rfl)
theorem dX3_nightGoes_39 : decode cX3_nightGoes 39 = .ok (.getfield 3, 3) := dk_180 0 3 (dk_at dksX3_nightGoes_1 15 rfl rfl)
theorem dX3_nightGoes_42 : decode cX3_nightGoes 42 = .ok (.getfield 47, 3) := dk_180 0 47 (dk_at dksX3_nightGoes_1 18 rfl rfl)
theorem dX3_nightGoes_45 : decode cX3_nightGoes 45 = .ok (.iload 4, 2) := dk_21 4 (dk_at dksX3_nightGoes_1 21 rfl rfl)
theorem dX3_nightGoes_47 : decode cX3_nightGoes 47 = .ok (.baload, 1) := dk_51 (dk_at dksX3_nightGoes_1 23 rfl rfl)
theorem dX3_nightGoes_48 : decode cX3_nightGoes 48 = .ok (.ifCond .eq 20, 3) := dk_153 0 20 (dk_at dksX3_nightGoes_2 0 rfl rfl)
theorem dX3_nightGoes_51 : decode cX3_nightGoes 51 = .ok (.aload_n 0, 1) := dk_42 (dk_at dksX3_nightGoes_2 3 rfl rfl)
theorem dX3_nightGoes_52 : decode cX3_nightGoes 52 = .ok (.iload 4, 2) := dk_21 4 (dk_at dksX3_nightGoes_2 4 rfl rfl)
theorem dX3_nightGoes_54 : decode cX3_nightGoes 54 = .ok (.aload_n 0, 1) := dk_42 (dk_at dksX3_nightGoes_2 6 rfl rfl)
theorem dX3_nightGoes_55 : decode cX3_nightGoes 55 = .ok (.getfield 3, 3) := dk_180 0 3 (dk_at dksX3_nightGoes_2 7 rfl rfl)
theorem dX3_nightGoes_58 : decode cX3_nightGoes 58 = .ok (.getfield 102, 3) := dk_180 0 102 (dk_at dksX3_nightGoes_2 10 rfl rfl)
theorem dX3_nightGoes_61 : decode cX3_nightGoes 61 = .ok (.iload_n 2, 1) := dk_28 (dk_at dksX3_nightGoes_2 13 rfl rfl)
theorem dX3_nightGoes_62 : decode cX3_nightGoes 62 = .ok (.iaload, 1) := dk_46 (dk_at dksX3_nightGoes_2 14 rfl rfl)
theorem dX3_nightGoes_63 : decode cX3_nightGoes 63 = .ok (.iload_n 3, 1) := dk_29 (dk_at dksX3_nightGoes_2 15 rfl rfl)
theorem dX3_nightGoes_64 : decode cX3_nightGoes 64 = .ok (.iload_n 2, 1) := dk_28 (dk_at dksX3_nightGoes_2 16 rfl rfl)
theorem dX3_nightGoes_65 : decode cX3_nightGoes 65 = .ok (.invokevirtual 108, 3) := dk_182 0 108 (dk_at dksX3_nightGoes_2 17 rfl rfl)
theorem dX3_nightGoes_68 : decode cX3_nightGoes 68 = .ok (.iinc 4 1, 3) := dk_132 4 1 (dk_at dksX3_nightGoes_2 20 rfl rfl)
theorem dX3_nightGoes_71 : decode cX3_nightGoes 71 = .ok (.goto (-40), 3) := dk_167 255 216 (dk_at dksX3_nightGoes_3 0 rfl rfl)
theorem dX3_nightGoes_74 : decode cX3_nightGoes 74 = .ok (.iinc 2 1, 3) := dk_132 2 1 (dk_at dksX3_nightGoes_3 3 rfl rfl)
theorem dX3_nightGoes_77 : decode cX3_nightGoes 77 = .ok (.goto (-75), 3) := dk_167 255 181 (dk_at dksX3_nightGoes_3 6 rfl rfl)
theorem dX3_nightGoes_80 : decode cX3_nightGoes 80 = .ok (.aload_n 0, 1) := dk_42 (dk_at dksX3_nightGoes_3 9 rfl rfl)
theorem dX3_nightGoes_81 : decode cX3_nightGoes 81 = .ok (.dup, 1) := dk_89 (dk_at dksX3_nightGoes_3 10 rfl rfl)
theorem dX3_nightGoes_82 : decode cX3_nightGoes 82 = .ok (.getfield 24, 3) := dk_180 0 24 (dk_at dksX3_nightGoes_3 11 rfl rfl)
theorem dX3_nightGoes_85 : decode cX3_nightGoes 85 = .ok (.iconst 1, 1) := dk_4 (dk_at dksX3_nightGoes_3 14 rfl rfl)
theorem dX3_nightGoes_86 : decode cX3_nightGoes 86 = .ok (.iadd, 1) := dk_96 (dk_at dksX3_nightGoes_3 15 rfl rfl)
theorem dX3_nightGoes_87 : decode cX3_nightGoes 87 = .ok (.putfield 24, 3) := dk_181 0 24 (dk_at dksX3_nightGoes_3 16 rfl rfl)
theorem dX3_nightGoes_90 : decode cX3_nightGoes 90 = .ok (.return_, 1) := dk_177 (dk_at dksX3_nightGoes_3 19 rfl rfl)
abbrev cX3_isRubbed : ByteArray := prog_3_method_8_code
def yX3_isRubbed : MethodName := ⟨RX3, "isRubbed", "(IIII)V"⟩
def dkwX3_isRubbed_6 : List UInt8 := [182, 0, 95, 177]
abbrev dktX3_isRubbed_6 : List UInt8 := dkwX3_isRubbed_6 ++ []
def dkwX3_isRubbed_5 : List UInt8 := [182, 0, 88, 16, 25, 184, 0, 92, 54, 7, 42, 4, 27, 21, 6, 182, 0, 95, 42, 3, 21, 5, 21, 7]
abbrev dktX3_isRubbed_5 : List UInt8 := dkwX3_isRubbed_5 ++ dktX3_isRubbed_6
def dkwX3_isRubbed_4 : List UInt8 := [16, 25, 184, 0, 92, 54, 6, 42, 180, 0, 3, 180, 0, 78, 16, 121, 4, 42, 180, 0, 3, 180, 0, 61]
abbrev dktX3_isRubbed_4 : List UInt8 := dkwX3_isRubbed_4 ++ dktX3_isRubbed_5
def dkwX3_isRubbed_3 : List UInt8 := [153, 0, 4, 177, 42, 180, 0, 3, 180, 0, 78, 16, 118, 3, 42, 180, 0, 3, 180, 0, 61, 182, 0, 88]
abbrev dktX3_isRubbed_3 : List UInt8 := dkwX3_isRubbed_3 ++ dktX3_isRubbed_4
def dkwX3_isRubbed_2 : List UInt8 := [182, 0, 75, 87, 42, 180, 0, 3, 180, 0, 78, 16, 120, 42, 180, 0, 3, 180, 0, 61, 182, 0, 82]
abbrev dktX3_isRubbed_2 : List UInt8 := dkwX3_isRubbed_2 ++ dktX3_isRubbed_3
def dkwX3_isRubbed_1 : List UInt8 := [180, 0, 17, 3, 50, 21, 5, 46, 27, 28, 182, 0, 65, 29, 21, 4, 42, 180, 0, 24, 42, 182, 0, 71]
abbrev dktX3_isRubbed_1 : List UInt8 := dkwX3_isRubbed_1 ++ dktX3_isRubbed_2
def dkwX3_isRubbed_0 : List UInt8 := [27, 28, 184, 0, 31, 54, 5, 42, 180, 0, 3, 180, 0, 61, 42, 180, 0, 17, 4, 50, 27, 46, 42]
abbrev dktX3_isRubbed_0 : List UInt8 := dkwX3_isRubbed_0 ++ dktX3_isRubbed_1
theorem dksX3_isRubbed_0 : cX3_isRubbed.data.toList.drop 0 = dktX3_isRubbed_0 := by decide +kernel
theorem dksX3_isRubbed_1 : cX3_isRubbed.data.toList.drop 23 = dktX3_isRubbed_1 := dk_seg dksX3_isRubbed_0 23 rfl rfl
theorem dksX3_isRubbed_2 : cX3_isRubbed.data.toList.drop 47 = dktX3_isRubbed_2 := dk_seg dksX3_isRubbed_1 24 rfl rfl
theorem dksX3_isRubbed_3 : cX3_isRubbed.data.toList.drop 70 = dktX3_isRubbed_3 := dk_seg dksX3_isRubbed_2 23 rfl rfl
theorem dksX3_isRubbed_4 : cX3_isRubbed.data.toList.drop 94 = dktX3_isRubbed_4 := dk_seg dksX3_isRubbed_3 24 rfl rfl
theorem dksX3_isRubbed_5 : cX3_isRubbed.data.toList.drop 118 = dktX3_isRubbed_5 := dk_seg dksX3_isRubbed_4 24 rfl rfl
theorem dksX3_isRubbed_6 : cX3_isRubbed.data.toList.drop 142 = dktX3_isRubbed_6 := dk_seg dksX3_isRubbed_5 24 rfl rfl
theorem dX3_isRubbed_0 : decode cX3_isRubbed 0 = .ok (.iload_n 1, 1) := dk_27 (dk_at dksX3_isRubbed_0 0 rfl rfl)
theorem dX3_isRubbed_1 : decode cX3_isRubbed 1 = .ok (.iload_n 2, 1) := dk_28 (dk_at dksX3_isRubbed_0 1 rfl rfl)
theorem dX3_isRubbed_2 : decode cX3_isRubbed 2 = .ok (.invokestatic 31, 3) := dk_184 0 31 (dk_at dksX3_isRubbed_0 2 rfl rfl)
theorem dX3_isRubbed_5 : decode cX3_isRubbed 5 = .ok (.istore 5, 2) := dk_54 5 (dk_at dksX3_isRubbed_0 5 rfl rfl)
theorem dX3_isRubbed_7 : decode cX3_isRubbed 7 = .ok (.aload_n 0, 1) := dk_42 (dk_at dksX3_isRubbed_0 7 rfl rfl)
theorem dX3_isRubbed_8 : decode cX3_isRubbed 8 = .ok (.getfield 3, 3) := dk_180 0 3 (dk_at dksX3_isRubbed_0 8 rfl rfl)
theorem dX3_isRubbed_11 : decode cX3_isRubbed 11 = .ok (.getfield 61, 3) := dk_180 0 61 (dk_at dksX3_isRubbed_0 11 rfl rfl)
theorem dX3_isRubbed_14 : decode cX3_isRubbed 14 = .ok (.aload_n 0, 1) := dk_42 (dk_at dksX3_isRubbed_0 14 rfl rfl)
theorem dX3_isRubbed_15 : decode cX3_isRubbed 15 = .ok (.getfield 17, 3) := dk_180 0 17 (dk_at dksX3_isRubbed_0 15 rfl rfl)
theorem dX3_isRubbed_18 : decode cX3_isRubbed 18 = .ok (.iconst 1, 1) := dk_4 (dk_at dksX3_isRubbed_0 18 rfl rfl)
theorem dX3_isRubbed_19 : decode cX3_isRubbed 19 = .ok (.aaload, 1) := dk_50 (dk_at dksX3_isRubbed_0 19 rfl rfl)
theorem dX3_isRubbed_20 : decode cX3_isRubbed 20 = .ok (.iload_n 1, 1) := dk_27 (dk_at dksX3_isRubbed_0 20 rfl rfl)
theorem dX3_isRubbed_21 : decode cX3_isRubbed 21 = .ok (.iaload, 1) := dk_46 (dk_at dksX3_isRubbed_0 21 rfl rfl)
theorem dX3_isRubbed_22 : decode cX3_isRubbed 22 = .ok (.aload_n 0, 1) := dk_42 (dk_at dksX3_isRubbed_0 22 rfl rfl)
theorem dX3_isRubbed_23 : decode cX3_isRubbed 23 = .ok (.getfield 17, 3) := dk_180 0 17 (dk_at dksX3_isRubbed_1 0 rfl rfl)
theorem dX3_isRubbed_26 : decode cX3_isRubbed 26 = .ok (.iconst 0, 1) := dk_3 (dk_at dksX3_isRubbed_1 3 rfl rfl)
theorem dX3_isRubbed_27 : decode cX3_isRubbed 27 = .ok (.aaload, 1) := dk_50 (dk_at dksX3_isRubbed_1 4 rfl rfl)
theorem dX3_isRubbed_28 : decode cX3_isRubbed 28 = .ok (.iload 5, 2) := dk_21 5 (dk_at dksX3_isRubbed_1 5 rfl rfl)
theorem dX3_isRubbed_30 : decode cX3_isRubbed 30 = .ok (.iaload, 1) := dk_46 (dk_at dksX3_isRubbed_1 7 rfl rfl)
theorem dX3_isRubbed_31 : decode cX3_isRubbed 31 = .ok (.iload_n 1, 1) := dk_27 (dk_at dksX3_isRubbed_1 8 rfl rfl)
theorem dX3_isRubbed_32 : decode cX3_isRubbed 32 = .ok (.iload_n 2, 1) := dk_28 (dk_at dksX3_isRubbed_1 9 rfl rfl)
theorem dX3_isRubbed_33 : decode cX3_isRubbed 33 = .ok (.invokevirtual 65, 3) := dk_182 0 65 (dk_at dksX3_isRubbed_1 10 rfl rfl)
theorem dX3_isRubbed_36 : decode cX3_isRubbed 36 = .ok (.iload_n 3, 1) := dk_29 (dk_at dksX3_isRubbed_1 13 rfl rfl)
theorem dX3_isRubbed_37 : decode cX3_isRubbed 37 = .ok (.iload 4, 2) := dk_21 4 (dk_at dksX3_isRubbed_1 14 rfl rfl)
theorem dX3_isRubbed_39 : decode cX3_isRubbed 39 = .ok (.aload_n 0, 1) := dk_42 (dk_at dksX3_isRubbed_1 16 rfl rfl)
theorem dX3_isRubbed_40 : decode cX3_isRubbed 40 = .ok (.getfield 24, 3) := dk_180 0 24 (dk_at dksX3_isRubbed_1 17 rfl rfl)
theorem dX3_isRubbed_43 : decode cX3_isRubbed 43 = .ok (.aload_n 0, 1) := dk_42 (dk_at dksX3_isRubbed_1 20 rfl rfl)
theorem dX3_isRubbed_44 : decode cX3_isRubbed 44 = .ok (.invokevirtual 71, 3) := dk_182 0 71 (dk_at dksX3_isRubbed_1 21 rfl rfl)
theorem dX3_isRubbed_47 : decode cX3_isRubbed 47 = .ok (.invokevirtual 75, 3) := dk_182 0 75 (dk_at dksX3_isRubbed_2 0 rfl rfl)
theorem dX3_isRubbed_50 : decode cX3_isRubbed 50 = .ok (.pop, 1) := dk_87 (dk_at dksX3_isRubbed_2 3 rfl rfl)
theorem dX3_isRubbed_51 : decode cX3_isRubbed 51 = .ok (.aload_n 0, 1) := dk_42 (dk_at dksX3_isRubbed_2 4 rfl rfl)
theorem dX3_isRubbed_52 : decode cX3_isRubbed 52 = .ok (.getfield 3, 3) := dk_180 0 3 (dk_at dksX3_isRubbed_2 5 rfl rfl)
theorem dX3_isRubbed_55 : decode cX3_isRubbed 55 = .ok (.getfield 78, 3) := dk_180 0 78 (dk_at dksX3_isRubbed_2 8 rfl rfl)
theorem dX3_isRubbed_58 : decode cX3_isRubbed 58 = .ok (.bipush 120, 2) := dk_16 120 (dk_at dksX3_isRubbed_2 11 rfl rfl)
theorem dX3_isRubbed_60 : decode cX3_isRubbed 60 = .ok (.aload_n 0, 1) := dk_42 (dk_at dksX3_isRubbed_2 13 rfl rfl)
theorem dX3_isRubbed_61 : decode cX3_isRubbed 61 = .ok (.getfield 3, 3) := dk_180 0 3 (dk_at dksX3_isRubbed_2 14 rfl rfl)
theorem dX3_isRubbed_64 : decode cX3_isRubbed 64 = .ok (.getfield 61, 3) := dk_180 0 61 (dk_at dksX3_isRubbed_2 17 rfl rfl)
theorem dX3_isRubbed_67 : decode cX3_isRubbed 67 = .ok (.invokevirtual 82, 3) := dk_182 0 82 (dk_at dksX3_isRubbed_2 20 rfl rfl)
theorem dX3_isRubbed_70 : decode cX3_isRubbed 70 = .ok (.ifCond .eq 4, 3) := dk_153 0 4 (dk_at dksX3_isRubbed_3 0 rfl rfl)
theorem dX3_isRubbed_73 : decode cX3_isRubbed 73 = .ok (.return_, 1) := dk_177 (dk_at dksX3_isRubbed_3 3 rfl rfl)
theorem dX3_isRubbed_74 : decode cX3_isRubbed 74 = .ok (.aload_n 0, 1) := dk_42 (dk_at dksX3_isRubbed_3 4 rfl rfl)
theorem dX3_isRubbed_75 : decode cX3_isRubbed 75 = .ok (.getfield 3, 3) := dk_180 0 3 (dk_at dksX3_isRubbed_3 5 rfl rfl)
theorem dX3_isRubbed_78 : decode cX3_isRubbed 78 = .ok (.getfield 78, 3) := dk_180 0 78 (dk_at dksX3_isRubbed_3 8 rfl rfl)
theorem dX3_isRubbed_81 : decode cX3_isRubbed 81 = .ok (.bipush 118, 2) := dk_16 118 (dk_at dksX3_isRubbed_3 11 rfl rfl)
theorem dX3_isRubbed_83 : decode cX3_isRubbed 83 = .ok (.iconst 0, 1) := dk_3 (dk_at dksX3_isRubbed_3 13 rfl rfl)
theorem dX3_isRubbed_84 : decode cX3_isRubbed 84 = .ok (.aload_n 0, 1) := dk_42 (dk_at dksX3_isRubbed_3 14 rfl rfl)
theorem dX3_isRubbed_85 : decode cX3_isRubbed 85 = .ok (.getfield 3, 3) := dk_180 0 3 (dk_at dksX3_isRubbed_3 15 rfl rfl)
theorem dX3_isRubbed_88 : decode cX3_isRubbed 88 = .ok (.getfield 61, 3) := dk_180 0 61 (dk_at dksX3_isRubbed_3 18 rfl rfl)
theorem dX3_isRubbed_91 : decode cX3_isRubbed 91 = .ok (.invokevirtual 88, 3) := dk_182 0 88 (dk_at dksX3_isRubbed_3 21 rfl rfl)
theorem dX3_isRubbed_94 : decode cX3_isRubbed 94 = .ok (.bipush 25, 2) := dk_16 25 (dk_at dksX3_isRubbed_4 0 rfl rfl)
theorem dX3_isRubbed_96 : decode cX3_isRubbed 96 = .ok (.invokestatic 92, 3) := dk_184 0 92 (dk_at dksX3_isRubbed_4 2 rfl rfl)
theorem dX3_isRubbed_99 : decode cX3_isRubbed 99 = .ok (.istore 6, 2) := dk_54 6 (dk_at dksX3_isRubbed_4 5 rfl rfl)
theorem dX3_isRubbed_101 : decode cX3_isRubbed 101 = .ok (.aload_n 0, 1) := dk_42 (dk_at dksX3_isRubbed_4 7 rfl rfl)
theorem dX3_isRubbed_102 : decode cX3_isRubbed 102 = .ok (.getfield 3, 3) := dk_180 0 3 (dk_at dksX3_isRubbed_4 8 rfl rfl)
theorem dX3_isRubbed_105 : decode cX3_isRubbed 105 = .ok (.getfield 78, 3) := dk_180 0 78 (dk_at dksX3_isRubbed_4 11 rfl rfl)
theorem dX3_isRubbed_108 : decode cX3_isRubbed 108 = .ok (.bipush 121, 2) := dk_16 121 (dk_at dksX3_isRubbed_4 14 rfl rfl)
theorem dX3_isRubbed_110 : decode cX3_isRubbed 110 = .ok (.iconst 1, 1) := dk_4 (dk_at dksX3_isRubbed_4 16 rfl rfl)
theorem dX3_isRubbed_111 : decode cX3_isRubbed 111 = .ok (.aload_n 0, 1) := dk_42 (dk_at dksX3_isRubbed_4 17 rfl rfl)
theorem dX3_isRubbed_112 : decode cX3_isRubbed 112 = .ok (.getfield 3, 3) := dk_180 0 3 (dk_at dksX3_isRubbed_4 18 rfl rfl)
theorem dX3_isRubbed_115 : decode cX3_isRubbed 115 = .ok (.getfield 61, 3) := dk_180 0 61 (dk_at dksX3_isRubbed_4 21 rfl rfl)
theorem dX3_isRubbed_118 : decode cX3_isRubbed 118 = .ok (.invokevirtual 88, 3) := dk_182 0 88 (dk_at dksX3_isRubbed_5 0 rfl rfl)
theorem dX3_isRubbed_121 : decode cX3_isRubbed 121 = .ok (.bipush 25, 2) := dk_16 25 (dk_at dksX3_isRubbed_5 3 rfl rfl)
theorem dX3_isRubbed_123 : decode cX3_isRubbed 123 = .ok (.invokestatic 92, 3) := dk_184 0 92 (dk_at dksX3_isRubbed_5 5 rfl rfl)
theorem dX3_isRubbed_126 : decode cX3_isRubbed 126 = .ok (.istore 7, 2) := dk_54 7 (dk_at dksX3_isRubbed_5 8 rfl rfl)
theorem dX3_isRubbed_128 : decode cX3_isRubbed 128 = .ok (.aload_n 0, 1) := dk_42 (dk_at dksX3_isRubbed_5 10 rfl rfl)
theorem dX3_isRubbed_129 : decode cX3_isRubbed 129 = .ok (.iconst 1, 1) := dk_4 (dk_at dksX3_isRubbed_5 11 rfl rfl)
theorem dX3_isRubbed_130 : decode cX3_isRubbed 130 = .ok (.iload_n 1, 1) := dk_27 (dk_at dksX3_isRubbed_5 12 rfl rfl)
theorem dX3_isRubbed_131 : decode cX3_isRubbed 131 = .ok (.iload 6, 2) := dk_21 6 (dk_at dksX3_isRubbed_5 13 rfl rfl)
theorem dX3_isRubbed_133 : decode cX3_isRubbed 133 = .ok (.invokevirtual 95, 3) := dk_182 0 95 (dk_at dksX3_isRubbed_5 15 rfl rfl)
theorem dX3_isRubbed_136 : decode cX3_isRubbed 136 = .ok (.aload_n 0, 1) := dk_42 (dk_at dksX3_isRubbed_5 18 rfl rfl)
theorem dX3_isRubbed_137 : decode cX3_isRubbed 137 = .ok (.iconst 0, 1) := dk_3 (dk_at dksX3_isRubbed_5 19 rfl rfl)
theorem dX3_isRubbed_138 : decode cX3_isRubbed 138 = .ok (.iload 5, 2) := dk_21 5 (dk_at dksX3_isRubbed_5 20 rfl rfl)
theorem dX3_isRubbed_140 : decode cX3_isRubbed 140 = .ok (.iload 7, 2) := dk_21 7 (dk_at dksX3_isRubbed_5 22 rfl rfl)
theorem dX3_isRubbed_142 : decode cX3_isRubbed 142 = .ok (.invokevirtual 95, 3) := dk_182 0 95 (dk_at dksX3_isRubbed_6 0 rfl rfl)
theorem dX3_isRubbed_145 : decode cX3_isRubbed 145 = .ok (.return_, 1) := dk_177 (dk_at dksX3_isRubbed_6 3 rfl rfl)
abbrev cX3_draw : ByteArray := prog_3_method_6_code
def yX3_draw : MethodName := ⟨RX3, "draw", "()I"⟩
def dkwX3_draw_1 : List UInt8 := [16, 10, 112, 172]
abbrev dktX3_draw_1 : List UInt8 := dkwX3_draw_1 ++ []
def dkwX3_draw_0 : List UInt8 := [42, 17, 98, 85, 42, 180, 0, 28, 104, 17, 54, 25, 96, 18, 51, 112, 181, 0, 28, 42, 180, 0, 28]
abbrev dktX3_draw_0 : List UInt8 := dkwX3_draw_0 ++ dktX3_draw_1
theorem dksX3_draw_0 : cX3_draw.data.toList.drop 0 = dktX3_draw_0 := by decide +kernel
theorem dksX3_draw_1 : cX3_draw.data.toList.drop 23 = dktX3_draw_1 := dk_seg dksX3_draw_0 23 rfl rfl
theorem dX3_draw_0 : decode cX3_draw 0 = .ok (.aload_n 0, 1) := dk_42 (dk_at dksX3_draw_0 0 rfl rfl)
theorem dX3_draw_1 : decode cX3_draw 1 = .ok (.sipush 25173, 3) := dk_17 98 85 (dk_at dksX3_draw_0 1 rfl rfl)
theorem dX3_draw_4 : decode cX3_draw 4 = .ok (.aload_n 0, 1) := dk_42 (dk_at dksX3_draw_0 4 rfl rfl)
theorem dX3_draw_5 : decode cX3_draw 5 = .ok (.getfield 28, 3) := dk_180 0 28 (dk_at dksX3_draw_0 5 rfl rfl)
theorem dX3_draw_8 : decode cX3_draw 8 = .ok (.imul, 1) := dk_104 (dk_at dksX3_draw_0 8 rfl rfl)
theorem dX3_draw_9 : decode cX3_draw 9 = .ok (.sipush 13849, 3) := dk_17 54 25 (dk_at dksX3_draw_0 9 rfl rfl)
theorem dX3_draw_12 : decode cX3_draw 12 = .ok (.iadd, 1) := dk_96 (dk_at dksX3_draw_0 12 rfl rfl)
theorem dX3_draw_13 : decode cX3_draw 13 = .ok (.ldc 51, 2) := dk_18 51 (dk_at dksX3_draw_0 13 rfl rfl)
theorem dX3_draw_15 : decode cX3_draw 15 = .ok (.irem, 1) := dk_112 (dk_at dksX3_draw_0 15 rfl rfl)
theorem dX3_draw_16 : decode cX3_draw 16 = .ok (.putfield 28, 3) := dk_181 0 28 (dk_at dksX3_draw_0 16 rfl rfl)
theorem dX3_draw_19 : decode cX3_draw 19 = .ok (.aload_n 0, 1) := dk_42 (dk_at dksX3_draw_0 19 rfl rfl)
theorem dX3_draw_20 : decode cX3_draw 20 = .ok (.getfield 28, 3) := dk_180 0 28 (dk_at dksX3_draw_0 20 rfl rfl)
theorem dX3_draw_23 : decode cX3_draw 23 = .ok (.bipush 10, 2) := dk_16 10 (dk_at dksX3_draw_1 0 rfl rfl)
theorem dX3_draw_25 : decode cX3_draw 25 = .ok (.irem, 1) := dk_112 (dk_at dksX3_draw_1 2 rfl rfl)
theorem dX3_draw_26 : decode cX3_draw 26 = .ok (.ireturn, 1) := dk_172 (dk_at dksX3_draw_1 3 rfl rfl)
abbrev cX3_takes : ByteArray := prog_3_method_2_code
def yX3_takes : MethodName := ⟨RX3, "takes", "(LHighSpots$Bench;)LHighSpots$Bench;"⟩
def dkwX3_takes_3 : List UInt8 := [42, 176]
abbrev dktX3_takes_3 : List UInt8 := dkwX3_takes_3 ++ []
def dkwX3_takes_2 : List UInt8 := [46, 79, 132, 2, 1, 167, 255, 206, 42, 43, 180, 0, 24, 181, 0, 24, 42, 43, 180, 0, 28, 181, 0, 28]
abbrev dktX3_takes_2 : List UInt8 := dkwX3_takes_2 ++ dktX3_takes_3
def dkwX3_takes_1 : List UInt8 := [180, 0, 17, 28, 50, 29, 46, 79, 132, 3, 1, 167, 255, 231, 42, 180, 0, 20, 28, 43, 180, 0, 20, 28]
abbrev dktX3_takes_1 : List UInt8 := dkwX3_takes_1 ++ dktX3_takes_2
def dkwX3_takes_0 : List UInt8 := [3, 61, 28, 5, 162, 0, 51, 3, 62, 29, 16, 48, 162, 0, 25, 42, 180, 0, 17, 28, 50, 29, 43]
abbrev dktX3_takes_0 : List UInt8 := dkwX3_takes_0 ++ dktX3_takes_1
theorem dksX3_takes_0 : cX3_takes.data.toList.drop 0 = dktX3_takes_0 := by decide +kernel
theorem dksX3_takes_1 : cX3_takes.data.toList.drop 23 = dktX3_takes_1 := dk_seg dksX3_takes_0 23 rfl rfl
theorem dksX3_takes_2 : cX3_takes.data.toList.drop 47 = dktX3_takes_2 := dk_seg dksX3_takes_1 24 rfl rfl
theorem dksX3_takes_3 : cX3_takes.data.toList.drop 71 = dktX3_takes_3 := dk_seg dksX3_takes_2 24 rfl rfl
theorem dX3_takes_0 : decode cX3_takes 0 = .ok (.iconst 0, 1) := dk_3 (dk_at dksX3_takes_0 0 rfl rfl)
theorem dX3_takes_1 : decode cX3_takes 1 = .ok (.istore_n 2, 1) := dk_61 (dk_at dksX3_takes_0 1 rfl rfl)
theorem dX3_takes_2 : decode cX3_takes 2 = .ok (.iload_n 2, 1) := dk_28 (dk_at dksX3_takes_0 2 rfl rfl)
theorem dX3_takes_3 : decode cX3_takes 3 = .ok (.iconst 2, 1) := dk_5 (dk_at dksX3_takes_0 3 rfl rfl)
theorem dX3_takes_4 : decode cX3_takes 4 = .ok (.if_icmp .ge 51, 3) := dk_162 0 51 (dk_at dksX3_takes_0 4 rfl rfl)
theorem dX3_takes_7 : decode cX3_takes 7 = .ok (.iconst 0, 1) := dk_3 (dk_at dksX3_takes_0 7 rfl rfl)
theorem dX3_takes_8 : decode cX3_takes 8 = .ok (.istore_n 3, 1) := dk_62 (dk_at dksX3_takes_0 8 rfl rfl)
theorem dX3_takes_9 : decode cX3_takes 9 = .ok (.iload_n 3, 1) := dk_29 (dk_at dksX3_takes_0 9 rfl rfl)
theorem dX3_takes_10 : decode cX3_takes 10 = .ok (.bipush 48, 2) := dk_16 48 (dk_at dksX3_takes_0 10 rfl rfl)
theorem dX3_takes_12 : decode cX3_takes 12 = .ok (.if_icmp .ge 25, 3) := dk_162 0 25 (dk_at dksX3_takes_0 12 rfl rfl)
theorem dX3_takes_15 : decode cX3_takes 15 = .ok (.aload_n 0, 1) := dk_42 (dk_at dksX3_takes_0 15 rfl rfl)
theorem dX3_takes_16 : decode cX3_takes 16 = .ok (.getfield 17, 3) := dk_180 0 17 (dk_at dksX3_takes_0 16 rfl rfl)
theorem dX3_takes_19 : decode cX3_takes 19 = .ok (.iload_n 2, 1) := dk_28 (dk_at dksX3_takes_0 19 rfl rfl)
theorem dX3_takes_20 : decode cX3_takes 20 = .ok (.aaload, 1) := dk_50 (dk_at dksX3_takes_0 20 rfl rfl)
theorem dX3_takes_21 : decode cX3_takes 21 = .ok (.iload_n 3, 1) := dk_29 (dk_at dksX3_takes_0 21 rfl rfl)
theorem dX3_takes_22 : decode cX3_takes 22 = .ok (.aload_n 1, 1) := dk_43 (dk_at dksX3_takes_0 22 rfl rfl)
theorem dX3_takes_23 : decode cX3_takes 23 = .ok (.getfield 17, 3) := dk_180 0 17 (dk_at dksX3_takes_1 0 rfl rfl)
theorem dX3_takes_26 : decode cX3_takes 26 = .ok (.iload_n 2, 1) := dk_28 (dk_at dksX3_takes_1 3 rfl rfl)
theorem dX3_takes_27 : decode cX3_takes 27 = .ok (.aaload, 1) := dk_50 (dk_at dksX3_takes_1 4 rfl rfl)
theorem dX3_takes_28 : decode cX3_takes 28 = .ok (.iload_n 3, 1) := dk_29 (dk_at dksX3_takes_1 5 rfl rfl)
theorem dX3_takes_29 : decode cX3_takes 29 = .ok (.iaload, 1) := dk_46 (dk_at dksX3_takes_1 6 rfl rfl)
theorem dX3_takes_30 : decode cX3_takes 30 = .ok (.iastore, 1) := dk_79 (dk_at dksX3_takes_1 7 rfl rfl)
theorem dX3_takes_31 : decode cX3_takes 31 = .ok (.iinc 3 1, 3) := dk_132 3 1 (dk_at dksX3_takes_1 8 rfl rfl)
theorem dX3_takes_34 : decode cX3_takes 34 = .ok (.goto (-25), 3) := dk_167 255 231 (dk_at dksX3_takes_1 11 rfl rfl)
theorem dX3_takes_37 : decode cX3_takes 37 = .ok (.aload_n 0, 1) := dk_42 (dk_at dksX3_takes_1 14 rfl rfl)
theorem dX3_takes_38 : decode cX3_takes 38 = .ok (.getfield 20, 3) := dk_180 0 20 (dk_at dksX3_takes_1 15 rfl rfl)
theorem dX3_takes_41 : decode cX3_takes 41 = .ok (.iload_n 2, 1) := dk_28 (dk_at dksX3_takes_1 18 rfl rfl)
theorem dX3_takes_42 : decode cX3_takes 42 = .ok (.aload_n 1, 1) := dk_43 (dk_at dksX3_takes_1 19 rfl rfl)
theorem dX3_takes_43 : decode cX3_takes 43 = .ok (.getfield 20, 3) := dk_180 0 20 (dk_at dksX3_takes_1 20 rfl rfl)
theorem dX3_takes_46 : decode cX3_takes 46 = .ok (.iload_n 2, 1) := dk_28 (dk_at dksX3_takes_1 23 rfl rfl)
theorem dX3_takes_47 : decode cX3_takes 47 = .ok (.iaload, 1) := dk_46 (dk_at dksX3_takes_2 0 rfl rfl)
theorem dX3_takes_48 : decode cX3_takes 48 = .ok (.iastore, 1) := dk_79 (dk_at dksX3_takes_2 1 rfl rfl)
theorem dX3_takes_49 : decode cX3_takes 49 = .ok (.iinc 2 1, 3) := dk_132 2 1 (dk_at dksX3_takes_2 2 rfl rfl)
theorem dX3_takes_52 : decode cX3_takes 52 = .ok (.goto (-50), 3) := dk_167 255 206 (dk_at dksX3_takes_2 5 rfl rfl)
theorem dX3_takes_55 : decode cX3_takes 55 = .ok (.aload_n 0, 1) := dk_42 (dk_at dksX3_takes_2 8 rfl rfl)
theorem dX3_takes_56 : decode cX3_takes 56 = .ok (.aload_n 1, 1) := dk_43 (dk_at dksX3_takes_2 9 rfl rfl)
theorem dX3_takes_57 : decode cX3_takes 57 = .ok (.getfield 24, 3) := dk_180 0 24 (dk_at dksX3_takes_2 10 rfl rfl)
theorem dX3_takes_60 : decode cX3_takes 60 = .ok (.putfield 24, 3) := dk_181 0 24 (dk_at dksX3_takes_2 13 rfl rfl)
theorem dX3_takes_63 : decode cX3_takes 63 = .ok (.aload_n 0, 1) := dk_42 (dk_at dksX3_takes_2 16 rfl rfl)
theorem dX3_takes_64 : decode cX3_takes 64 = .ok (.aload_n 1, 1) := dk_43 (dk_at dksX3_takes_2 17 rfl rfl)
theorem dX3_takes_65 : decode cX3_takes 65 = .ok (.getfield 28, 3) := dk_180 0 28 (dk_at dksX3_takes_2 18 rfl rfl)
theorem dX3_takes_68 : decode cX3_takes 68 = .ok (.putfield 28, 3) := dk_181 0 28 (dk_at dksX3_takes_2 21 rfl rfl)
theorem dX3_takes_71 : decode cX3_takes 71 = .ok (.aload_n 0, 1) := dk_42 (dk_at dksX3_takes_3 0 rfl rfl)
theorem dX3_takes_72 : decode cX3_takes 72 = .ok (.areturn, 1) := dk_176 (dk_at dksX3_takes_3 1 rfl rfl)
theorem q120 : (Jvm.Cond.initialized "HighSpots$Bench") ∈ lw_all := lw_g (lw_at lw_m1 4 rfl) rfl
theorem q171 : (Jvm.Cond.instantiable "HighSpots$Bench" (6 : Nat)) ∈ lw_all := lw_g (lw_at lw_m1 55 rfl) rfl
theorem q173 : (Jvm.Cond.instanceMethod ({ cls := "HighSpots$Bench", name := "<init>", desc := "(LHighSpots;)V" } : Jvm.MethodName)) ∈ lw_all := lw_g (lw_at lw_m1 57 rfl) rfl
theorem q174 : (Jvm.Cond.code ({ cls := "HighSpots$Bench", name := "<init>", desc := "(LHighSpots;)V" } : Jvm.MethodName) prog_3_method_1_code (2 : Nat) (Option.none : Option Jvm.ClassFile.FieldType)) ∈ lw_all := lw_g (lw_at lw_m1 58 rfl) rfl
theorem q175 : (Jvm.Cond.methodLink "HighSpots$Bench" (9 : Nat) ({ cls := "java/lang/Object", name := "<init>", desc := "()V" } : Jvm.MethodName)) ∈ lw_all := lw_g (lw_at lw_m1 59 rfl) rfl
theorem q176 : (Jvm.Cond.classLink "HighSpots$Bench" (15 : Nat) "[[I") ∈ lw_all := lw_g (lw_at lw_m1 60 rfl) rfl
theorem q178 : (Jvm.Cond.fieldLink "HighSpots$Bench" (17 : Nat) "HighSpots$Bench" "heights" "[[I") ∈ lw_all := lw_g (lw_at lw_m1 62 rfl) rfl
theorem q180 : (Jvm.Cond.fieldLink "HighSpots$Bench" (20 : Nat) "HighSpots$Bench" "worn" "[I") ∈ lw_all := lw_g (lw_at lw_m1 64 rfl) rfl
theorem q182 : (Jvm.Cond.fieldLink "HighSpots$Bench" (24 : Nat) "HighSpots$Bench" "night" "I") ∈ lw_all := lw_g (lw_at lw_m1 66 rfl) rfl
theorem q184 : (Jvm.Cond.fieldLink "HighSpots$Bench" (28 : Nat) "HighSpots$Bench" "x" "I") ∈ lw_all := lw_g (lw_at lw_m1 68 rfl) rfl
theorem q186 : (Jvm.Cond.fieldLink "HighSpots$Bench" (58 : Nat) "HighSpots$Bench" "wornNow" "I") ∈ lw_all := lw_g (lw_at lw_m1 70 rfl) rfl
theorem q188 : (Jvm.Cond.fieldLink "HighSpots$Bench" (3 : Nat) "HighSpots$Bench" "this$0" "LHighSpots;") ∈ lw_all := lw_g (lw_at lw_m1 72 rfl) rfl
theorem q189 : (Jvm.Cond.laysFinal "HighSpots$Bench" "HighSpots$Bench" "heights" "[[I") ∈ lw_all := lw_g (lw_at lw_m1 73 rfl) rfl
theorem q190 : (Jvm.Cond.soleField "HighSpots$Bench" "heights") ∈ lw_all := lw_g (lw_at lw_m1 74 rfl) rfl
theorem q191 : (Jvm.Cond.laysFinal "HighSpots$Bench" "HighSpots$Bench" "worn" "[I") ∈ lw_all := lw_g (lw_at lw_m1 75 rfl) rfl
theorem q192 : (Jvm.Cond.soleField "HighSpots$Bench" "worn") ∈ lw_all := lw_g (lw_at lw_m1 76 rfl) rfl
theorem q193 : (Jvm.Cond.lays "HighSpots$Bench" "HighSpots$Bench" "night" "I") ∈ lw_all := lw_g (lw_at lw_m1 77 rfl) rfl
theorem q194 : (Jvm.Cond.soleField "HighSpots$Bench" "night") ∈ lw_all := lw_g (lw_at lw_m1 78 rfl) rfl
theorem q195 : (Jvm.Cond.lays "HighSpots$Bench" "HighSpots$Bench" "x" "I") ∈ lw_all := lw_g (lw_at lw_m1 79 rfl) rfl
theorem q196 : (Jvm.Cond.soleField "HighSpots$Bench" "x") ∈ lw_all := lw_g (lw_at lw_m1 80 rfl) rfl
theorem q197 : (Jvm.Cond.lays "HighSpots$Bench" "HighSpots$Bench" "wornNow" "I") ∈ lw_all := lw_g (lw_at lw_m1 81 rfl) rfl
theorem q198 : (Jvm.Cond.soleField "HighSpots$Bench" "wornNow") ∈ lw_all := lw_g (lw_at lw_m1 82 rfl) rfl
theorem q199 : (Jvm.Cond.laysFinal "HighSpots$Bench" "HighSpots$Bench" "this$0" "LHighSpots;") ∈ lw_all := lw_g (lw_at lw_m1 83 rfl) rfl
theorem q200 : (Jvm.Cond.soleField "HighSpots$Bench" "this$0") ∈ lw_all := lw_g (lw_at lw_m1 84 rfl) rfl
theorem q201 : (Jvm.Cond.superclass "HighSpots$Bench" "java/lang/Object") ∈ lw_all := lw_g (lw_at lw_m1 85 rfl) rfl
theorem q232 : (Jvm.Cond.fieldLinkNest "HighSpots$Bench" (61 : Nat) "HighSpots" "moment" "LHighSpots$Moment;" "HighSpots") ∈ lw_tbl := lw_at lw_m1 116 rfl
theorem q234 : (Jvm.Cond.fieldLinkNest "HighSpots$Bench" (52 : Nat) "HighSpots" "isKeptOff" "[Z" "HighSpots") ∈ lw_tbl := lw_at lw_m1 118 rfl
theorem q236 : (Jvm.Cond.fieldLinkNest "HighSpots$Bench" (47 : Nat) "HighSpots" "isMarked" "[Z" "HighSpots") ∈ lw_tbl := lw_at lw_m1 120 rfl
theorem q238 : (Jvm.Cond.fieldLinkNest "HighSpots$Bench" (102 : Nat) "HighSpots" "path" "[I" "HighSpots") ∈ lw_tbl := lw_at lw_m1 122 rfl
theorem q240 : (Jvm.Cond.fieldLinkNest "HighSpots$Bench" (99 : Nat) "HighSpots" "steps" "I" "HighSpots") ∈ lw_tbl := lw_at lw_m1 124 rfl
theorem q248 : (Jvm.Cond.fieldLinkNest "HighSpots$Bench" (78 : Nat) "HighSpots" "law" "LHighSpots$Text;" "HighSpots") ∈ lw_tbl := lw_at lw_m1 132 rfl
theorem q815 : (Jvm.Cond.instanceMethod ({ cls := "HighSpots$Bench", name := "marks", desc := "(II)I" } : Jvm.MethodName)) ∈ lw_all := lw_g (lw_at lw_m3 219 rfl) rfl
theorem q816 : (Jvm.Cond.selects "HighSpots$Bench" ({ cls := "HighSpots$Bench", name := "marks", desc := "(II)I" } : Jvm.MethodName) ({ cls := "HighSpots$Bench", name := "marks", desc := "(II)I" } : Jvm.MethodName)) ∈ lw_all := lw_g (lw_at lw_m3 220 rfl) rfl
theorem q817 : (Jvm.Cond.code ({ cls := "HighSpots$Bench", name := "marks", desc := "(II)I" } : Jvm.MethodName) prog_3_method_5_code (6 : Nat) (Option.some Jvm.ClassFile.FieldType.int)) ∈ lw_all := lw_g (lw_at lw_m3 221 rfl) rfl
theorem q818 : (Jvm.Cond.methodLink "HighSpots$Bench" (43 : Nat) ({ cls := "HighSpots$Bench", name := "opening", desc := "(I)I" } : Jvm.MethodName)) ∈ lw_all := lw_g (lw_at lw_m3 222 rfl) rfl
theorem q819 : (Jvm.Cond.instanceMethod ({ cls := "HighSpots$Bench", name := "opening", desc := "(I)I" } : Jvm.MethodName)) ∈ lw_all := lw_g (lw_at lw_m3 223 rfl) rfl
theorem q820 : (Jvm.Cond.selects "HighSpots$Bench" ({ cls := "HighSpots$Bench", name := "opening", desc := "(I)I" } : Jvm.MethodName) ({ cls := "HighSpots$Bench", name := "opening", desc := "(I)I" } : Jvm.MethodName)) ∈ lw_all := lw_g (lw_at lw_m3 224 rfl) rfl
theorem q821 : (Jvm.Cond.code ({ cls := "HighSpots$Bench", name := "opening", desc := "(I)I" } : Jvm.MethodName) prog_3_method_4_code (4 : Nat) (Option.some Jvm.ClassFile.FieldType.int)) ∈ lw_all := lw_g (lw_at lw_m3 225 rfl) rfl
theorem q822 : (Jvm.Cond.methodLinkNest "HighSpots$Bench" (31 : Nat) ({ cls := "HighSpots", name := "facing", desc := "(II)I" } : Jvm.MethodName) "HighSpots") ∈ lw_tbl := lw_at lw_m3 226 rfl
theorem q828 : (Jvm.Cond.methodLink "HighSpots$Bench" (35 : Nat) ({ cls := "HighSpots$Bench", name := "sumAt", desc := "(II)I" } : Jvm.MethodName)) ∈ lw_all := lw_g (lw_at lw_m3 232 rfl) rfl
theorem q829 : (Jvm.Cond.instanceMethod ({ cls := "HighSpots$Bench", name := "sumAt", desc := "(II)I" } : Jvm.MethodName)) ∈ lw_all := lw_g (lw_at lw_m3 233 rfl) rfl
theorem q830 : (Jvm.Cond.selects "HighSpots$Bench" ({ cls := "HighSpots$Bench", name := "sumAt", desc := "(II)I" } : Jvm.MethodName) ({ cls := "HighSpots$Bench", name := "sumAt", desc := "(II)I" } : Jvm.MethodName)) ∈ lw_all := lw_g (lw_at lw_m3 234 rfl) rfl
theorem q831 : (Jvm.Cond.code ({ cls := "HighSpots$Bench", name := "sumAt", desc := "(II)I" } : Jvm.MethodName) prog_3_method_3_code (3 : Nat) (Option.some Jvm.ClassFile.FieldType.int)) ∈ lw_all := lw_g (lw_at lw_m3 235 rfl) rfl
theorem q832 : (Jvm.Cond.methodLink "HighSpots$Bench" (38 : Nat) ({ cls := "java/lang/Math", name := "max", desc := "(II)I" } : Jvm.MethodName)) ∈ lw_all := lw_g (lw_at lw_m3 236 rfl) rfl
theorem q908 : (Jvm.Cond.instanceMethod ({ cls := "HighSpots$Bench", name := "wears", desc := "(III)V" } : Jvm.MethodName)) ∈ lw_all := lw_g (lw_at lw_m4 72 rfl) rfl
theorem q909 : (Jvm.Cond.selects "HighSpots$Bench" ({ cls := "HighSpots$Bench", name := "wears", desc := "(III)V" } : Jvm.MethodName) ({ cls := "HighSpots$Bench", name := "wears", desc := "(III)V" } : Jvm.MethodName)) ∈ lw_all := lw_g (lw_at lw_m4 73 rfl) rfl
theorem q910 : (Jvm.Cond.code ({ cls := "HighSpots$Bench", name := "wears", desc := "(III)V" } : Jvm.MethodName) prog_3_method_7_code (5 : Nat) (Option.none : Option Jvm.ClassFile.FieldType)) ∈ lw_all := lw_g (lw_at lw_m4 74 rfl) rfl
theorem q911 : (Jvm.Cond.methodLink "HighSpots$Bench" (55 : Nat) ({ cls := "java/lang/Math", name := "min", desc := "(II)I" } : Jvm.MethodName)) ∈ lw_all := lw_g (lw_at lw_m4 75 rfl) rfl
theorem q1062 : (Jvm.Cond.instanceMethod ({ cls := "HighSpots$Bench", name := "goes", desc := "(II)LHighSpots$Bench;" } : Jvm.MethodName)) ∈ lw_all := lw_g (lw_at lw_m4 226 rfl) rfl
theorem q1063 : (Jvm.Cond.selects "HighSpots$Bench" ({ cls := "HighSpots$Bench", name := "goes", desc := "(II)LHighSpots$Bench;" } : Jvm.MethodName) ({ cls := "HighSpots$Bench", name := "goes", desc := "(II)LHighSpots$Bench;" } : Jvm.MethodName)) ∈ lw_all := lw_g (lw_at lw_m4 227 rfl) rfl
theorem q1064 : (Jvm.Cond.code ({ cls := "HighSpots$Bench", name := "goes", desc := "(II)LHighSpots$Bench;" } : Jvm.MethodName) prog_3_method_10_code (4 : Nat) (Option.some (Jvm.ClassFile.FieldType.object "HighSpots$Bench"))) ∈ lw_all := lw_g (lw_at lw_m4 228 rfl) rfl
theorem q1065 : (Jvm.Cond.methodLink "HighSpots$Bench" (112 : Nat) ({ cls := "HighSpots$Bench", name := "nightGoes", desc := "(I)V" } : Jvm.MethodName)) ∈ lw_all := lw_g (lw_at lw_m4 229 rfl) rfl
theorem q1066 : (Jvm.Cond.instanceMethod ({ cls := "HighSpots$Bench", name := "nightGoes", desc := "(I)V" } : Jvm.MethodName)) ∈ lw_all := lw_g (lw_at lw_m4 230 rfl) rfl
theorem q1067 : (Jvm.Cond.selects "HighSpots$Bench" ({ cls := "HighSpots$Bench", name := "nightGoes", desc := "(I)V" } : Jvm.MethodName) ({ cls := "HighSpots$Bench", name := "nightGoes", desc := "(I)V" } : Jvm.MethodName)) ∈ lw_all := lw_g (lw_at lw_m4 231 rfl) rfl
theorem q1068 : (Jvm.Cond.code ({ cls := "HighSpots$Bench", name := "nightGoes", desc := "(I)V" } : Jvm.MethodName) prog_3_method_9_code (5 : Nat) (Option.none : Option Jvm.ClassFile.FieldType)) ∈ lw_all := lw_g (lw_at lw_m4 232 rfl) rfl
theorem q1069 : (Jvm.Cond.methodLink "HighSpots$Bench" (105 : Nat) ({ cls := "HighSpots$Bench", name := "marks", desc := "(II)I" } : Jvm.MethodName)) ∈ lw_all := lw_g (lw_at lw_m4 233 rfl) rfl
theorem q1070 : (Jvm.Cond.methodLink "HighSpots$Bench" (108 : Nat) ({ cls := "HighSpots$Bench", name := "isRubbed", desc := "(IIII)V" } : Jvm.MethodName)) ∈ lw_all := lw_g (lw_at lw_m4 234 rfl) rfl
theorem q1071 : (Jvm.Cond.privateMethod ({ cls := "HighSpots$Bench", name := "isRubbed", desc := "(IIII)V" } : Jvm.MethodName)) ∈ lw_tbl := lw_at lw_m4 235 rfl
theorem q1072 : (Jvm.Cond.instanceMethod ({ cls := "HighSpots$Bench", name := "isRubbed", desc := "(IIII)V" } : Jvm.MethodName)) ∈ lw_all := lw_g (lw_at lw_m4 236 rfl) rfl
theorem q1073 : (Jvm.Cond.code ({ cls := "HighSpots$Bench", name := "isRubbed", desc := "(IIII)V" } : Jvm.MethodName) prog_3_method_8_code (8 : Nat) (Option.none : Option Jvm.ClassFile.FieldType)) ∈ lw_all := lw_g (lw_at lw_m4 237 rfl) rfl
theorem q1074 : (Jvm.Cond.methodLink "HighSpots$Bench" (65 : Nat) ({ cls := "HighSpots$Moment", name := "of", desc := "(IIII)LHighSpots$Moment;" } : Jvm.MethodName)) ∈ lw_all := lw_g (lw_at lw_m4 238 rfl) rfl
theorem q1084 : (Jvm.Cond.methodLink "HighSpots$Bench" (71 : Nat) ({ cls := "HighSpots$Bench", name := "draw", desc := "()I" } : Jvm.MethodName)) ∈ lw_all := lw_g (lw_at lw_m5 8 rfl) rfl
theorem q1085 : (Jvm.Cond.privateMethod ({ cls := "HighSpots$Bench", name := "draw", desc := "()I" } : Jvm.MethodName)) ∈ lw_tbl := lw_at lw_m5 9 rfl
theorem q1086 : (Jvm.Cond.instanceMethod ({ cls := "HighSpots$Bench", name := "draw", desc := "()I" } : Jvm.MethodName)) ∈ lw_all := lw_g (lw_at lw_m5 10 rfl) rfl
theorem q1087 : (Jvm.Cond.code ({ cls := "HighSpots$Bench", name := "draw", desc := "()I" } : Jvm.MethodName) prog_3_method_6_code (1 : Nat) (Option.some Jvm.ClassFile.FieldType.int)) ∈ lw_all := lw_g (lw_at lw_m5 11 rfl) rfl
theorem q1088 : (Jvm.Cond.constant "HighSpots$Bench" (51 : Nat) (65536 : Int32)) ∈ lw_all := lw_g (lw_at lw_m5 12 rfl) rfl
theorem q1089 : (Jvm.Cond.methodLink "HighSpots$Bench" (75 : Nat) ({ cls := "HighSpots$Moment", name := "on", desc := "(IIII)LHighSpots$Moment;" } : Jvm.MethodName)) ∈ lw_all := lw_g (lw_at lw_m5 13 rfl) rfl
theorem q1093 : (Jvm.Cond.methodLink "HighSpots$Bench" (82 : Nat) ({ cls := "HighSpots$Text", name := "says", desc := "(ILHighSpots$Asked;)Z" } : Jvm.MethodName)) ∈ lw_all := lw_g (lw_at lw_m5 17 rfl) rfl
theorem q1127 : (Jvm.Cond.methodLink "HighSpots$Bench" (88 : Nat) ({ cls := "HighSpots$Text", name := "tells", desc := "(IILHighSpots$Asked;)I" } : Jvm.MethodName)) ∈ lw_all := lw_g (lw_at lw_m5 51 rfl) rfl
theorem q1139 : (Jvm.Cond.methodLinkNest "HighSpots$Bench" (92 : Nat) ({ cls := "HighSpots", name := "held", desc := "(II)I" } : Jvm.MethodName) "HighSpots") ∈ lw_tbl := lw_at lw_m5 63 rfl
theorem q1142 : (Jvm.Cond.methodLink "HighSpots$Bench" (95 : Nat) ({ cls := "HighSpots$Bench", name := "wears", desc := "(III)V" } : Jvm.MethodName)) ∈ lw_all := lw_g (lw_at lw_m5 66 rfl) rfl
theorem q1148 : (Jvm.Cond.instanceMethod ({ cls := "HighSpots$Bench", name := "takes", desc := "(LHighSpots$Bench;)LHighSpots$Bench;" } : Jvm.MethodName)) ∈ lw_all := lw_g (lw_at lw_m5 72 rfl) rfl
theorem q1149 : (Jvm.Cond.selects "HighSpots$Bench" ({ cls := "HighSpots$Bench", name := "takes", desc := "(LHighSpots$Bench;)LHighSpots$Bench;" } : Jvm.MethodName) ({ cls := "HighSpots$Bench", name := "takes", desc := "(LHighSpots$Bench;)LHighSpots$Bench;" } : Jvm.MethodName)) ∈ lw_all := lw_g (lw_at lw_m5 73 rfl) rfl
theorem q1150 : (Jvm.Cond.code ({ cls := "HighSpots$Bench", name := "takes", desc := "(LHighSpots$Bench;)LHighSpots$Bench;" } : Jvm.MethodName) prog_3_method_2_code (4 : Nat) (Option.some (Jvm.ClassFile.FieldType.object "HighSpots$Bench"))) ∈ lw_all := lw_g (lw_at lw_m5 74 rfl) rfl
theorem in_X3 : ∀ w ∈ wsX30, w ∈ lw_all := lw_in wsX30 [189, 191, 193, 195, 197, 199] (by decide +kernel) (by decide +kernel)

end
section
/-! HighSpots$Reader -/
set_option maxRecDepth 100000
def RX6 : String := "HighSpots$Reader"
def TX6 : u_T := fun k => match k with
  | 0 => ("HighSpots$Reader", "n", "I", true)
  | 1 => ("HighSpots$Reader", "text", "LHighSpots$Text;", true)
  | 2 => ("HighSpots$Reader", "at", "I", false)
  | 3 => ("HighSpots$Reader", "open", "I", false)
  | 4 => ("HighSpots$Reader", "fault", "I", false)
  | 5 => ("HighSpots$Reader", "place", "I", false)
  | _ => ("HighSpots$Reader", "this$0", "LHighSpots;", true)
def tyX6 : Nat → FieldType := fun k => match k with
  | 0 => .int
  | 1 => .object "HighSpots$Text"
  | 2 => .int
  | 3 => .int
  | 4 => .int
  | 5 => .int
  | _ => .object "HighSpots"
abbrev wsX60 : List Cond := u_ws RX6 TX6 7
theorem nmX6 : ∀ a, a < 7 → ∀ b, b < 7 → a ≠ b → (TX6 a).2.1 ≠ (TX6 b).2.1 := by decide +kernel
theorem tyX6_ok : ∀ k, k < 7 → parseFieldDescriptor (TX6 k).2.2.1 = some (tyX6 k) := by decide +kernel
abbrev cX6_init : ByteArray := prog_12_method_1_code
def yX6_init : MethodName := ⟨RX6, "<init>", "(LHighSpots;I)V"⟩
def dkwX6_init_1 : List UInt8 := [181, 0, 22, 177]
abbrev dktX6_init_1 : List UInt8 := dkwX6_init_1 ++ []
def dkwX6_init_0 : List UInt8 := [42, 43, 181, 0, 3, 42, 183, 0, 9, 42, 187, 0, 15, 89, 183, 0, 17, 181, 0, 18, 42, 28]
abbrev dktX6_init_0 : List UInt8 := dkwX6_init_0 ++ dktX6_init_1
theorem dksX6_init_0 : cX6_init.data.toList.drop 0 = dktX6_init_0 := by decide +kernel
theorem dksX6_init_1 : cX6_init.data.toList.drop 22 = dktX6_init_1 := dk_seg dksX6_init_0 22 rfl rfl
theorem dX6_init_0 : decode cX6_init 0 = .ok (.aload_n 0, 1) := dk_42 (dk_at dksX6_init_0 0 rfl rfl)
theorem dX6_init_1 : decode cX6_init 1 = .ok (.aload_n 1, 1) := dk_43 (dk_at dksX6_init_0 1 rfl rfl)
theorem dX6_init_2 : decode cX6_init 2 = .ok (.putfield 3, 3) := dk_181 0 3 (dk_at dksX6_init_0 2 rfl rfl)
theorem dX6_init_5 : decode cX6_init 5 = .ok (.aload_n 0, 1) := dk_42 (dk_at dksX6_init_0 5 rfl rfl)
theorem dX6_init_6 : decode cX6_init 6 = .ok (.invokespecial 9, 3) := dk_183 0 9 (dk_at dksX6_init_0 6 rfl rfl)
theorem dX6_init_9 : decode cX6_init 9 = .ok (.aload_n 0, 1) := dk_42 (dk_at dksX6_init_0 9 rfl rfl)
theorem dX6_init_10 : decode cX6_init 10 = .ok (.new 15, 3) := dk_187 0 15 (dk_at dksX6_init_0 10 rfl rfl)
theorem dX6_init_13 : decode cX6_init 13 = .ok (.dup, 1) := dk_89 (dk_at dksX6_init_0 13 rfl rfl)
theorem dX6_init_14 : decode cX6_init 14 = .ok (.invokespecial 17, 3) := dk_183 0 17 (dk_at dksX6_init_0 14 rfl rfl)
theorem dX6_init_17 : decode cX6_init 17 = .ok (.putfield 18, 3) := dk_181 0 18 (dk_at dksX6_init_0 17 rfl rfl)
theorem dX6_init_20 : decode cX6_init 20 = .ok (.aload_n 0, 1) := dk_42 (dk_at dksX6_init_0 20 rfl rfl)
theorem dX6_init_21 : decode cX6_init 21 = .ok (.iload_n 2, 1) := dk_28 (dk_at dksX6_init_0 21 rfl rfl)
theorem dX6_init_22 : decode cX6_init 22 = .ok (.putfield 22, 3) := dk_181 0 22 (dk_at dksX6_init_1 0 rfl rfl)
theorem dX6_init_25 : decode cX6_init 25 = .ok (.return_, 1) := dk_177 (dk_at dksX6_init_1 3 rfl rfl)
abbrev cX6_read : ByteArray := prog_12_method_16_code
def yX6_read : MethodName := ⟨RX6, "read", "()I"⟩
def dkwX6_read_3 : List UInt8 := [17, 252, 24, 42, 180, 0, 33, 104, 42, 180, 0, 36, 100, 172]
abbrev dktX6_read_3 : List UInt8 := dkwX6_read_3 ++ []
def dkwX6_read_2 : List UInt8 := [182, 0, 64, 167, 255, 207, 42, 182, 0, 43, 153, 0, 13, 42, 180, 0, 18, 180, 0, 131, 167, 0, 16]
abbrev dktX6_read_2 : List UInt8 := dkwX6_read_2 ++ dktX6_read_3
def dkwX6_read_1 : List UInt8 := [42, 180, 0, 26, 42, 180, 0, 22, 162, 0, 7, 4, 167, 0, 4, 3, 60, 27, 153, 255, 216, 42, 16, 59]
abbrev dktX6_read_1 : List UInt8 := dkwX6_read_1 ++ dktX6_read_2
def dkwX6_read_0 : List UInt8 := [4, 60, 27, 153, 0, 51, 42, 182, 0, 43, 153, 0, 44, 42, 182, 0, 146, 42, 182, 0, 43, 153, 0, 18]
abbrev dktX6_read_0 : List UInt8 := dkwX6_read_0 ++ dktX6_read_1
theorem dksX6_read_0 : cX6_read.data.toList.drop 0 = dktX6_read_0 := by decide +kernel
theorem dksX6_read_1 : cX6_read.data.toList.drop 24 = dktX6_read_1 := dk_seg dksX6_read_0 24 rfl rfl
theorem dksX6_read_2 : cX6_read.data.toList.drop 48 = dktX6_read_2 := dk_seg dksX6_read_1 24 rfl rfl
theorem dksX6_read_3 : cX6_read.data.toList.drop 71 = dktX6_read_3 := dk_seg dksX6_read_2 23 rfl rfl
theorem dX6_read_0 : decode cX6_read 0 = .ok (.iconst 1, 1) := dk_4 (dk_at dksX6_read_0 0 rfl rfl)
theorem dX6_read_1 : decode cX6_read 1 = .ok (.istore_n 1, 1) := dk_60 (dk_at dksX6_read_0 1 rfl rfl)
theorem dX6_read_2 : decode cX6_read 2 = .ok (.iload_n 1, 1) := dk_27 (dk_at dksX6_read_0 2 rfl rfl)
theorem dX6_read_3 : decode cX6_read 3 = .ok (.ifCond .eq 51, 3) := dk_153 0 51 (dk_at dksX6_read_0 3 rfl rfl)
theorem dX6_read_6 : decode cX6_read 6 = .ok (.aload_n 0, 1) := dk_42 (dk_at dksX6_read_0 6 rfl rfl)
theorem dX6_read_7 : decode cX6_read 7 = .ok (.invokevirtual 43, 3) := dk_182 0 43 (dk_at dksX6_read_0 7 rfl rfl)
theorem dX6_read_10 : decode cX6_read 10 = .ok (.ifCond .eq 44, 3) := dk_153 0 44 (dk_at dksX6_read_0 10 rfl rfl)
theorem dX6_read_13 : decode cX6_read 13 = .ok (.aload_n 0, 1) := dk_42 (dk_at dksX6_read_0 13 rfl rfl)
theorem dX6_read_14 : decode cX6_read 14 = .ok (.invokevirtual 146, 3) := dk_182 0 146 (dk_at dksX6_read_0 14 rfl rfl)
theorem dX6_read_17 : decode cX6_read 17 = .ok (.aload_n 0, 1) := dk_42 (dk_at dksX6_read_0 17 rfl rfl)
theorem dX6_read_18 : decode cX6_read 18 = .ok (.invokevirtual 43, 3) := dk_182 0 43 (dk_at dksX6_read_0 18 rfl rfl)
theorem dX6_read_21 : decode cX6_read 21 = .ok (.ifCond .eq 18, 3) := dk_153 0 18 (dk_at dksX6_read_0 21 rfl rfl)
theorem dX6_read_24 : decode cX6_read 24 = .ok (.aload_n 0, 1) := dk_42 (dk_at dksX6_read_1 0 rfl rfl)
theorem dX6_read_25 : decode cX6_read 25 = .ok (.getfield 26, 3) := dk_180 0 26 (dk_at dksX6_read_1 1 rfl rfl)
theorem dX6_read_28 : decode cX6_read 28 = .ok (.aload_n 0, 1) := dk_42 (dk_at dksX6_read_1 4 rfl rfl)
theorem dX6_read_29 : decode cX6_read 29 = .ok (.getfield 22, 3) := dk_180 0 22 (dk_at dksX6_read_1 5 rfl rfl)
theorem dX6_read_32 : decode cX6_read 32 = .ok (.if_icmp .ge 7, 3) := dk_162 0 7 (dk_at dksX6_read_1 8 rfl rfl)
theorem dX6_read_35 : decode cX6_read 35 = .ok (.iconst 1, 1) := dk_4 (dk_at dksX6_read_1 11 rfl rfl)
theorem dX6_read_36 : decode cX6_read 36 = .ok (.goto 4, 3) := dk_167 0 4 (dk_at dksX6_read_1 12 rfl rfl)
theorem dX6_read_39 : decode cX6_read 39 = .ok (.iconst 0, 1) := dk_3 (dk_at dksX6_read_1 15 rfl rfl)
theorem dX6_read_40 : decode cX6_read 40 = .ok (.istore_n 1, 1) := dk_60 (dk_at dksX6_read_1 16 rfl rfl)
theorem dX6_read_41 : decode cX6_read 41 = .ok (.iload_n 1, 1) := dk_27 (dk_at dksX6_read_1 17 rfl rfl)
theorem dX6_read_42 : decode cX6_read 42 = .ok (.ifCond .eq (-40), 3) := dk_153 255 216 (dk_at dksX6_read_1 18 rfl rfl)
theorem dX6_read_45 : decode cX6_read 45 = .ok (.aload_n 0, 1) := dk_42 (dk_at dksX6_read_1 21 rfl rfl)
theorem dX6_read_46 : decode cX6_read 46 = .ok (.bipush 59, 2) := dk_16 59 (dk_at dksX6_read_1 22 rfl rfl)
theorem dX6_read_48 : decode cX6_read 48 = .ok (.invokevirtual 64, 3) := dk_182 0 64 (dk_at dksX6_read_2 0 rfl rfl)
theorem dX6_read_51 : decode cX6_read 51 = .ok (.goto (-49), 3) := dk_167 255 207 (dk_at dksX6_read_2 3 rfl rfl)
theorem dX6_read_54 : decode cX6_read 54 = .ok (.aload_n 0, 1) := dk_42 (dk_at dksX6_read_2 6 rfl rfl)
theorem dX6_read_55 : decode cX6_read 55 = .ok (.invokevirtual 43, 3) := dk_182 0 43 (dk_at dksX6_read_2 7 rfl rfl)
theorem dX6_read_58 : decode cX6_read 58 = .ok (.ifCond .eq 13, 3) := dk_153 0 13 (dk_at dksX6_read_2 10 rfl rfl)
theorem dX6_read_61 : decode cX6_read 61 = .ok (.aload_n 0, 1) := dk_42 (dk_at dksX6_read_2 13 rfl rfl)
theorem dX6_read_62 : decode cX6_read 62 = .ok (.getfield 18, 3) := dk_180 0 18 (dk_at dksX6_read_2 14 rfl rfl)
theorem dX6_read_65 : decode cX6_read 65 = .ok (.getfield 131, 3) := dk_180 0 131 (dk_at dksX6_read_2 17 rfl rfl)
theorem dX6_read_68 : decode cX6_read 68 = .ok (.goto 16, 3) := dk_167 0 16 (dk_at dksX6_read_2 20 rfl rfl)
theorem dX6_read_71 : decode cX6_read 71 = .ok (.sipush (-1000), 3) := dk_17 252 24 (dk_at dksX6_read_3 0 rfl rfl)
theorem dX6_read_74 : decode cX6_read 74 = .ok (.aload_n 0, 1) := dk_42 (dk_at dksX6_read_3 3 rfl rfl)
theorem dX6_read_75 : decode cX6_read 75 = .ok (.getfield 33, 3) := dk_180 0 33 (dk_at dksX6_read_3 4 rfl rfl)
theorem dX6_read_78 : decode cX6_read 78 = .ok (.imul, 1) := dk_104 (dk_at dksX6_read_3 7 rfl rfl)
theorem dX6_read_79 : decode cX6_read 79 = .ok (.aload_n 0, 1) := dk_42 (dk_at dksX6_read_3 8 rfl rfl)
theorem dX6_read_80 : decode cX6_read 80 = .ok (.getfield 36, 3) := dk_180 0 36 (dk_at dksX6_read_3 9 rfl rfl)
theorem dX6_read_83 : decode cX6_read 83 = .ok (.isub, 1) := dk_100 (dk_at dksX6_read_3 12 rfl rfl)
theorem dX6_read_84 : decode cX6_read 84 = .ok (.ireturn, 1) := dk_172 (dk_at dksX6_read_3 13 rfl rfl)
abbrev cX6_isGood : ByteArray := prog_12_method_3_code
def yX6_isGood : MethodName := ⟨RX6, "isGood", "()Z"⟩
def dkwX6_isGood_0 : List UInt8 := [42, 180, 0, 33, 154, 0, 7, 4, 167, 0, 4, 3, 172]
abbrev dktX6_isGood_0 : List UInt8 := dkwX6_isGood_0 ++ []
theorem dksX6_isGood_0 : cX6_isGood.data.toList.drop 0 = dktX6_isGood_0 := by decide +kernel
theorem dX6_isGood_0 : decode cX6_isGood 0 = .ok (.aload_n 0, 1) := dk_42 (dk_at dksX6_isGood_0 0 rfl rfl)
theorem dX6_isGood_1 : decode cX6_isGood 1 = .ok (.getfield 33, 3) := dk_180 0 33 (dk_at dksX6_isGood_0 1 rfl rfl)
theorem dX6_isGood_4 : decode cX6_isGood 4 = .ok (.ifCond .ne 7, 3) := dk_154 0 7 (dk_at dksX6_isGood_0 4 rfl rfl)
theorem dX6_isGood_7 : decode cX6_isGood 7 = .ok (.iconst 1, 1) := dk_4 (dk_at dksX6_isGood_0 7 rfl rfl)
theorem dX6_isGood_8 : decode cX6_isGood 8 = .ok (.goto 4, 3) := dk_167 0 4 (dk_at dksX6_isGood_0 8 rfl rfl)
theorem dX6_isGood_11 : decode cX6_isGood 11 = .ok (.iconst 0, 1) := dk_3 (dk_at dksX6_isGood_0 11 rfl rfl)
theorem dX6_isGood_12 : decode cX6_isGood 12 = .ok (.ireturn, 1) := dk_172 (dk_at dksX6_isGood_0 12 rfl rfl)
abbrev cX6_clause : ByteArray := prog_12_method_15_code
def yX6_clause : MethodName := ⟨RX6, "clause", "()V"⟩
def dkwX6_clause_8 : List UInt8 := [4, 96, 181, 0, 131, 177]
abbrev dktX6_clause_8 : List UInt8 := dkwX6_clause_8 ++ []
def dkwX6_clause_7 : List UInt8 := [42, 180, 0, 18, 180, 0, 142, 42, 180, 0, 18, 180, 0, 131, 45, 83, 42, 180, 0, 18, 89, 180, 0, 131]
abbrev dktX6_clause_7 : List UInt8 := dkwX6_clause_7 ++ dktX6_clause_8
def dkwX6_clause_6 : List UInt8 := [180, 0, 18, 180, 0, 131, 27, 79, 42, 180, 0, 18, 180, 0, 138, 42, 180, 0, 18, 180, 0, 131, 44, 83]
abbrev dktX6_clause_6 : List UInt8 := dkwX6_clause_6 ++ dktX6_clause_7
def dkwX6_clause_5 : List UInt8 := [182, 0, 43, 153, 0, 10, 42, 182, 0, 110, 167, 0, 4, 1, 78, 42, 180, 0, 18, 180, 0, 134, 42]
abbrev dktX6_clause_5 : List UInt8 := dkwX6_clause_5 ++ dktX6_clause_6
def dkwX6_clause_4 : List UInt8 := [153, 0, 21, 42, 182, 0, 39, 16, 40, 159, 0, 12, 42, 4, 42, 180, 0, 26, 182, 0, 50, 42]
abbrev dktX6_clause_4 : List UInt8 := dkwX6_clause_4 ++ dktX6_clause_5
def dkwX6_clause_3 : List UInt8 := [181, 0, 54, 27, 16, 120, 160, 0, 7, 1, 167, 0, 7, 42, 182, 0, 60, 77, 42, 182, 0, 43]
abbrev dktX6_clause_3 : List UInt8 := dkwX6_clause_3 ++ dktX6_clause_4
def dkwX6_clause_2 : List UInt8 := [182, 0, 50, 42, 182, 0, 43, 154, 0, 4, 177, 42, 89, 180, 0, 26, 4, 96, 181, 0, 26, 42, 3]
abbrev dktX6_clause_2 : List UInt8 := dkwX6_clause_2 ++ dktX6_clause_3
def dkwX6_clause_1 : List UInt8 := [182, 0, 50, 167, 0, 24, 42, 180, 0, 18, 180, 0, 131, 16, 16, 160, 0, 12, 42, 7, 42, 180, 0, 26]
abbrev dktX6_clause_1 : List UInt8 := dkwX6_clause_1 ++ dktX6_clause_2
def dkwX6_clause_0 : List UInt8 := [42, 182, 0, 39, 60, 27, 153, 0, 12, 18, 129, 27, 182, 0, 77, 156, 0, 15, 42, 4, 42, 180, 0, 26]
abbrev dktX6_clause_0 : List UInt8 := dkwX6_clause_0 ++ dktX6_clause_1
theorem dksX6_clause_0 : cX6_clause.data.toList.drop 0 = dktX6_clause_0 := by decide +kernel
theorem dksX6_clause_1 : cX6_clause.data.toList.drop 24 = dktX6_clause_1 := dk_seg dksX6_clause_0 24 rfl rfl
theorem dksX6_clause_2 : cX6_clause.data.toList.drop 48 = dktX6_clause_2 := dk_seg dksX6_clause_1 24 rfl rfl
theorem dksX6_clause_3 : cX6_clause.data.toList.drop 71 = dktX6_clause_3 := dk_seg dksX6_clause_2 23 rfl rfl
theorem dksX6_clause_4 : cX6_clause.data.toList.drop 93 = dktX6_clause_4 := dk_seg dksX6_clause_3 22 rfl rfl
theorem dksX6_clause_5 : cX6_clause.data.toList.drop 115 = dktX6_clause_5 := dk_seg dksX6_clause_4 22 rfl rfl
theorem dksX6_clause_6 : cX6_clause.data.toList.drop 138 = dktX6_clause_6 := dk_seg dksX6_clause_5 23 rfl rfl
theorem dksX6_clause_7 : cX6_clause.data.toList.drop 162 = dktX6_clause_7 := dk_seg dksX6_clause_6 24 rfl rfl
theorem dksX6_clause_8 : cX6_clause.data.toList.drop 186 = dktX6_clause_8 := dk_seg dksX6_clause_7 24 rfl rfl
theorem dX6_clause_0 : decode cX6_clause 0 = .ok (.aload_n 0, 1) := dk_42 (dk_at dksX6_clause_0 0 rfl rfl)
theorem dX6_clause_1 : decode cX6_clause 1 = .ok (.invokevirtual 39, 3) := dk_182 0 39 (dk_at dksX6_clause_0 1 rfl rfl)
theorem dX6_clause_4 : decode cX6_clause 4 = .ok (.istore_n 1, 1) := dk_60 (dk_at dksX6_clause_0 4 rfl rfl)
theorem dX6_clause_5 : decode cX6_clause 5 = .ok (.iload_n 1, 1) := dk_27 (dk_at dksX6_clause_0 5 rfl rfl)
theorem dX6_clause_6 : decode cX6_clause 6 = .ok (.ifCond .eq 12, 3) := dk_153 0 12 (dk_at dksX6_clause_0 6 rfl rfl)
theorem dX6_clause_9 : decode cX6_clause 9 = .ok (.ldc 129, 2) := dk_18 129 (dk_at dksX6_clause_0 9 rfl rfl)
theorem dX6_clause_11 : decode cX6_clause 11 = .ok (.iload_n 1, 1) := dk_27 (dk_at dksX6_clause_0 11 rfl rfl)
theorem dX6_clause_12 : decode cX6_clause 12 = .ok (.invokevirtual 77, 3) := dk_182 0 77 (dk_at dksX6_clause_0 12 rfl rfl)
theorem dX6_clause_15 : decode cX6_clause 15 = .ok (.ifCond .ge 15, 3) := dk_156 0 15 (dk_at dksX6_clause_0 15 rfl rfl)
theorem dX6_clause_18 : decode cX6_clause 18 = .ok (.aload_n 0, 1) := dk_42 (dk_at dksX6_clause_0 18 rfl rfl)
theorem dX6_clause_19 : decode cX6_clause 19 = .ok (.iconst 1, 1) := dk_4 (dk_at dksX6_clause_0 19 rfl rfl)
theorem dX6_clause_20 : decode cX6_clause 20 = .ok (.aload_n 0, 1) := dk_42 (dk_at dksX6_clause_0 20 rfl rfl)
theorem dX6_clause_21 : decode cX6_clause 21 = .ok (.getfield 26, 3) := dk_180 0 26 (dk_at dksX6_clause_0 21 rfl rfl)
theorem dX6_clause_24 : decode cX6_clause 24 = .ok (.invokevirtual 50, 3) := dk_182 0 50 (dk_at dksX6_clause_1 0 rfl rfl)
theorem dX6_clause_27 : decode cX6_clause 27 = .ok (.goto 24, 3) := dk_167 0 24 (dk_at dksX6_clause_1 3 rfl rfl)
theorem dX6_clause_30 : decode cX6_clause 30 = .ok (.aload_n 0, 1) := dk_42 (dk_at dksX6_clause_1 6 rfl rfl)
theorem dX6_clause_31 : decode cX6_clause 31 = .ok (.getfield 18, 3) := dk_180 0 18 (dk_at dksX6_clause_1 7 rfl rfl)
theorem dX6_clause_34 : decode cX6_clause 34 = .ok (.getfield 131, 3) := dk_180 0 131 (dk_at dksX6_clause_1 10 rfl rfl)
theorem dX6_clause_37 : decode cX6_clause 37 = .ok (.bipush 16, 2) := dk_16 16 (dk_at dksX6_clause_1 13 rfl rfl)
theorem dX6_clause_39 : decode cX6_clause 39 = .ok (.if_icmp .ne 12, 3) := dk_160 0 12 (dk_at dksX6_clause_1 15 rfl rfl)
theorem dX6_clause_42 : decode cX6_clause 42 = .ok (.aload_n 0, 1) := dk_42 (dk_at dksX6_clause_1 18 rfl rfl)
theorem dX6_clause_43 : decode cX6_clause 43 = .ok (.iconst 4, 1) := dk_7 (dk_at dksX6_clause_1 19 rfl rfl)
theorem dX6_clause_44 : decode cX6_clause 44 = .ok (.aload_n 0, 1) := dk_42 (dk_at dksX6_clause_1 20 rfl rfl)
theorem dX6_clause_45 : decode cX6_clause 45 = .ok (.getfield 26, 3) := dk_180 0 26 (dk_at dksX6_clause_1 21 rfl rfl)
theorem dX6_clause_48 : decode cX6_clause 48 = .ok (.invokevirtual 50, 3) := dk_182 0 50 (dk_at dksX6_clause_2 0 rfl rfl)
theorem dX6_clause_51 : decode cX6_clause 51 = .ok (.aload_n 0, 1) := dk_42 (dk_at dksX6_clause_2 3 rfl rfl)
theorem dX6_clause_52 : decode cX6_clause 52 = .ok (.invokevirtual 43, 3) := dk_182 0 43 (dk_at dksX6_clause_2 4 rfl rfl)
theorem dX6_clause_55 : decode cX6_clause 55 = .ok (.ifCond .ne 4, 3) := dk_154 0 4 (dk_at dksX6_clause_2 7 rfl rfl)
theorem dX6_clause_58 : decode cX6_clause 58 = .ok (.return_, 1) := dk_177 (dk_at dksX6_clause_2 10 rfl rfl)
theorem dX6_clause_59 : decode cX6_clause 59 = .ok (.aload_n 0, 1) := dk_42 (dk_at dksX6_clause_2 11 rfl rfl)
theorem dX6_clause_60 : decode cX6_clause 60 = .ok (.dup, 1) := dk_89 (dk_at dksX6_clause_2 12 rfl rfl)
theorem dX6_clause_61 : decode cX6_clause 61 = .ok (.getfield 26, 3) := dk_180 0 26 (dk_at dksX6_clause_2 13 rfl rfl)
theorem dX6_clause_64 : decode cX6_clause 64 = .ok (.iconst 1, 1) := dk_4 (dk_at dksX6_clause_2 16 rfl rfl)
theorem dX6_clause_65 : decode cX6_clause 65 = .ok (.iadd, 1) := dk_96 (dk_at dksX6_clause_2 17 rfl rfl)
theorem dX6_clause_66 : decode cX6_clause 66 = .ok (.putfield 26, 3) := dk_181 0 26 (dk_at dksX6_clause_2 18 rfl rfl)
theorem dX6_clause_69 : decode cX6_clause 69 = .ok (.aload_n 0, 1) := dk_42 (dk_at dksX6_clause_2 21 rfl rfl)
theorem dX6_clause_70 : decode cX6_clause 70 = .ok (.iconst 0, 1) := dk_3 (dk_at dksX6_clause_2 22 rfl rfl)
theorem dX6_clause_71 : decode cX6_clause 71 = .ok (.putfield 54, 3) := dk_181 0 54 (dk_at dksX6_clause_3 0 rfl rfl)
theorem dX6_clause_74 : decode cX6_clause 74 = .ok (.iload_n 1, 1) := dk_27 (dk_at dksX6_clause_3 3 rfl rfl)
theorem dX6_clause_75 : decode cX6_clause 75 = .ok (.bipush 120, 2) := dk_16 120 (dk_at dksX6_clause_3 4 rfl rfl)
theorem dX6_clause_77 : decode cX6_clause 77 = .ok (.if_icmp .ne 7, 3) := dk_160 0 7 (dk_at dksX6_clause_3 6 rfl rfl)
theorem dX6_clause_80 : decode cX6_clause 80 = .ok (.aconst_null, 1) := dk_1 (dk_at dksX6_clause_3 9 rfl rfl)
theorem dX6_clause_81 : decode cX6_clause 81 = .ok (.goto 7, 3) := dk_167 0 7 (dk_at dksX6_clause_3 10 rfl rfl)
theorem dX6_clause_84 : decode cX6_clause 84 = .ok (.aload_n 0, 1) := dk_42 (dk_at dksX6_clause_3 13 rfl rfl)
theorem dX6_clause_85 : decode cX6_clause 85 = .ok (.invokevirtual 60, 3) := dk_182 0 60 (dk_at dksX6_clause_3 14 rfl rfl)
theorem dX6_clause_88 : decode cX6_clause 88 = .ok (.astore_n 2, 1) := dk_77 (dk_at dksX6_clause_3 17 rfl rfl)
theorem dX6_clause_89 : decode cX6_clause 89 = .ok (.aload_n 0, 1) := dk_42 (dk_at dksX6_clause_3 18 rfl rfl)
theorem dX6_clause_90 : decode cX6_clause 90 = .ok (.invokevirtual 43, 3) := dk_182 0 43 (dk_at dksX6_clause_3 19 rfl rfl)
theorem dX6_clause_93 : decode cX6_clause 93 = .ok (.ifCond .eq 21, 3) := dk_153 0 21 (dk_at dksX6_clause_4 0 rfl rfl)
theorem dX6_clause_96 : decode cX6_clause 96 = .ok (.aload_n 0, 1) := dk_42 (dk_at dksX6_clause_4 3 rfl rfl)
theorem dX6_clause_97 : decode cX6_clause 97 = .ok (.invokevirtual 39, 3) := dk_182 0 39 (dk_at dksX6_clause_4 4 rfl rfl)
theorem dX6_clause_100 : decode cX6_clause 100 = .ok (.bipush 40, 2) := dk_16 40 (dk_at dksX6_clause_4 7 rfl rfl)
theorem dX6_clause_102 : decode cX6_clause 102 = .ok (.if_icmp .eq 12, 3) := dk_159 0 12 (dk_at dksX6_clause_4 9 rfl rfl)
theorem dX6_clause_105 : decode cX6_clause 105 = .ok (.aload_n 0, 1) := dk_42 (dk_at dksX6_clause_4 12 rfl rfl)
theorem dX6_clause_106 : decode cX6_clause 106 = .ok (.iconst 1, 1) := dk_4 (dk_at dksX6_clause_4 13 rfl rfl)
theorem dX6_clause_107 : decode cX6_clause 107 = .ok (.aload_n 0, 1) := dk_42 (dk_at dksX6_clause_4 14 rfl rfl)
theorem dX6_clause_108 : decode cX6_clause 108 = .ok (.getfield 26, 3) := dk_180 0 26 (dk_at dksX6_clause_4 15 rfl rfl)
theorem dX6_clause_111 : decode cX6_clause 111 = .ok (.invokevirtual 50, 3) := dk_182 0 50 (dk_at dksX6_clause_4 18 rfl rfl)
theorem dX6_clause_114 : decode cX6_clause 114 = .ok (.aload_n 0, 1) := dk_42 (dk_at dksX6_clause_4 21 rfl rfl)
theorem dX6_clause_115 : decode cX6_clause 115 = .ok (.invokevirtual 43, 3) := dk_182 0 43 (dk_at dksX6_clause_5 0 rfl rfl)
theorem dX6_clause_118 : decode cX6_clause 118 = .ok (.ifCond .eq 10, 3) := dk_153 0 10 (dk_at dksX6_clause_5 3 rfl rfl)
theorem dX6_clause_121 : decode cX6_clause 121 = .ok (.aload_n 0, 1) := dk_42 (dk_at dksX6_clause_5 6 rfl rfl)
theorem dX6_clause_122 : decode cX6_clause 122 = .ok (.invokevirtual 110, 3) := dk_182 0 110 (dk_at dksX6_clause_5 7 rfl rfl)
theorem dX6_clause_125 : decode cX6_clause 125 = .ok (.goto 4, 3) := dk_167 0 4 (dk_at dksX6_clause_5 10 rfl rfl)
theorem dX6_clause_128 : decode cX6_clause 128 = .ok (.aconst_null, 1) := dk_1 (dk_at dksX6_clause_5 13 rfl rfl)
theorem dX6_clause_129 : decode cX6_clause 129 = .ok (.astore_n 3, 1) := dk_78 (dk_at dksX6_clause_5 14 rfl rfl)
theorem dX6_clause_130 : decode cX6_clause 130 = .ok (.aload_n 0, 1) := dk_42 (dk_at dksX6_clause_5 15 rfl rfl)
theorem dX6_clause_131 : decode cX6_clause 131 = .ok (.getfield 18, 3) := dk_180 0 18 (dk_at dksX6_clause_5 16 rfl rfl)
theorem dX6_clause_134 : decode cX6_clause 134 = .ok (.getfield 134, 3) := dk_180 0 134 (dk_at dksX6_clause_5 19 rfl rfl)
theorem dX6_clause_137 : decode cX6_clause 137 = .ok (.aload_n 0, 1) := dk_42 (dk_at dksX6_clause_5 22 rfl rfl)
theorem dX6_clause_138 : decode cX6_clause 138 = .ok (.getfield 18, 3) := dk_180 0 18 (dk_at dksX6_clause_6 0 rfl rfl)
theorem dX6_clause_141 : decode cX6_clause 141 = .ok (.getfield 131, 3) := dk_180 0 131 (dk_at dksX6_clause_6 3 rfl rfl)
theorem dX6_clause_144 : decode cX6_clause 144 = .ok (.iload_n 1, 1) := dk_27 (dk_at dksX6_clause_6 6 rfl rfl)
theorem dX6_clause_145 : decode cX6_clause 145 = .ok (.iastore, 1) := dk_79 (dk_at dksX6_clause_6 7 rfl rfl)
theorem dX6_clause_146 : decode cX6_clause 146 = .ok (.aload_n 0, 1) := dk_42 (dk_at dksX6_clause_6 8 rfl rfl)
theorem dX6_clause_147 : decode cX6_clause 147 = .ok (.getfield 18, 3) := dk_180 0 18 (dk_at dksX6_clause_6 9 rfl rfl)
theorem dX6_clause_150 : decode cX6_clause 150 = .ok (.getfield 138, 3) := dk_180 0 138 (dk_at dksX6_clause_6 12 rfl rfl)
theorem dX6_clause_153 : decode cX6_clause 153 = .ok (.aload_n 0, 1) := dk_42 (dk_at dksX6_clause_6 15 rfl rfl)
theorem dX6_clause_154 : decode cX6_clause 154 = .ok (.getfield 18, 3) := dk_180 0 18 (dk_at dksX6_clause_6 16 rfl rfl)
theorem dX6_clause_157 : decode cX6_clause 157 = .ok (.getfield 131, 3) := dk_180 0 131 (dk_at dksX6_clause_6 19 rfl rfl)
theorem dX6_clause_160 : decode cX6_clause 160 = .ok (.aload_n 2, 1) := dk_44 (dk_at dksX6_clause_6 22 rfl rfl)
theorem dX6_clause_161 : decode cX6_clause 161 = .ok (.aastore, 1) := dk_83 (dk_at dksX6_clause_6 23 rfl rfl)
theorem dX6_clause_162 : decode cX6_clause 162 = .ok (.aload_n 0, 1) := dk_42 (dk_at dksX6_clause_7 0 rfl rfl)
theorem dX6_clause_163 : decode cX6_clause 163 = .ok (.getfield 18, 3) := dk_180 0 18 (dk_at dksX6_clause_7 1 rfl rfl)
theorem dX6_clause_166 : decode cX6_clause 166 = .ok (.getfield 142, 3) := dk_180 0 142 (dk_at dksX6_clause_7 4 rfl rfl)
theorem dX6_clause_169 : decode cX6_clause 169 = .ok (.aload_n 0, 1) := dk_42 (dk_at dksX6_clause_7 7 rfl rfl)
theorem dX6_clause_170 : decode cX6_clause 170 = .ok (.getfield 18, 3) := dk_180 0 18 (dk_at dksX6_clause_7 8 rfl rfl)
theorem dX6_clause_173 : decode cX6_clause 173 = .ok (.getfield 131, 3) := dk_180 0 131 (dk_at dksX6_clause_7 11 rfl rfl)
theorem dX6_clause_176 : decode cX6_clause 176 = .ok (.aload_n 3, 1) := dk_45 (dk_at dksX6_clause_7 14 rfl rfl)
theorem dX6_clause_177 : decode cX6_clause 177 = .ok (.aastore, 1) := dk_83 (dk_at dksX6_clause_7 15 rfl rfl)
theorem dX6_clause_178 : decode cX6_clause 178 = .ok (.aload_n 0, 1) := dk_42 (dk_at dksX6_clause_7 16 rfl rfl)
theorem dX6_clause_179 : decode cX6_clause 179 = .ok (.getfield 18, 3) := dk_180 0 18 (dk_at dksX6_clause_7 17 rfl rfl)
theorem dX6_clause_182 : decode cX6_clause 182 = .ok (.dup, 1) := dk_89 (dk_at dksX6_clause_7 20 rfl rfl)
theorem dX6_clause_183 : decode cX6_clause 183 = .ok (.getfield 131, 3) := dk_180 0 131 (dk_at dksX6_clause_7 21 rfl rfl)
theorem dX6_clause_186 : decode cX6_clause 186 = .ok (.iconst 1, 1) := dk_4 (dk_at dksX6_clause_8 0 rfl rfl)
theorem dX6_clause_187 : decode cX6_clause 187 = .ok (.iadd, 1) := dk_96 (dk_at dksX6_clause_8 1 rfl rfl)
theorem dX6_clause_188 : decode cX6_clause 188 = .ok (.putfield 131, 3) := dk_181 0 131 (dk_at dksX6_clause_8 2 rfl rfl)
theorem dX6_clause_191 : decode cX6_clause 191 = .ok (.return_, 1) := dk_177 (dk_at dksX6_clause_8 5 rfl rfl)
abbrev cX6_here : ByteArray := prog_12_method_2_code
def yX6_here : MethodName := ⟨RX6, "here", "()I"⟩
def dkwX6_here_1 : List UInt8 := [17, 0, 255, 126, 167, 0, 4, 3, 172]
abbrev dktX6_here_1 : List UInt8 := dkwX6_here_1 ++ []
def dkwX6_here_0 : List UInt8 := [42, 180, 0, 26, 42, 180, 0, 22, 162, 0, 22, 42, 180, 0, 3, 180, 0, 29, 42, 180, 0, 26, 51]
abbrev dktX6_here_0 : List UInt8 := dkwX6_here_0 ++ dktX6_here_1
theorem dksX6_here_0 : cX6_here.data.toList.drop 0 = dktX6_here_0 := by decide +kernel
theorem dksX6_here_1 : cX6_here.data.toList.drop 23 = dktX6_here_1 := dk_seg dksX6_here_0 23 rfl rfl
theorem dX6_here_0 : decode cX6_here 0 = .ok (.aload_n 0, 1) := dk_42 (dk_at dksX6_here_0 0 rfl rfl)
theorem dX6_here_1 : decode cX6_here 1 = .ok (.getfield 26, 3) := dk_180 0 26 (dk_at dksX6_here_0 1 rfl rfl)
theorem dX6_here_4 : decode cX6_here 4 = .ok (.aload_n 0, 1) := dk_42 (dk_at dksX6_here_0 4 rfl rfl)
theorem dX6_here_5 : decode cX6_here 5 = .ok (.getfield 22, 3) := dk_180 0 22 (dk_at dksX6_here_0 5 rfl rfl)
theorem dX6_here_8 : decode cX6_here 8 = .ok (.if_icmp .ge 22, 3) := dk_162 0 22 (dk_at dksX6_here_0 8 rfl rfl)
theorem dX6_here_11 : decode cX6_here 11 = .ok (.aload_n 0, 1) := dk_42 (dk_at dksX6_here_0 11 rfl rfl)
theorem dX6_here_12 : decode cX6_here 12 = .ok (.getfield 3, 3) := dk_180 0 3 (dk_at dksX6_here_0 12 rfl rfl)
theorem dX6_here_15 : decode cX6_here 15 = .ok (.getfield 29, 3) := dk_180 0 29 (dk_at dksX6_here_0 15 rfl rfl)
theorem dX6_here_18 : decode cX6_here 18 = .ok (.aload_n 0, 1) := dk_42 (dk_at dksX6_here_0 18 rfl rfl)
theorem dX6_here_19 : decode cX6_here 19 = .ok (.getfield 26, 3) := dk_180 0 26 (dk_at dksX6_here_0 19 rfl rfl)
theorem dX6_here_22 : decode cX6_here 22 = .ok (.baload, 1) := dk_51 (dk_at dksX6_here_0 22 rfl rfl)
theorem dX6_here_23 : decode cX6_here 23 = .ok (.sipush 255, 3) := dk_17 0 255 (dk_at dksX6_here_1 0 rfl rfl)
theorem dX6_here_26 : decode cX6_here 26 = .ok (.iand, 1) := dk_126 (dk_at dksX6_here_1 3 rfl rfl)
theorem dX6_here_27 : decode cX6_here 27 = .ok (.goto 4, 3) := dk_167 0 4 (dk_at dksX6_here_1 4 rfl rfl)
theorem dX6_here_30 : decode cX6_here 30 = .ok (.iconst 0, 1) := dk_3 (dk_at dksX6_here_1 7 rfl rfl)
theorem dX6_here_31 : decode cX6_here 31 = .ok (.ireturn, 1) := dk_172 (dk_at dksX6_here_1 8 rfl rfl)
abbrev cX6_bad : ByteArray := prog_12_method_4_code
def yX6_bad : MethodName := ⟨RX6, "bad", "(II)V"⟩
def dkwX6_bad_0 : List UInt8 := [42, 180, 0, 33, 158, 0, 4, 177, 42, 27, 181, 0, 33, 42, 28, 181, 0, 36, 177]
abbrev dktX6_bad_0 : List UInt8 := dkwX6_bad_0 ++ []
theorem dksX6_bad_0 : cX6_bad.data.toList.drop 0 = dktX6_bad_0 := by decide +kernel
theorem dX6_bad_0 : decode cX6_bad 0 = .ok (.aload_n 0, 1) := dk_42 (dk_at dksX6_bad_0 0 rfl rfl)
theorem dX6_bad_1 : decode cX6_bad 1 = .ok (.getfield 33, 3) := dk_180 0 33 (dk_at dksX6_bad_0 1 rfl rfl)
theorem dX6_bad_4 : decode cX6_bad 4 = .ok (.ifCond .le 4, 3) := dk_158 0 4 (dk_at dksX6_bad_0 4 rfl rfl)
theorem dX6_bad_7 : decode cX6_bad 7 = .ok (.return_, 1) := dk_177 (dk_at dksX6_bad_0 7 rfl rfl)
theorem dX6_bad_8 : decode cX6_bad 8 = .ok (.aload_n 0, 1) := dk_42 (dk_at dksX6_bad_0 8 rfl rfl)
theorem dX6_bad_9 : decode cX6_bad 9 = .ok (.iload_n 1, 1) := dk_27 (dk_at dksX6_bad_0 9 rfl rfl)
theorem dX6_bad_10 : decode cX6_bad 10 = .ok (.putfield 33, 3) := dk_181 0 33 (dk_at dksX6_bad_0 10 rfl rfl)
theorem dX6_bad_13 : decode cX6_bad 13 = .ok (.aload_n 0, 1) := dk_42 (dk_at dksX6_bad_0 13 rfl rfl)
theorem dX6_bad_14 : decode cX6_bad 14 = .ok (.iload_n 2, 1) := dk_28 (dk_at dksX6_bad_0 14 rfl rfl)
theorem dX6_bad_15 : decode cX6_bad 15 = .ok (.putfield 36, 3) := dk_181 0 36 (dk_at dksX6_bad_0 15 rfl rfl)
theorem dX6_bad_18 : decode cX6_bad 18 = .ok (.return_, 1) := dk_177 (dk_at dksX6_bad_0 18 rfl rfl)
abbrev cX6_sum : ByteArray := prog_12_method_11_code
def yX6_sum : MethodName := ⟨RX6, "sum", "()LHighSpots$Sum;"⟩
def dkwX6_sum_3 : List UInt8 := [44, 180, 0, 94, 77, 167, 255, 195, 43, 176]
abbrev dktX6_sum_3 : List UInt8 := dkwX6_sum_3 ++ []
def dkwX6_sum_2 : List UInt8 := [180, 0, 26, 4, 96, 181, 0, 26, 44, 187, 0, 86, 89, 29, 42, 182, 0, 98, 183, 0, 91, 181, 0, 94]
abbrev dktX6_sum_2 : List UInt8 := dkwX6_sum_2 ++ dktX6_sum_3
def dkwX6_sum_1 : List UInt8 := [182, 0, 39, 16, 43, 159, 0, 12, 42, 182, 0, 39, 16, 45, 160, 0, 42, 42, 182, 0, 39, 62, 42, 89]
abbrev dktX6_sum_1 : List UInt8 := dkwX6_sum_1 ++ dktX6_sum_2
def dkwX6_sum_0 : List UInt8 := [187, 0, 86, 89, 3, 42, 182, 0, 98, 183, 0, 91, 76, 43, 77, 42, 182, 0, 43, 153, 0, 60, 42]
abbrev dktX6_sum_0 : List UInt8 := dkwX6_sum_0 ++ dktX6_sum_1
theorem dksX6_sum_0 : cX6_sum.data.toList.drop 0 = dktX6_sum_0 := by decide +kernel
theorem dksX6_sum_1 : cX6_sum.data.toList.drop 23 = dktX6_sum_1 := dk_seg dksX6_sum_0 23 rfl rfl
theorem dksX6_sum_2 : cX6_sum.data.toList.drop 47 = dktX6_sum_2 := dk_seg dksX6_sum_1 24 rfl rfl
theorem dksX6_sum_3 : cX6_sum.data.toList.drop 71 = dktX6_sum_3 := dk_seg dksX6_sum_2 24 rfl rfl
theorem dX6_sum_0 : decode cX6_sum 0 = .ok (.new 86, 3) := dk_187 0 86 (dk_at dksX6_sum_0 0 rfl rfl)
theorem dX6_sum_3 : decode cX6_sum 3 = .ok (.dup, 1) := dk_89 (dk_at dksX6_sum_0 3 rfl rfl)
theorem dX6_sum_4 : decode cX6_sum 4 = .ok (.iconst 0, 1) := dk_3 (dk_at dksX6_sum_0 4 rfl rfl)
theorem dX6_sum_5 : decode cX6_sum 5 = .ok (.aload_n 0, 1) := dk_42 (dk_at dksX6_sum_0 5 rfl rfl)
theorem dX6_sum_6 : decode cX6_sum 6 = .ok (.invokevirtual 98, 3) := dk_182 0 98 (dk_at dksX6_sum_0 6 rfl rfl)
theorem dX6_sum_9 : decode cX6_sum 9 = .ok (.invokespecial 91, 3) := dk_183 0 91 (dk_at dksX6_sum_0 9 rfl rfl)
theorem dX6_sum_12 : decode cX6_sum 12 = .ok (.astore_n 1, 1) := dk_76 (dk_at dksX6_sum_0 12 rfl rfl)
theorem dX6_sum_13 : decode cX6_sum 13 = .ok (.aload_n 1, 1) := dk_43 (dk_at dksX6_sum_0 13 rfl rfl)
theorem dX6_sum_14 : decode cX6_sum 14 = .ok (.astore_n 2, 1) := dk_77 (dk_at dksX6_sum_0 14 rfl rfl)
theorem dX6_sum_15 : decode cX6_sum 15 = .ok (.aload_n 0, 1) := dk_42 (dk_at dksX6_sum_0 15 rfl rfl)
theorem dX6_sum_16 : decode cX6_sum 16 = .ok (.invokevirtual 43, 3) := dk_182 0 43 (dk_at dksX6_sum_0 16 rfl rfl)
theorem dX6_sum_19 : decode cX6_sum 19 = .ok (.ifCond .eq 60, 3) := dk_153 0 60 (dk_at dksX6_sum_0 19 rfl rfl)
theorem dX6_sum_22 : decode cX6_sum 22 = .ok (.aload_n 0, 1) := dk_42 (dk_at dksX6_sum_0 22 rfl rfl)
theorem dX6_sum_23 : decode cX6_sum 23 = .ok (.invokevirtual 39, 3) := dk_182 0 39 (dk_at dksX6_sum_1 0 rfl rfl)
theorem dX6_sum_26 : decode cX6_sum 26 = .ok (.bipush 43, 2) := dk_16 43 (dk_at dksX6_sum_1 3 rfl rfl)
theorem dX6_sum_28 : decode cX6_sum 28 = .ok (.if_icmp .eq 12, 3) := dk_159 0 12 (dk_at dksX6_sum_1 5 rfl rfl)
theorem dX6_sum_31 : decode cX6_sum 31 = .ok (.aload_n 0, 1) := dk_42 (dk_at dksX6_sum_1 8 rfl rfl)
theorem dX6_sum_32 : decode cX6_sum 32 = .ok (.invokevirtual 39, 3) := dk_182 0 39 (dk_at dksX6_sum_1 9 rfl rfl)
theorem dX6_sum_35 : decode cX6_sum 35 = .ok (.bipush 45, 2) := dk_16 45 (dk_at dksX6_sum_1 12 rfl rfl)
theorem dX6_sum_37 : decode cX6_sum 37 = .ok (.if_icmp .ne 42, 3) := dk_160 0 42 (dk_at dksX6_sum_1 14 rfl rfl)
theorem dX6_sum_40 : decode cX6_sum 40 = .ok (.aload_n 0, 1) := dk_42 (dk_at dksX6_sum_1 17 rfl rfl)
theorem dX6_sum_41 : decode cX6_sum 41 = .ok (.invokevirtual 39, 3) := dk_182 0 39 (dk_at dksX6_sum_1 18 rfl rfl)
theorem dX6_sum_44 : decode cX6_sum 44 = .ok (.istore_n 3, 1) := dk_62 (dk_at dksX6_sum_1 21 rfl rfl)
theorem dX6_sum_45 : decode cX6_sum 45 = .ok (.aload_n 0, 1) := dk_42 (dk_at dksX6_sum_1 22 rfl rfl)
theorem dX6_sum_46 : decode cX6_sum 46 = .ok (.dup, 1) := dk_89 (dk_at dksX6_sum_1 23 rfl rfl)
theorem dX6_sum_47 : decode cX6_sum 47 = .ok (.getfield 26, 3) := dk_180 0 26 (dk_at dksX6_sum_2 0 rfl rfl)
theorem dX6_sum_50 : decode cX6_sum 50 = .ok (.iconst 1, 1) := dk_4 (dk_at dksX6_sum_2 3 rfl rfl)
theorem dX6_sum_51 : decode cX6_sum 51 = .ok (.iadd, 1) := dk_96 (dk_at dksX6_sum_2 4 rfl rfl)
theorem dX6_sum_52 : decode cX6_sum 52 = .ok (.putfield 26, 3) := dk_181 0 26 (dk_at dksX6_sum_2 5 rfl rfl)
theorem dX6_sum_55 : decode cX6_sum 55 = .ok (.aload_n 2, 1) := dk_44 (dk_at dksX6_sum_2 8 rfl rfl)
theorem dX6_sum_56 : decode cX6_sum 56 = .ok (.new 86, 3) := dk_187 0 86 (dk_at dksX6_sum_2 9 rfl rfl)
theorem dX6_sum_59 : decode cX6_sum 59 = .ok (.dup, 1) := dk_89 (dk_at dksX6_sum_2 12 rfl rfl)
theorem dX6_sum_60 : decode cX6_sum 60 = .ok (.iload_n 3, 1) := dk_29 (dk_at dksX6_sum_2 13 rfl rfl)
theorem dX6_sum_61 : decode cX6_sum 61 = .ok (.aload_n 0, 1) := dk_42 (dk_at dksX6_sum_2 14 rfl rfl)
theorem dX6_sum_62 : decode cX6_sum 62 = .ok (.invokevirtual 98, 3) := dk_182 0 98 (dk_at dksX6_sum_2 15 rfl rfl)
theorem dX6_sum_65 : decode cX6_sum 65 = .ok (.invokespecial 91, 3) := dk_183 0 91 (dk_at dksX6_sum_2 18 rfl rfl)
theorem dX6_sum_68 : decode cX6_sum 68 = .ok (.putfield 94, 3) := dk_181 0 94 (dk_at dksX6_sum_2 21 rfl rfl)
theorem dX6_sum_71 : decode cX6_sum 71 = .ok (.aload_n 2, 1) := dk_44 (dk_at dksX6_sum_3 0 rfl rfl)
theorem dX6_sum_72 : decode cX6_sum 72 = .ok (.getfield 94, 3) := dk_180 0 94 (dk_at dksX6_sum_3 1 rfl rfl)
theorem dX6_sum_75 : decode cX6_sum 75 = .ok (.astore_n 2, 1) := dk_77 (dk_at dksX6_sum_3 4 rfl rfl)
theorem dX6_sum_76 : decode cX6_sum 76 = .ok (.goto (-61), 3) := dk_167 255 195 (dk_at dksX6_sum_3 5 rfl rfl)
theorem dX6_sum_79 : decode cX6_sum 79 = .ok (.aload_n 1, 1) := dk_43 (dk_at dksX6_sum_3 8 rfl rfl)
theorem dX6_sum_80 : decode cX6_sum 80 = .ok (.areturn, 1) := dk_176 (dk_at dksX6_sum_3 9 rfl rfl)
abbrev cX6_product : ByteArray := prog_12_method_10_code
def yX6_product : MethodName := ⟨RX6, "product", "()LHighSpots$Sum;"⟩
def dkwX6_product_3 : List UInt8 := [42, 182, 0, 88, 183, 0, 91, 181, 0, 94, 44, 180, 0, 94, 77, 167, 255, 186, 43, 176]
abbrev dktX6_product_3 : List UInt8 := dkwX6_product_3 ++ []
def dkwX6_product_2 : List UInt8 := [160, 0, 42, 42, 182, 0, 39, 62, 42, 89, 180, 0, 26, 4, 96, 181, 0, 26, 44, 187, 0, 86, 89, 29]
abbrev dktX6_product_2 : List UInt8 := dkwX6_product_2 ++ dktX6_product_3
def dkwX6_product_1 : List UInt8 := [182, 0, 39, 16, 42, 159, 0, 21, 42, 182, 0, 39, 16, 47, 159, 0, 12, 42, 182, 0, 39, 16, 37]
abbrev dktX6_product_1 : List UInt8 := dkwX6_product_1 ++ dktX6_product_2
def dkwX6_product_0 : List UInt8 := [187, 0, 86, 89, 3, 42, 182, 0, 88, 183, 0, 91, 76, 43, 77, 42, 182, 0, 43, 153, 0, 69, 42]
abbrev dktX6_product_0 : List UInt8 := dkwX6_product_0 ++ dktX6_product_1
theorem dksX6_product_0 : cX6_product.data.toList.drop 0 = dktX6_product_0 := by decide +kernel
theorem dksX6_product_1 : cX6_product.data.toList.drop 23 = dktX6_product_1 := dk_seg dksX6_product_0 23 rfl rfl
theorem dksX6_product_2 : cX6_product.data.toList.drop 46 = dktX6_product_2 := dk_seg dksX6_product_1 23 rfl rfl
theorem dksX6_product_3 : cX6_product.data.toList.drop 70 = dktX6_product_3 := dk_seg dksX6_product_2 24 rfl rfl
theorem dX6_product_0 : decode cX6_product 0 = .ok (.new 86, 3) := dk_187 0 86 (dk_at dksX6_product_0 0 rfl rfl)
theorem dX6_product_3 : decode cX6_product 3 = .ok (.dup, 1) := dk_89 (dk_at dksX6_product_0 3 rfl rfl)
theorem dX6_product_4 : decode cX6_product 4 = .ok (.iconst 0, 1) := dk_3 (dk_at dksX6_product_0 4 rfl rfl)
theorem dX6_product_5 : decode cX6_product 5 = .ok (.aload_n 0, 1) := dk_42 (dk_at dksX6_product_0 5 rfl rfl)
theorem dX6_product_6 : decode cX6_product 6 = .ok (.invokevirtual 88, 3) := dk_182 0 88 (dk_at dksX6_product_0 6 rfl rfl)
theorem dX6_product_9 : decode cX6_product 9 = .ok (.invokespecial 91, 3) := dk_183 0 91 (dk_at dksX6_product_0 9 rfl rfl)
theorem dX6_product_12 : decode cX6_product 12 = .ok (.astore_n 1, 1) := dk_76 (dk_at dksX6_product_0 12 rfl rfl)
theorem dX6_product_13 : decode cX6_product 13 = .ok (.aload_n 1, 1) := dk_43 (dk_at dksX6_product_0 13 rfl rfl)
theorem dX6_product_14 : decode cX6_product 14 = .ok (.astore_n 2, 1) := dk_77 (dk_at dksX6_product_0 14 rfl rfl)
theorem dX6_product_15 : decode cX6_product 15 = .ok (.aload_n 0, 1) := dk_42 (dk_at dksX6_product_0 15 rfl rfl)
theorem dX6_product_16 : decode cX6_product 16 = .ok (.invokevirtual 43, 3) := dk_182 0 43 (dk_at dksX6_product_0 16 rfl rfl)
theorem dX6_product_19 : decode cX6_product 19 = .ok (.ifCond .eq 69, 3) := dk_153 0 69 (dk_at dksX6_product_0 19 rfl rfl)
theorem dX6_product_22 : decode cX6_product 22 = .ok (.aload_n 0, 1) := dk_42 (dk_at dksX6_product_0 22 rfl rfl)
theorem dX6_product_23 : decode cX6_product 23 = .ok (.invokevirtual 39, 3) := dk_182 0 39 (dk_at dksX6_product_1 0 rfl rfl)
theorem dX6_product_26 : decode cX6_product 26 = .ok (.bipush 42, 2) := dk_16 42 (dk_at dksX6_product_1 3 rfl rfl)
theorem dX6_product_28 : decode cX6_product 28 = .ok (.if_icmp .eq 21, 3) := dk_159 0 21 (dk_at dksX6_product_1 5 rfl rfl)
theorem dX6_product_31 : decode cX6_product 31 = .ok (.aload_n 0, 1) := dk_42 (dk_at dksX6_product_1 8 rfl rfl)
theorem dX6_product_32 : decode cX6_product 32 = .ok (.invokevirtual 39, 3) := dk_182 0 39 (dk_at dksX6_product_1 9 rfl rfl)
theorem dX6_product_35 : decode cX6_product 35 = .ok (.bipush 47, 2) := dk_16 47 (dk_at dksX6_product_1 12 rfl rfl)
theorem dX6_product_37 : decode cX6_product 37 = .ok (.if_icmp .eq 12, 3) := dk_159 0 12 (dk_at dksX6_product_1 14 rfl rfl)
theorem dX6_product_40 : decode cX6_product 40 = .ok (.aload_n 0, 1) := dk_42 (dk_at dksX6_product_1 17 rfl rfl)
theorem dX6_product_41 : decode cX6_product 41 = .ok (.invokevirtual 39, 3) := dk_182 0 39 (dk_at dksX6_product_1 18 rfl rfl)
theorem dX6_product_44 : decode cX6_product 44 = .ok (.bipush 37, 2) := dk_16 37 (dk_at dksX6_product_1 21 rfl rfl)
theorem dX6_product_46 : decode cX6_product 46 = .ok (.if_icmp .ne 42, 3) := dk_160 0 42 (dk_at dksX6_product_2 0 rfl rfl)
theorem dX6_product_49 : decode cX6_product 49 = .ok (.aload_n 0, 1) := dk_42 (dk_at dksX6_product_2 3 rfl rfl)
theorem dX6_product_50 : decode cX6_product 50 = .ok (.invokevirtual 39, 3) := dk_182 0 39 (dk_at dksX6_product_2 4 rfl rfl)
theorem dX6_product_53 : decode cX6_product 53 = .ok (.istore_n 3, 1) := dk_62 (dk_at dksX6_product_2 7 rfl rfl)
theorem dX6_product_54 : decode cX6_product 54 = .ok (.aload_n 0, 1) := dk_42 (dk_at dksX6_product_2 8 rfl rfl)
theorem dX6_product_55 : decode cX6_product 55 = .ok (.dup, 1) := dk_89 (dk_at dksX6_product_2 9 rfl rfl)
theorem dX6_product_56 : decode cX6_product 56 = .ok (.getfield 26, 3) := dk_180 0 26 (dk_at dksX6_product_2 10 rfl rfl)
theorem dX6_product_59 : decode cX6_product 59 = .ok (.iconst 1, 1) := dk_4 (dk_at dksX6_product_2 13 rfl rfl)
theorem dX6_product_60 : decode cX6_product 60 = .ok (.iadd, 1) := dk_96 (dk_at dksX6_product_2 14 rfl rfl)
theorem dX6_product_61 : decode cX6_product 61 = .ok (.putfield 26, 3) := dk_181 0 26 (dk_at dksX6_product_2 15 rfl rfl)
theorem dX6_product_64 : decode cX6_product 64 = .ok (.aload_n 2, 1) := dk_44 (dk_at dksX6_product_2 18 rfl rfl)
theorem dX6_product_65 : decode cX6_product 65 = .ok (.new 86, 3) := dk_187 0 86 (dk_at dksX6_product_2 19 rfl rfl)
theorem dX6_product_68 : decode cX6_product 68 = .ok (.dup, 1) := dk_89 (dk_at dksX6_product_2 22 rfl rfl)
theorem dX6_product_69 : decode cX6_product 69 = .ok (.iload_n 3, 1) := dk_29 (dk_at dksX6_product_2 23 rfl rfl)
theorem dX6_product_70 : decode cX6_product 70 = .ok (.aload_n 0, 1) := dk_42 (dk_at dksX6_product_3 0 rfl rfl)
theorem dX6_product_71 : decode cX6_product 71 = .ok (.invokevirtual 88, 3) := dk_182 0 88 (dk_at dksX6_product_3 1 rfl rfl)
theorem dX6_product_74 : decode cX6_product 74 = .ok (.invokespecial 91, 3) := dk_183 0 91 (dk_at dksX6_product_3 4 rfl rfl)
theorem dX6_product_77 : decode cX6_product 77 = .ok (.putfield 94, 3) := dk_181 0 94 (dk_at dksX6_product_3 7 rfl rfl)
theorem dX6_product_80 : decode cX6_product 80 = .ok (.aload_n 2, 1) := dk_44 (dk_at dksX6_product_3 10 rfl rfl)
theorem dX6_product_81 : decode cX6_product 81 = .ok (.getfield 94, 3) := dk_180 0 94 (dk_at dksX6_product_3 11 rfl rfl)
theorem dX6_product_84 : decode cX6_product 84 = .ok (.astore_n 2, 1) := dk_77 (dk_at dksX6_product_3 14 rfl rfl)
theorem dX6_product_85 : decode cX6_product 85 = .ok (.goto (-70), 3) := dk_167 255 186 (dk_at dksX6_product_3 15 rfl rfl)
theorem dX6_product_88 : decode cX6_product 88 = .ok (.aload_n 1, 1) := dk_43 (dk_at dksX6_product_3 18 rfl rfl)
theorem dX6_product_89 : decode cX6_product 89 = .ok (.areturn, 1) := dk_176 (dk_at dksX6_product_3 19 rfl rfl)
abbrev cX6_factor : ByteArray := prog_12_method_9_code
def yX6_factor : MethodName := ⟨RX6, "factor", "()LHighSpots$Sum;"⟩
def dkwX6_factor_5 : List UInt8 := [176]
abbrev dktX6_factor_5 : List UInt8 := dkwX6_factor_5 ++ []
def dkwX6_factor_4 : List UInt8 := [180, 0, 26, 182, 0, 50, 42, 89, 180, 0, 26, 4, 96, 181, 0, 26, 187, 0, 83, 89, 27, 183, 0, 85]
abbrev dktX6_factor_4 : List UInt8 := dkwX6_factor_4 ++ dktX6_factor_5
def dkwX6_factor_3 : List UInt8 := [182, 0, 70, 183, 0, 73, 176, 27, 153, 0, 12, 18, 75, 27, 182, 0, 77, 156, 0, 12, 42, 4, 42]
abbrev dktX6_factor_3 : List UInt8 := dkwX6_factor_3 ++ dktX6_factor_4
def dkwX6_factor_2 : List UInt8 := [180, 0, 54, 4, 100, 181, 0, 54, 44, 176, 42, 182, 0, 47, 153, 0, 15, 187, 0, 68, 89, 42]
abbrev dktX6_factor_2 : List UInt8 := dkwX6_factor_2 ++ dktX6_factor_3
def dkwX6_factor_1 : List UInt8 := [182, 0, 60, 167, 0, 4, 1, 77, 42, 182, 0, 43, 153, 0, 9, 42, 16, 93, 182, 0, 64, 42, 89]
abbrev dktX6_factor_1 : List UInt8 := dkwX6_factor_1 ++ dktX6_factor_2
def dkwX6_factor_0 : List UInt8 := [42, 182, 0, 39, 60, 27, 16, 91, 160, 0, 48, 42, 182, 0, 57, 42, 182, 0, 43, 153, 0, 10, 42]
abbrev dktX6_factor_0 : List UInt8 := dkwX6_factor_0 ++ dktX6_factor_1
theorem dksX6_factor_0 : cX6_factor.data.toList.drop 0 = dktX6_factor_0 := by decide +kernel
theorem dksX6_factor_1 : cX6_factor.data.toList.drop 23 = dktX6_factor_1 := dk_seg dksX6_factor_0 23 rfl rfl
theorem dksX6_factor_2 : cX6_factor.data.toList.drop 46 = dktX6_factor_2 := dk_seg dksX6_factor_1 23 rfl rfl
theorem dksX6_factor_3 : cX6_factor.data.toList.drop 68 = dktX6_factor_3 := dk_seg dksX6_factor_2 22 rfl rfl
theorem dksX6_factor_4 : cX6_factor.data.toList.drop 91 = dktX6_factor_4 := dk_seg dksX6_factor_3 23 rfl rfl
theorem dksX6_factor_5 : cX6_factor.data.toList.drop 115 = dktX6_factor_5 := dk_seg dksX6_factor_4 24 rfl rfl
theorem dX6_factor_0 : decode cX6_factor 0 = .ok (.aload_n 0, 1) := dk_42 (dk_at dksX6_factor_0 0 rfl rfl)
theorem dX6_factor_1 : decode cX6_factor 1 = .ok (.invokevirtual 39, 3) := dk_182 0 39 (dk_at dksX6_factor_0 1 rfl rfl)
theorem dX6_factor_4 : decode cX6_factor 4 = .ok (.istore_n 1, 1) := dk_60 (dk_at dksX6_factor_0 4 rfl rfl)
theorem dX6_factor_5 : decode cX6_factor 5 = .ok (.iload_n 1, 1) := dk_27 (dk_at dksX6_factor_0 5 rfl rfl)
theorem dX6_factor_6 : decode cX6_factor 6 = .ok (.bipush 91, 2) := dk_16 91 (dk_at dksX6_factor_0 6 rfl rfl)
theorem dX6_factor_8 : decode cX6_factor 8 = .ok (.if_icmp .ne 48, 3) := dk_160 0 48 (dk_at dksX6_factor_0 8 rfl rfl)
theorem dX6_factor_11 : decode cX6_factor 11 = .ok (.aload_n 0, 1) := dk_42 (dk_at dksX6_factor_0 11 rfl rfl)
theorem dX6_factor_12 : decode cX6_factor 12 = .ok (.invokevirtual 57, 3) := dk_182 0 57 (dk_at dksX6_factor_0 12 rfl rfl)
theorem dX6_factor_15 : decode cX6_factor 15 = .ok (.aload_n 0, 1) := dk_42 (dk_at dksX6_factor_0 15 rfl rfl)
theorem dX6_factor_16 : decode cX6_factor 16 = .ok (.invokevirtual 43, 3) := dk_182 0 43 (dk_at dksX6_factor_0 16 rfl rfl)
theorem dX6_factor_19 : decode cX6_factor 19 = .ok (.ifCond .eq 10, 3) := dk_153 0 10 (dk_at dksX6_factor_0 19 rfl rfl)
theorem dX6_factor_22 : decode cX6_factor 22 = .ok (.aload_n 0, 1) := dk_42 (dk_at dksX6_factor_0 22 rfl rfl)
theorem dX6_factor_23 : decode cX6_factor 23 = .ok (.invokevirtual 60, 3) := dk_182 0 60 (dk_at dksX6_factor_1 0 rfl rfl)
theorem dX6_factor_26 : decode cX6_factor 26 = .ok (.goto 4, 3) := dk_167 0 4 (dk_at dksX6_factor_1 3 rfl rfl)
theorem dX6_factor_29 : decode cX6_factor 29 = .ok (.aconst_null, 1) := dk_1 (dk_at dksX6_factor_1 6 rfl rfl)
theorem dX6_factor_30 : decode cX6_factor 30 = .ok (.astore_n 2, 1) := dk_77 (dk_at dksX6_factor_1 7 rfl rfl)
theorem dX6_factor_31 : decode cX6_factor 31 = .ok (.aload_n 0, 1) := dk_42 (dk_at dksX6_factor_1 8 rfl rfl)
theorem dX6_factor_32 : decode cX6_factor 32 = .ok (.invokevirtual 43, 3) := dk_182 0 43 (dk_at dksX6_factor_1 9 rfl rfl)
theorem dX6_factor_35 : decode cX6_factor 35 = .ok (.ifCond .eq 9, 3) := dk_153 0 9 (dk_at dksX6_factor_1 12 rfl rfl)
theorem dX6_factor_38 : decode cX6_factor 38 = .ok (.aload_n 0, 1) := dk_42 (dk_at dksX6_factor_1 15 rfl rfl)
theorem dX6_factor_39 : decode cX6_factor 39 = .ok (.bipush 93, 2) := dk_16 93 (dk_at dksX6_factor_1 16 rfl rfl)
theorem dX6_factor_41 : decode cX6_factor 41 = .ok (.invokevirtual 64, 3) := dk_182 0 64 (dk_at dksX6_factor_1 18 rfl rfl)
theorem dX6_factor_44 : decode cX6_factor 44 = .ok (.aload_n 0, 1) := dk_42 (dk_at dksX6_factor_1 21 rfl rfl)
theorem dX6_factor_45 : decode cX6_factor 45 = .ok (.dup, 1) := dk_89 (dk_at dksX6_factor_1 22 rfl rfl)
theorem dX6_factor_46 : decode cX6_factor 46 = .ok (.getfield 54, 3) := dk_180 0 54 (dk_at dksX6_factor_2 0 rfl rfl)
theorem dX6_factor_49 : decode cX6_factor 49 = .ok (.iconst 1, 1) := dk_4 (dk_at dksX6_factor_2 3 rfl rfl)
theorem dX6_factor_50 : decode cX6_factor 50 = .ok (.isub, 1) := dk_100 (dk_at dksX6_factor_2 4 rfl rfl)
theorem dX6_factor_51 : decode cX6_factor 51 = .ok (.putfield 54, 3) := dk_181 0 54 (dk_at dksX6_factor_2 5 rfl rfl)
theorem dX6_factor_54 : decode cX6_factor 54 = .ok (.aload_n 2, 1) := dk_44 (dk_at dksX6_factor_2 8 rfl rfl)
theorem dX6_factor_55 : decode cX6_factor 55 = .ok (.areturn, 1) := dk_176 (dk_at dksX6_factor_2 9 rfl rfl)
theorem dX6_factor_56 : decode cX6_factor 56 = .ok (.aload_n 0, 1) := dk_42 (dk_at dksX6_factor_2 10 rfl rfl)
theorem dX6_factor_57 : decode cX6_factor 57 = .ok (.invokevirtual 47, 3) := dk_182 0 47 (dk_at dksX6_factor_2 11 rfl rfl)
theorem dX6_factor_60 : decode cX6_factor 60 = .ok (.ifCond .eq 15, 3) := dk_153 0 15 (dk_at dksX6_factor_2 14 rfl rfl)
theorem dX6_factor_63 : decode cX6_factor 63 = .ok (.new 68, 3) := dk_187 0 68 (dk_at dksX6_factor_2 17 rfl rfl)
theorem dX6_factor_66 : decode cX6_factor 66 = .ok (.dup, 1) := dk_89 (dk_at dksX6_factor_2 20 rfl rfl)
theorem dX6_factor_67 : decode cX6_factor 67 = .ok (.aload_n 0, 1) := dk_42 (dk_at dksX6_factor_2 21 rfl rfl)
theorem dX6_factor_68 : decode cX6_factor 68 = .ok (.invokevirtual 70, 3) := dk_182 0 70 (dk_at dksX6_factor_3 0 rfl rfl)
theorem dX6_factor_71 : decode cX6_factor 71 = .ok (.invokespecial 73, 3) := dk_183 0 73 (dk_at dksX6_factor_3 3 rfl rfl)
theorem dX6_factor_74 : decode cX6_factor 74 = .ok (.areturn, 1) := dk_176 (dk_at dksX6_factor_3 6 rfl rfl)
theorem dX6_factor_75 : decode cX6_factor 75 = .ok (.iload_n 1, 1) := dk_27 (dk_at dksX6_factor_3 7 rfl rfl)
theorem dX6_factor_76 : decode cX6_factor 76 = .ok (.ifCond .eq 12, 3) := dk_153 0 12 (dk_at dksX6_factor_3 8 rfl rfl)
theorem dX6_factor_79 : decode cX6_factor 79 = .ok (.ldc 75, 2) := dk_18 75 (dk_at dksX6_factor_3 11 rfl rfl)
theorem dX6_factor_81 : decode cX6_factor 81 = .ok (.iload_n 1, 1) := dk_27 (dk_at dksX6_factor_3 13 rfl rfl)
theorem dX6_factor_82 : decode cX6_factor 82 = .ok (.invokevirtual 77, 3) := dk_182 0 77 (dk_at dksX6_factor_3 14 rfl rfl)
theorem dX6_factor_85 : decode cX6_factor 85 = .ok (.ifCond .ge 12, 3) := dk_156 0 12 (dk_at dksX6_factor_3 17 rfl rfl)
theorem dX6_factor_88 : decode cX6_factor 88 = .ok (.aload_n 0, 1) := dk_42 (dk_at dksX6_factor_3 20 rfl rfl)
theorem dX6_factor_89 : decode cX6_factor 89 = .ok (.iconst 1, 1) := dk_4 (dk_at dksX6_factor_3 21 rfl rfl)
theorem dX6_factor_90 : decode cX6_factor 90 = .ok (.aload_n 0, 1) := dk_42 (dk_at dksX6_factor_3 22 rfl rfl)
theorem dX6_factor_91 : decode cX6_factor 91 = .ok (.getfield 26, 3) := dk_180 0 26 (dk_at dksX6_factor_4 0 rfl rfl)
theorem dX6_factor_94 : decode cX6_factor 94 = .ok (.invokevirtual 50, 3) := dk_182 0 50 (dk_at dksX6_factor_4 3 rfl rfl)
theorem dX6_factor_97 : decode cX6_factor 97 = .ok (.aload_n 0, 1) := dk_42 (dk_at dksX6_factor_4 6 rfl rfl)
theorem dX6_factor_98 : decode cX6_factor 98 = .ok (.dup, 1) := dk_89 (dk_at dksX6_factor_4 7 rfl rfl)
theorem dX6_factor_99 : decode cX6_factor 99 = .ok (.getfield 26, 3) := dk_180 0 26 (dk_at dksX6_factor_4 8 rfl rfl)
theorem dX6_factor_102 : decode cX6_factor 102 = .ok (.iconst 1, 1) := dk_4 (dk_at dksX6_factor_4 11 rfl rfl)
theorem dX6_factor_103 : decode cX6_factor 103 = .ok (.iadd, 1) := dk_96 (dk_at dksX6_factor_4 12 rfl rfl)
theorem dX6_factor_104 : decode cX6_factor 104 = .ok (.putfield 26, 3) := dk_181 0 26 (dk_at dksX6_factor_4 13 rfl rfl)
theorem dX6_factor_107 : decode cX6_factor 107 = .ok (.new 83, 3) := dk_187 0 83 (dk_at dksX6_factor_4 16 rfl rfl)
theorem dX6_factor_110 : decode cX6_factor 110 = .ok (.dup, 1) := dk_89 (dk_at dksX6_factor_4 19 rfl rfl)
theorem dX6_factor_111 : decode cX6_factor 111 = .ok (.iload_n 1, 1) := dk_27 (dk_at dksX6_factor_4 20 rfl rfl)
theorem dX6_factor_112 : decode cX6_factor 112 = .ok (.invokespecial 85, 3) := dk_183 0 85 (dk_at dksX6_factor_4 21 rfl rfl)
theorem dX6_factor_115 : decode cX6_factor 115 = .ok (.areturn, 1) := dk_176 (dk_at dksX6_factor_5 0 rfl rfl)
abbrev cX6_opens : ByteArray := prog_12_method_8_code
def yX6_opens : MethodName := ⟨RX6, "opens", "()V"⟩
def dkwX6_opens_1 : List UInt8 := [96, 181, 0, 54, 42, 89, 180, 0, 26, 4, 96, 181, 0, 26, 177]
abbrev dktX6_opens_1 : List UInt8 := dkwX6_opens_1 ++ []
def dkwX6_opens_0 : List UInt8 := [42, 180, 0, 54, 16, 6, 160, 0, 12, 42, 8, 42, 180, 0, 26, 182, 0, 50, 42, 89, 180, 0, 54, 4]
abbrev dktX6_opens_0 : List UInt8 := dkwX6_opens_0 ++ dktX6_opens_1
theorem dksX6_opens_0 : cX6_opens.data.toList.drop 0 = dktX6_opens_0 := by decide +kernel
theorem dksX6_opens_1 : cX6_opens.data.toList.drop 24 = dktX6_opens_1 := dk_seg dksX6_opens_0 24 rfl rfl
theorem dX6_opens_0 : decode cX6_opens 0 = .ok (.aload_n 0, 1) := dk_42 (dk_at dksX6_opens_0 0 rfl rfl)
theorem dX6_opens_1 : decode cX6_opens 1 = .ok (.getfield 54, 3) := dk_180 0 54 (dk_at dksX6_opens_0 1 rfl rfl)
theorem dX6_opens_4 : decode cX6_opens 4 = .ok (.bipush 6, 2) := dk_16 6 (dk_at dksX6_opens_0 4 rfl rfl)
theorem dX6_opens_6 : decode cX6_opens 6 = .ok (.if_icmp .ne 12, 3) := dk_160 0 12 (dk_at dksX6_opens_0 6 rfl rfl)
theorem dX6_opens_9 : decode cX6_opens 9 = .ok (.aload_n 0, 1) := dk_42 (dk_at dksX6_opens_0 9 rfl rfl)
theorem dX6_opens_10 : decode cX6_opens 10 = .ok (.iconst 5, 1) := dk_8 (dk_at dksX6_opens_0 10 rfl rfl)
theorem dX6_opens_11 : decode cX6_opens 11 = .ok (.aload_n 0, 1) := dk_42 (dk_at dksX6_opens_0 11 rfl rfl)
theorem dX6_opens_12 : decode cX6_opens 12 = .ok (.getfield 26, 3) := dk_180 0 26 (dk_at dksX6_opens_0 12 rfl rfl)
theorem dX6_opens_15 : decode cX6_opens 15 = .ok (.invokevirtual 50, 3) := dk_182 0 50 (dk_at dksX6_opens_0 15 rfl rfl)
theorem dX6_opens_18 : decode cX6_opens 18 = .ok (.aload_n 0, 1) := dk_42 (dk_at dksX6_opens_0 18 rfl rfl)
theorem dX6_opens_19 : decode cX6_opens 19 = .ok (.dup, 1) := dk_89 (dk_at dksX6_opens_0 19 rfl rfl)
theorem dX6_opens_20 : decode cX6_opens 20 = .ok (.getfield 54, 3) := dk_180 0 54 (dk_at dksX6_opens_0 20 rfl rfl)
theorem dX6_opens_23 : decode cX6_opens 23 = .ok (.iconst 1, 1) := dk_4 (dk_at dksX6_opens_0 23 rfl rfl)
theorem dX6_opens_24 : decode cX6_opens 24 = .ok (.iadd, 1) := dk_96 (dk_at dksX6_opens_1 0 rfl rfl)
theorem dX6_opens_25 : decode cX6_opens 25 = .ok (.putfield 54, 3) := dk_181 0 54 (dk_at dksX6_opens_1 1 rfl rfl)
theorem dX6_opens_28 : decode cX6_opens 28 = .ok (.aload_n 0, 1) := dk_42 (dk_at dksX6_opens_1 4 rfl rfl)
theorem dX6_opens_29 : decode cX6_opens 29 = .ok (.dup, 1) := dk_89 (dk_at dksX6_opens_1 5 rfl rfl)
theorem dX6_opens_30 : decode cX6_opens 30 = .ok (.getfield 26, 3) := dk_180 0 26 (dk_at dksX6_opens_1 6 rfl rfl)
theorem dX6_opens_33 : decode cX6_opens 33 = .ok (.iconst 1, 1) := dk_4 (dk_at dksX6_opens_1 9 rfl rfl)
theorem dX6_opens_34 : decode cX6_opens 34 = .ok (.iadd, 1) := dk_96 (dk_at dksX6_opens_1 10 rfl rfl)
theorem dX6_opens_35 : decode cX6_opens 35 = .ok (.putfield 26, 3) := dk_181 0 26 (dk_at dksX6_opens_1 11 rfl rfl)
theorem dX6_opens_38 : decode cX6_opens 38 = .ok (.return_, 1) := dk_177 (dk_at dksX6_opens_1 14 rfl rfl)
abbrev cX6_must : ByteArray := prog_12_method_7_code
def yX6_must : MethodName := ⟨RX6, "must", "(I)V"⟩
def dkwX6_must_1 : List UInt8 := [181, 0, 26, 177]
abbrev dktX6_must_1 : List UInt8 := dkwX6_must_1 ++ []
def dkwX6_must_0 : List UInt8 := [42, 182, 0, 39, 27, 159, 0, 12, 42, 4, 42, 180, 0, 26, 182, 0, 50, 42, 89, 180, 0, 26, 4, 96]
abbrev dktX6_must_0 : List UInt8 := dkwX6_must_0 ++ dktX6_must_1
theorem dksX6_must_0 : cX6_must.data.toList.drop 0 = dktX6_must_0 := by decide +kernel
theorem dksX6_must_1 : cX6_must.data.toList.drop 24 = dktX6_must_1 := dk_seg dksX6_must_0 24 rfl rfl
theorem dX6_must_0 : decode cX6_must 0 = .ok (.aload_n 0, 1) := dk_42 (dk_at dksX6_must_0 0 rfl rfl)
theorem dX6_must_1 : decode cX6_must 1 = .ok (.invokevirtual 39, 3) := dk_182 0 39 (dk_at dksX6_must_0 1 rfl rfl)
theorem dX6_must_4 : decode cX6_must 4 = .ok (.iload_n 1, 1) := dk_27 (dk_at dksX6_must_0 4 rfl rfl)
theorem dX6_must_5 : decode cX6_must 5 = .ok (.if_icmp .eq 12, 3) := dk_159 0 12 (dk_at dksX6_must_0 5 rfl rfl)
theorem dX6_must_8 : decode cX6_must 8 = .ok (.aload_n 0, 1) := dk_42 (dk_at dksX6_must_0 8 rfl rfl)
theorem dX6_must_9 : decode cX6_must 9 = .ok (.iconst 1, 1) := dk_4 (dk_at dksX6_must_0 9 rfl rfl)
theorem dX6_must_10 : decode cX6_must 10 = .ok (.aload_n 0, 1) := dk_42 (dk_at dksX6_must_0 10 rfl rfl)
theorem dX6_must_11 : decode cX6_must 11 = .ok (.getfield 26, 3) := dk_180 0 26 (dk_at dksX6_must_0 11 rfl rfl)
theorem dX6_must_14 : decode cX6_must 14 = .ok (.invokevirtual 50, 3) := dk_182 0 50 (dk_at dksX6_must_0 14 rfl rfl)
theorem dX6_must_17 : decode cX6_must 17 = .ok (.aload_n 0, 1) := dk_42 (dk_at dksX6_must_0 17 rfl rfl)
theorem dX6_must_18 : decode cX6_must 18 = .ok (.dup, 1) := dk_89 (dk_at dksX6_must_0 18 rfl rfl)
theorem dX6_must_19 : decode cX6_must 19 = .ok (.getfield 26, 3) := dk_180 0 26 (dk_at dksX6_must_0 19 rfl rfl)
theorem dX6_must_22 : decode cX6_must 22 = .ok (.iconst 1, 1) := dk_4 (dk_at dksX6_must_0 22 rfl rfl)
theorem dX6_must_23 : decode cX6_must 23 = .ok (.iadd, 1) := dk_96 (dk_at dksX6_must_0 23 rfl rfl)
theorem dX6_must_24 : decode cX6_must 24 = .ok (.putfield 26, 3) := dk_181 0 26 (dk_at dksX6_must_1 0 rfl rfl)
theorem dX6_must_27 : decode cX6_must 27 = .ok (.return_, 1) := dk_177 (dk_at dksX6_must_1 3 rfl rfl)
abbrev cX6_seesDigit : ByteArray := prog_12_method_5_code
def yX6_seesDigit : MethodName := ⟨RX6, "seesDigit", "()Z"⟩
def dkwX6_seesDigit_0 : List UInt8 := [42, 182, 0, 39, 16, 48, 161, 0, 16, 42, 182, 0, 39, 16, 57, 163, 0, 7, 4, 167, 0, 4, 3, 172]
abbrev dktX6_seesDigit_0 : List UInt8 := dkwX6_seesDigit_0 ++ []
theorem dksX6_seesDigit_0 : cX6_seesDigit.data.toList.drop 0 = dktX6_seesDigit_0 := by decide +kernel
theorem dX6_seesDigit_0 : decode cX6_seesDigit 0 = .ok (.aload_n 0, 1) := dk_42 (dk_at dksX6_seesDigit_0 0 rfl rfl)
theorem dX6_seesDigit_1 : decode cX6_seesDigit 1 = .ok (.invokevirtual 39, 3) := dk_182 0 39 (dk_at dksX6_seesDigit_0 1 rfl rfl)
theorem dX6_seesDigit_4 : decode cX6_seesDigit 4 = .ok (.bipush 48, 2) := dk_16 48 (dk_at dksX6_seesDigit_0 4 rfl rfl)
theorem dX6_seesDigit_6 : decode cX6_seesDigit 6 = .ok (.if_icmp .lt 16, 3) := dk_161 0 16 (dk_at dksX6_seesDigit_0 6 rfl rfl)
theorem dX6_seesDigit_9 : decode cX6_seesDigit 9 = .ok (.aload_n 0, 1) := dk_42 (dk_at dksX6_seesDigit_0 9 rfl rfl)
theorem dX6_seesDigit_10 : decode cX6_seesDigit 10 = .ok (.invokevirtual 39, 3) := dk_182 0 39 (dk_at dksX6_seesDigit_0 10 rfl rfl)
theorem dX6_seesDigit_13 : decode cX6_seesDigit 13 = .ok (.bipush 57, 2) := dk_16 57 (dk_at dksX6_seesDigit_0 13 rfl rfl)
theorem dX6_seesDigit_15 : decode cX6_seesDigit 15 = .ok (.if_icmp .gt 7, 3) := dk_163 0 7 (dk_at dksX6_seesDigit_0 15 rfl rfl)
theorem dX6_seesDigit_18 : decode cX6_seesDigit 18 = .ok (.iconst 1, 1) := dk_4 (dk_at dksX6_seesDigit_0 18 rfl rfl)
theorem dX6_seesDigit_19 : decode cX6_seesDigit 19 = .ok (.goto 4, 3) := dk_167 0 4 (dk_at dksX6_seesDigit_0 19 rfl rfl)
theorem dX6_seesDigit_22 : decode cX6_seesDigit 22 = .ok (.iconst 0, 1) := dk_3 (dk_at dksX6_seesDigit_0 22 rfl rfl)
theorem dX6_seesDigit_23 : decode cX6_seesDigit 23 = .ok (.ireturn, 1) := dk_172 (dk_at dksX6_seesDigit_0 23 rfl rfl)
abbrev cX6_number : ByteArray := prog_12_method_6_code
def yX6_number : MethodName := ⟨RX6, "number", "()I"⟩
def dkwX6_number_2 : List UInt8 := [182, 0, 39, 96, 16, 48, 100, 61, 42, 89, 180, 0, 26, 4, 96, 181, 0, 26, 167, 255, 200, 28, 172]
abbrev dktX6_number_2 : List UInt8 := dkwX6_number_2 ++ []
def dkwX6_number_1 : List UInt8 := [180, 0, 26, 27, 8, 96, 160, 0, 12, 42, 5, 42, 180, 0, 26, 182, 0, 50, 16, 10, 28, 104, 42]
abbrev dktX6_number_1 : List UInt8 := dkwX6_number_1 ++ dktX6_number_2
def dkwX6_number_0 : List UInt8 := [42, 180, 0, 26, 60, 3, 61, 42, 182, 0, 43, 153, 0, 55, 42, 182, 0, 47, 153, 0, 48, 42]
abbrev dktX6_number_0 : List UInt8 := dkwX6_number_0 ++ dktX6_number_1
theorem dksX6_number_0 : cX6_number.data.toList.drop 0 = dktX6_number_0 := by decide +kernel
theorem dksX6_number_1 : cX6_number.data.toList.drop 22 = dktX6_number_1 := dk_seg dksX6_number_0 22 rfl rfl
theorem dksX6_number_2 : cX6_number.data.toList.drop 45 = dktX6_number_2 := dk_seg dksX6_number_1 23 rfl rfl
theorem dX6_number_0 : decode cX6_number 0 = .ok (.aload_n 0, 1) := dk_42 (dk_at dksX6_number_0 0 rfl rfl)
theorem dX6_number_1 : decode cX6_number 1 = .ok (.getfield 26, 3) := dk_180 0 26 (dk_at dksX6_number_0 1 rfl rfl)
theorem dX6_number_4 : decode cX6_number 4 = .ok (.istore_n 1, 1) := dk_60 (dk_at dksX6_number_0 4 rfl rfl)
theorem dX6_number_5 : decode cX6_number 5 = .ok (.iconst 0, 1) := dk_3 (dk_at dksX6_number_0 5 rfl rfl)
theorem dX6_number_6 : decode cX6_number 6 = .ok (.istore_n 2, 1) := dk_61 (dk_at dksX6_number_0 6 rfl rfl)
theorem dX6_number_7 : decode cX6_number 7 = .ok (.aload_n 0, 1) := dk_42 (dk_at dksX6_number_0 7 rfl rfl)
theorem dX6_number_8 : decode cX6_number 8 = .ok (.invokevirtual 43, 3) := dk_182 0 43 (dk_at dksX6_number_0 8 rfl rfl)
theorem dX6_number_11 : decode cX6_number 11 = .ok (.ifCond .eq 55, 3) := dk_153 0 55 (dk_at dksX6_number_0 11 rfl rfl)
theorem dX6_number_14 : decode cX6_number 14 = .ok (.aload_n 0, 1) := dk_42 (dk_at dksX6_number_0 14 rfl rfl)
theorem dX6_number_15 : decode cX6_number 15 = .ok (.invokevirtual 47, 3) := dk_182 0 47 (dk_at dksX6_number_0 15 rfl rfl)
theorem dX6_number_18 : decode cX6_number 18 = .ok (.ifCond .eq 48, 3) := dk_153 0 48 (dk_at dksX6_number_0 18 rfl rfl)
theorem dX6_number_21 : decode cX6_number 21 = .ok (.aload_n 0, 1) := dk_42 (dk_at dksX6_number_0 21 rfl rfl)
theorem dX6_number_22 : decode cX6_number 22 = .ok (.getfield 26, 3) := dk_180 0 26 (dk_at dksX6_number_1 0 rfl rfl)
theorem dX6_number_25 : decode cX6_number 25 = .ok (.iload_n 1, 1) := dk_27 (dk_at dksX6_number_1 3 rfl rfl)
theorem dX6_number_26 : decode cX6_number 26 = .ok (.iconst 5, 1) := dk_8 (dk_at dksX6_number_1 4 rfl rfl)
theorem dX6_number_27 : decode cX6_number 27 = .ok (.iadd, 1) := dk_96 (dk_at dksX6_number_1 5 rfl rfl)
theorem dX6_number_28 : decode cX6_number 28 = .ok (.if_icmp .ne 12, 3) := dk_160 0 12 (dk_at dksX6_number_1 6 rfl rfl)
theorem dX6_number_31 : decode cX6_number 31 = .ok (.aload_n 0, 1) := dk_42 (dk_at dksX6_number_1 9 rfl rfl)
theorem dX6_number_32 : decode cX6_number 32 = .ok (.iconst 2, 1) := dk_5 (dk_at dksX6_number_1 10 rfl rfl)
theorem dX6_number_33 : decode cX6_number 33 = .ok (.aload_n 0, 1) := dk_42 (dk_at dksX6_number_1 11 rfl rfl)
theorem dX6_number_34 : decode cX6_number 34 = .ok (.getfield 26, 3) := dk_180 0 26 (dk_at dksX6_number_1 12 rfl rfl)
theorem dX6_number_37 : decode cX6_number 37 = .ok (.invokevirtual 50, 3) := dk_182 0 50 (dk_at dksX6_number_1 15 rfl rfl)
theorem dX6_number_40 : decode cX6_number 40 = .ok (.bipush 10, 2) := dk_16 10 (dk_at dksX6_number_1 18 rfl rfl)
theorem dX6_number_42 : decode cX6_number 42 = .ok (.iload_n 2, 1) := dk_28 (dk_at dksX6_number_1 20 rfl rfl)
theorem dX6_number_43 : decode cX6_number 43 = .ok (.imul, 1) := dk_104 (dk_at dksX6_number_1 21 rfl rfl)
theorem dX6_number_44 : decode cX6_number 44 = .ok (.aload_n 0, 1) := dk_42 (dk_at dksX6_number_1 22 rfl rfl)
theorem dX6_number_45 : decode cX6_number 45 = .ok (.invokevirtual 39, 3) := dk_182 0 39 (dk_at dksX6_number_2 0 rfl rfl)
theorem dX6_number_48 : decode cX6_number 48 = .ok (.iadd, 1) := dk_96 (dk_at dksX6_number_2 3 rfl rfl)
theorem dX6_number_49 : decode cX6_number 49 = .ok (.bipush 48, 2) := dk_16 48 (dk_at dksX6_number_2 4 rfl rfl)
theorem dX6_number_51 : decode cX6_number 51 = .ok (.isub, 1) := dk_100 (dk_at dksX6_number_2 6 rfl rfl)
theorem dX6_number_52 : decode cX6_number 52 = .ok (.istore_n 2, 1) := dk_61 (dk_at dksX6_number_2 7 rfl rfl)
theorem dX6_number_53 : decode cX6_number 53 = .ok (.aload_n 0, 1) := dk_42 (dk_at dksX6_number_2 8 rfl rfl)
theorem dX6_number_54 : decode cX6_number 54 = .ok (.dup, 1) := dk_89 (dk_at dksX6_number_2 9 rfl rfl)
theorem dX6_number_55 : decode cX6_number 55 = .ok (.getfield 26, 3) := dk_180 0 26 (dk_at dksX6_number_2 10 rfl rfl)
theorem dX6_number_58 : decode cX6_number 58 = .ok (.iconst 1, 1) := dk_4 (dk_at dksX6_number_2 13 rfl rfl)
theorem dX6_number_59 : decode cX6_number 59 = .ok (.iadd, 1) := dk_96 (dk_at dksX6_number_2 14 rfl rfl)
theorem dX6_number_60 : decode cX6_number 60 = .ok (.putfield 26, 3) := dk_181 0 26 (dk_at dksX6_number_2 15 rfl rfl)
theorem dX6_number_63 : decode cX6_number 63 = .ok (.goto (-56), 3) := dk_167 255 200 (dk_at dksX6_number_2 18 rfl rfl)
theorem dX6_number_66 : decode cX6_number 66 = .ok (.iload_n 2, 1) := dk_28 (dk_at dksX6_number_2 21 rfl rfl)
theorem dX6_number_67 : decode cX6_number 67 = .ok (.ireturn, 1) := dk_172 (dk_at dksX6_number_2 22 rfl rfl)
abbrev cX6_condition : ByteArray := prog_12_method_14_code
def yX6_condition : MethodName := ⟨RX6, "condition", "()LHighSpots$Condition;"⟩
def dkwX6_condition_4 : List UInt8 := [42, 89, 180, 0, 54, 4, 100, 181, 0, 54, 43, 176]
abbrev dktX6_condition_4 : List UInt8 := dkwX6_condition_4 ++ []
def dkwX6_condition_3 : List UInt8 := [181, 0, 123, 44, 180, 0, 123, 77, 167, 255, 209, 42, 182, 0, 43, 153, 0, 9, 42, 16, 41, 182, 0, 64]
abbrev dktX6_condition_3 : List UInt8 := dkwX6_condition_3 ++ dktX6_condition_4
def dkwX6_condition_2 : List UInt8 := [89, 180, 0, 26, 4, 96, 181, 0, 26, 44, 187, 0, 118, 89, 42, 182, 0, 126, 4, 183, 0, 120]
abbrev dktX6_condition_2 : List UInt8 := dkwX6_condition_2 ++ dktX6_condition_3
def dkwX6_condition_1 : List UInt8 := [167, 0, 4, 1, 76, 43, 77, 42, 182, 0, 43, 153, 0, 46, 42, 182, 0, 39, 16, 124, 160, 0, 37, 42]
abbrev dktX6_condition_1 : List UInt8 := dkwX6_condition_1 ++ dktX6_condition_2
def dkwX6_condition_0 : List UInt8 := [42, 182, 0, 57, 42, 182, 0, 43, 153, 0, 18, 187, 0, 118, 89, 42, 182, 0, 126, 4, 183, 0, 120]
abbrev dktX6_condition_0 : List UInt8 := dkwX6_condition_0 ++ dktX6_condition_1
theorem dksX6_condition_0 : cX6_condition.data.toList.drop 0 = dktX6_condition_0 := by decide +kernel
theorem dksX6_condition_1 : cX6_condition.data.toList.drop 23 = dktX6_condition_1 := dk_seg dksX6_condition_0 23 rfl rfl
theorem dksX6_condition_2 : cX6_condition.data.toList.drop 47 = dktX6_condition_2 := dk_seg dksX6_condition_1 24 rfl rfl
theorem dksX6_condition_3 : cX6_condition.data.toList.drop 69 = dktX6_condition_3 := dk_seg dksX6_condition_2 22 rfl rfl
theorem dksX6_condition_4 : cX6_condition.data.toList.drop 93 = dktX6_condition_4 := dk_seg dksX6_condition_3 24 rfl rfl
theorem dX6_condition_0 : decode cX6_condition 0 = .ok (.aload_n 0, 1) := dk_42 (dk_at dksX6_condition_0 0 rfl rfl)
theorem dX6_condition_1 : decode cX6_condition 1 = .ok (.invokevirtual 57, 3) := dk_182 0 57 (dk_at dksX6_condition_0 1 rfl rfl)
theorem dX6_condition_4 : decode cX6_condition 4 = .ok (.aload_n 0, 1) := dk_42 (dk_at dksX6_condition_0 4 rfl rfl)
theorem dX6_condition_5 : decode cX6_condition 5 = .ok (.invokevirtual 43, 3) := dk_182 0 43 (dk_at dksX6_condition_0 5 rfl rfl)
theorem dX6_condition_8 : decode cX6_condition 8 = .ok (.ifCond .eq 18, 3) := dk_153 0 18 (dk_at dksX6_condition_0 8 rfl rfl)
theorem dX6_condition_11 : decode cX6_condition 11 = .ok (.new 118, 3) := dk_187 0 118 (dk_at dksX6_condition_0 11 rfl rfl)
theorem dX6_condition_14 : decode cX6_condition 14 = .ok (.dup, 1) := dk_89 (dk_at dksX6_condition_0 14 rfl rfl)
theorem dX6_condition_15 : decode cX6_condition 15 = .ok (.aload_n 0, 1) := dk_42 (dk_at dksX6_condition_0 15 rfl rfl)
theorem dX6_condition_16 : decode cX6_condition 16 = .ok (.invokevirtual 126, 3) := dk_182 0 126 (dk_at dksX6_condition_0 16 rfl rfl)
theorem dX6_condition_19 : decode cX6_condition 19 = .ok (.iconst 1, 1) := dk_4 (dk_at dksX6_condition_0 19 rfl rfl)
theorem dX6_condition_20 : decode cX6_condition 20 = .ok (.invokespecial 120, 3) := dk_183 0 120 (dk_at dksX6_condition_0 20 rfl rfl)
theorem dX6_condition_23 : decode cX6_condition 23 = .ok (.goto 4, 3) := dk_167 0 4 (dk_at dksX6_condition_1 0 rfl rfl)
theorem dX6_condition_26 : decode cX6_condition 26 = .ok (.aconst_null, 1) := dk_1 (dk_at dksX6_condition_1 3 rfl rfl)
theorem dX6_condition_27 : decode cX6_condition 27 = .ok (.astore_n 1, 1) := dk_76 (dk_at dksX6_condition_1 4 rfl rfl)
theorem dX6_condition_28 : decode cX6_condition 28 = .ok (.aload_n 1, 1) := dk_43 (dk_at dksX6_condition_1 5 rfl rfl)
theorem dX6_condition_29 : decode cX6_condition 29 = .ok (.astore_n 2, 1) := dk_77 (dk_at dksX6_condition_1 6 rfl rfl)
theorem dX6_condition_30 : decode cX6_condition 30 = .ok (.aload_n 0, 1) := dk_42 (dk_at dksX6_condition_1 7 rfl rfl)
theorem dX6_condition_31 : decode cX6_condition 31 = .ok (.invokevirtual 43, 3) := dk_182 0 43 (dk_at dksX6_condition_1 8 rfl rfl)
theorem dX6_condition_34 : decode cX6_condition 34 = .ok (.ifCond .eq 46, 3) := dk_153 0 46 (dk_at dksX6_condition_1 11 rfl rfl)
theorem dX6_condition_37 : decode cX6_condition 37 = .ok (.aload_n 0, 1) := dk_42 (dk_at dksX6_condition_1 14 rfl rfl)
theorem dX6_condition_38 : decode cX6_condition 38 = .ok (.invokevirtual 39, 3) := dk_182 0 39 (dk_at dksX6_condition_1 15 rfl rfl)
theorem dX6_condition_41 : decode cX6_condition 41 = .ok (.bipush 124, 2) := dk_16 124 (dk_at dksX6_condition_1 18 rfl rfl)
theorem dX6_condition_43 : decode cX6_condition 43 = .ok (.if_icmp .ne 37, 3) := dk_160 0 37 (dk_at dksX6_condition_1 20 rfl rfl)
theorem dX6_condition_46 : decode cX6_condition 46 = .ok (.aload_n 0, 1) := dk_42 (dk_at dksX6_condition_1 23 rfl rfl)
theorem dX6_condition_47 : decode cX6_condition 47 = .ok (.dup, 1) := dk_89 (dk_at dksX6_condition_2 0 rfl rfl)
theorem dX6_condition_48 : decode cX6_condition 48 = .ok (.getfield 26, 3) := dk_180 0 26 (dk_at dksX6_condition_2 1 rfl rfl)
theorem dX6_condition_51 : decode cX6_condition 51 = .ok (.iconst 1, 1) := dk_4 (dk_at dksX6_condition_2 4 rfl rfl)
theorem dX6_condition_52 : decode cX6_condition 52 = .ok (.iadd, 1) := dk_96 (dk_at dksX6_condition_2 5 rfl rfl)
theorem dX6_condition_53 : decode cX6_condition 53 = .ok (.putfield 26, 3) := dk_181 0 26 (dk_at dksX6_condition_2 6 rfl rfl)
theorem dX6_condition_56 : decode cX6_condition 56 = .ok (.aload_n 2, 1) := dk_44 (dk_at dksX6_condition_2 9 rfl rfl)
theorem dX6_condition_57 : decode cX6_condition 57 = .ok (.new 118, 3) := dk_187 0 118 (dk_at dksX6_condition_2 10 rfl rfl)
theorem dX6_condition_60 : decode cX6_condition 60 = .ok (.dup, 1) := dk_89 (dk_at dksX6_condition_2 13 rfl rfl)
theorem dX6_condition_61 : decode cX6_condition 61 = .ok (.aload_n 0, 1) := dk_42 (dk_at dksX6_condition_2 14 rfl rfl)
theorem dX6_condition_62 : decode cX6_condition 62 = .ok (.invokevirtual 126, 3) := dk_182 0 126 (dk_at dksX6_condition_2 15 rfl rfl)
theorem dX6_condition_65 : decode cX6_condition 65 = .ok (.iconst 1, 1) := dk_4 (dk_at dksX6_condition_2 18 rfl rfl)
theorem dX6_condition_66 : decode cX6_condition 66 = .ok (.invokespecial 120, 3) := dk_183 0 120 (dk_at dksX6_condition_2 19 rfl rfl)
theorem dX6_condition_69 : decode cX6_condition 69 = .ok (.putfield 123, 3) := dk_181 0 123 (dk_at dksX6_condition_3 0 rfl rfl)
theorem dX6_condition_72 : decode cX6_condition 72 = .ok (.aload_n 2, 1) := dk_44 (dk_at dksX6_condition_3 3 rfl rfl)
theorem dX6_condition_73 : decode cX6_condition 73 = .ok (.getfield 123, 3) := dk_180 0 123 (dk_at dksX6_condition_3 4 rfl rfl)
theorem dX6_condition_76 : decode cX6_condition 76 = .ok (.astore_n 2, 1) := dk_77 (dk_at dksX6_condition_3 7 rfl rfl)
theorem dX6_condition_77 : decode cX6_condition 77 = .ok (.goto (-47), 3) := dk_167 255 209 (dk_at dksX6_condition_3 8 rfl rfl)
theorem dX6_condition_80 : decode cX6_condition 80 = .ok (.aload_n 0, 1) := dk_42 (dk_at dksX6_condition_3 11 rfl rfl)
theorem dX6_condition_81 : decode cX6_condition 81 = .ok (.invokevirtual 43, 3) := dk_182 0 43 (dk_at dksX6_condition_3 12 rfl rfl)
theorem dX6_condition_84 : decode cX6_condition 84 = .ok (.ifCond .eq 9, 3) := dk_153 0 9 (dk_at dksX6_condition_3 15 rfl rfl)
theorem dX6_condition_87 : decode cX6_condition 87 = .ok (.aload_n 0, 1) := dk_42 (dk_at dksX6_condition_3 18 rfl rfl)
theorem dX6_condition_88 : decode cX6_condition 88 = .ok (.bipush 41, 2) := dk_16 41 (dk_at dksX6_condition_3 19 rfl rfl)
theorem dX6_condition_90 : decode cX6_condition 90 = .ok (.invokevirtual 64, 3) := dk_182 0 64 (dk_at dksX6_condition_3 21 rfl rfl)
theorem dX6_condition_93 : decode cX6_condition 93 = .ok (.aload_n 0, 1) := dk_42 (dk_at dksX6_condition_4 0 rfl rfl)
theorem dX6_condition_94 : decode cX6_condition 94 = .ok (.dup, 1) := dk_89 (dk_at dksX6_condition_4 1 rfl rfl)
theorem dX6_condition_95 : decode cX6_condition 95 = .ok (.getfield 54, 3) := dk_180 0 54 (dk_at dksX6_condition_4 2 rfl rfl)
theorem dX6_condition_98 : decode cX6_condition 98 = .ok (.iconst 1, 1) := dk_4 (dk_at dksX6_condition_4 5 rfl rfl)
theorem dX6_condition_99 : decode cX6_condition 99 = .ok (.isub, 1) := dk_100 (dk_at dksX6_condition_4 6 rfl rfl)
theorem dX6_condition_100 : decode cX6_condition 100 = .ok (.putfield 54, 3) := dk_181 0 54 (dk_at dksX6_condition_4 7 rfl rfl)
theorem dX6_condition_103 : decode cX6_condition 103 = .ok (.aload_n 1, 1) := dk_43 (dk_at dksX6_condition_4 10 rfl rfl)
theorem dX6_condition_104 : decode cX6_condition 104 = .ok (.areturn, 1) := dk_176 (dk_at dksX6_condition_4 11 rfl rfl)
abbrev cX6_pieces : ByteArray := prog_12_method_13_code
def yX6_pieces : MethodName := ⟨RX6, "pieces", "()LHighSpots$Condition;"⟩
def dkwX6_pieces_2 : List UInt8 := [182, 0, 101, 3, 183, 0, 120, 181, 0, 123, 44, 180, 0, 123, 77, 167, 255, 209, 43, 176]
abbrev dktX6_pieces_2 : List UInt8 := dkwX6_pieces_2 ++ []
def dkwX6_pieces_1 : List UInt8 := [182, 0, 39, 16, 38, 160, 0, 37, 42, 89, 180, 0, 26, 4, 96, 181, 0, 26, 44, 187, 0, 118, 89, 42]
abbrev dktX6_pieces_1 : List UInt8 := dkwX6_pieces_1 ++ dktX6_pieces_2
def dkwX6_pieces_0 : List UInt8 := [187, 0, 118, 89, 42, 182, 0, 101, 3, 183, 0, 120, 76, 43, 77, 42, 182, 0, 43, 153, 0, 46, 42]
abbrev dktX6_pieces_0 : List UInt8 := dkwX6_pieces_0 ++ dktX6_pieces_1
theorem dksX6_pieces_0 : cX6_pieces.data.toList.drop 0 = dktX6_pieces_0 := by decide +kernel
theorem dksX6_pieces_1 : cX6_pieces.data.toList.drop 23 = dktX6_pieces_1 := dk_seg dksX6_pieces_0 23 rfl rfl
theorem dksX6_pieces_2 : cX6_pieces.data.toList.drop 47 = dktX6_pieces_2 := dk_seg dksX6_pieces_1 24 rfl rfl
theorem dX6_pieces_0 : decode cX6_pieces 0 = .ok (.new 118, 3) := dk_187 0 118 (dk_at dksX6_pieces_0 0 rfl rfl)
theorem dX6_pieces_3 : decode cX6_pieces 3 = .ok (.dup, 1) := dk_89 (dk_at dksX6_pieces_0 3 rfl rfl)
theorem dX6_pieces_4 : decode cX6_pieces 4 = .ok (.aload_n 0, 1) := dk_42 (dk_at dksX6_pieces_0 4 rfl rfl)
theorem dX6_pieces_5 : decode cX6_pieces 5 = .ok (.invokevirtual 101, 3) := dk_182 0 101 (dk_at dksX6_pieces_0 5 rfl rfl)
theorem dX6_pieces_8 : decode cX6_pieces 8 = .ok (.iconst 0, 1) := dk_3 (dk_at dksX6_pieces_0 8 rfl rfl)
theorem dX6_pieces_9 : decode cX6_pieces 9 = .ok (.invokespecial 120, 3) := dk_183 0 120 (dk_at dksX6_pieces_0 9 rfl rfl)
theorem dX6_pieces_12 : decode cX6_pieces 12 = .ok (.astore_n 1, 1) := dk_76 (dk_at dksX6_pieces_0 12 rfl rfl)
theorem dX6_pieces_13 : decode cX6_pieces 13 = .ok (.aload_n 1, 1) := dk_43 (dk_at dksX6_pieces_0 13 rfl rfl)
theorem dX6_pieces_14 : decode cX6_pieces 14 = .ok (.astore_n 2, 1) := dk_77 (dk_at dksX6_pieces_0 14 rfl rfl)
theorem dX6_pieces_15 : decode cX6_pieces 15 = .ok (.aload_n 0, 1) := dk_42 (dk_at dksX6_pieces_0 15 rfl rfl)
theorem dX6_pieces_16 : decode cX6_pieces 16 = .ok (.invokevirtual 43, 3) := dk_182 0 43 (dk_at dksX6_pieces_0 16 rfl rfl)
theorem dX6_pieces_19 : decode cX6_pieces 19 = .ok (.ifCond .eq 46, 3) := dk_153 0 46 (dk_at dksX6_pieces_0 19 rfl rfl)
theorem dX6_pieces_22 : decode cX6_pieces 22 = .ok (.aload_n 0, 1) := dk_42 (dk_at dksX6_pieces_0 22 rfl rfl)
theorem dX6_pieces_23 : decode cX6_pieces 23 = .ok (.invokevirtual 39, 3) := dk_182 0 39 (dk_at dksX6_pieces_1 0 rfl rfl)
theorem dX6_pieces_26 : decode cX6_pieces 26 = .ok (.bipush 38, 2) := dk_16 38 (dk_at dksX6_pieces_1 3 rfl rfl)
theorem dX6_pieces_28 : decode cX6_pieces 28 = .ok (.if_icmp .ne 37, 3) := dk_160 0 37 (dk_at dksX6_pieces_1 5 rfl rfl)
theorem dX6_pieces_31 : decode cX6_pieces 31 = .ok (.aload_n 0, 1) := dk_42 (dk_at dksX6_pieces_1 8 rfl rfl)
theorem dX6_pieces_32 : decode cX6_pieces 32 = .ok (.dup, 1) := dk_89 (dk_at dksX6_pieces_1 9 rfl rfl)
theorem dX6_pieces_33 : decode cX6_pieces 33 = .ok (.getfield 26, 3) := dk_180 0 26 (dk_at dksX6_pieces_1 10 rfl rfl)
theorem dX6_pieces_36 : decode cX6_pieces 36 = .ok (.iconst 1, 1) := dk_4 (dk_at dksX6_pieces_1 13 rfl rfl)
theorem dX6_pieces_37 : decode cX6_pieces 37 = .ok (.iadd, 1) := dk_96 (dk_at dksX6_pieces_1 14 rfl rfl)
theorem dX6_pieces_38 : decode cX6_pieces 38 = .ok (.putfield 26, 3) := dk_181 0 26 (dk_at dksX6_pieces_1 15 rfl rfl)
theorem dX6_pieces_41 : decode cX6_pieces 41 = .ok (.aload_n 2, 1) := dk_44 (dk_at dksX6_pieces_1 18 rfl rfl)
theorem dX6_pieces_42 : decode cX6_pieces 42 = .ok (.new 118, 3) := dk_187 0 118 (dk_at dksX6_pieces_1 19 rfl rfl)
theorem dX6_pieces_45 : decode cX6_pieces 45 = .ok (.dup, 1) := dk_89 (dk_at dksX6_pieces_1 22 rfl rfl)
theorem dX6_pieces_46 : decode cX6_pieces 46 = .ok (.aload_n 0, 1) := dk_42 (dk_at dksX6_pieces_1 23 rfl rfl)
theorem dX6_pieces_47 : decode cX6_pieces 47 = .ok (.invokevirtual 101, 3) := dk_182 0 101 (dk_at dksX6_pieces_2 0 rfl rfl)
theorem dX6_pieces_50 : decode cX6_pieces 50 = .ok (.iconst 0, 1) := dk_3 (dk_at dksX6_pieces_2 3 rfl rfl)
theorem dX6_pieces_51 : decode cX6_pieces 51 = .ok (.invokespecial 120, 3) := dk_183 0 120 (dk_at dksX6_pieces_2 4 rfl rfl)
theorem dX6_pieces_54 : decode cX6_pieces 54 = .ok (.putfield 123, 3) := dk_181 0 123 (dk_at dksX6_pieces_2 7 rfl rfl)
theorem dX6_pieces_57 : decode cX6_pieces 57 = .ok (.aload_n 2, 1) := dk_44 (dk_at dksX6_pieces_2 10 rfl rfl)
theorem dX6_pieces_58 : decode cX6_pieces 58 = .ok (.getfield 123, 3) := dk_180 0 123 (dk_at dksX6_pieces_2 11 rfl rfl)
theorem dX6_pieces_61 : decode cX6_pieces 61 = .ok (.astore_n 2, 1) := dk_77 (dk_at dksX6_pieces_2 14 rfl rfl)
theorem dX6_pieces_62 : decode cX6_pieces 62 = .ok (.goto (-47), 3) := dk_167 255 209 (dk_at dksX6_pieces_2 15 rfl rfl)
theorem dX6_pieces_65 : decode cX6_pieces 65 = .ok (.aload_n 1, 1) := dk_43 (dk_at dksX6_pieces_2 18 rfl rfl)
theorem dX6_pieces_66 : decode cX6_pieces 66 = .ok (.areturn, 1) := dk_176 (dk_at dksX6_pieces_2 19 rfl rfl)
abbrev cX6_piece : ByteArray := prog_12_method_12_code
def yX6_piece : MethodName := ⟨RX6, "piece", "()LHighSpots$Condition;"⟩
def dkwX6_piece_5 : List UInt8 := [182, 0, 43, 153, 0, 10, 42, 182, 0, 60, 167, 0, 4, 1, 183, 0, 115, 176]
abbrev dktX6_piece_5 : List UInt8 := dkwX6_piece_5 ++ []
def dkwX6_piece_4 : List UInt8 := [180, 0, 26, 182, 0, 50, 42, 89, 180, 0, 26, 4, 96, 181, 0, 26, 187, 0, 113, 89, 44, 29, 42]
abbrev dktX6_piece_4 : List UInt8 := dkwX6_piece_4 ++ dktX6_piece_5
def dkwX6_piece_3 : List UInt8 := [62, 29, 16, 60, 159, 0, 24, 29, 16, 62, 159, 0, 18, 29, 16, 61, 159, 0, 12, 42, 4, 42]
abbrev dktX6_piece_3 : List UInt8 := dkwX6_piece_3 ++ dktX6_piece_4
def dkwX6_piece_2 : List UInt8 := [183, 0, 107, 176, 27, 16, 40, 160, 0, 8, 42, 182, 0, 110, 176, 42, 182, 0, 60, 77, 42, 182, 0, 39]
abbrev dktX6_piece_2 : List UInt8 := dkwX6_piece_2 ++ dktX6_piece_3
def dkwX6_piece_1 : List UInt8 := [182, 0, 101, 167, 0, 4, 1, 77, 42, 89, 180, 0, 54, 4, 100, 181, 0, 54, 187, 0, 105, 89, 44]
abbrev dktX6_piece_1 : List UInt8 := dkwX6_piece_1 ++ dktX6_piece_2
def dkwX6_piece_0 : List UInt8 := [42, 182, 0, 39, 60, 27, 16, 33, 160, 0, 42, 42, 182, 0, 57, 42, 182, 0, 43, 153, 0, 10, 42]
abbrev dktX6_piece_0 : List UInt8 := dkwX6_piece_0 ++ dktX6_piece_1
theorem dksX6_piece_0 : cX6_piece.data.toList.drop 0 = dktX6_piece_0 := by decide +kernel
theorem dksX6_piece_1 : cX6_piece.data.toList.drop 23 = dktX6_piece_1 := dk_seg dksX6_piece_0 23 rfl rfl
theorem dksX6_piece_2 : cX6_piece.data.toList.drop 46 = dktX6_piece_2 := dk_seg dksX6_piece_1 23 rfl rfl
theorem dksX6_piece_3 : cX6_piece.data.toList.drop 70 = dktX6_piece_3 := dk_seg dksX6_piece_2 24 rfl rfl
theorem dksX6_piece_4 : cX6_piece.data.toList.drop 92 = dktX6_piece_4 := dk_seg dksX6_piece_3 22 rfl rfl
theorem dksX6_piece_5 : cX6_piece.data.toList.drop 115 = dktX6_piece_5 := dk_seg dksX6_piece_4 23 rfl rfl
theorem dX6_piece_0 : decode cX6_piece 0 = .ok (.aload_n 0, 1) := dk_42 (dk_at dksX6_piece_0 0 rfl rfl)
theorem dX6_piece_1 : decode cX6_piece 1 = .ok (.invokevirtual 39, 3) := dk_182 0 39 (dk_at dksX6_piece_0 1 rfl rfl)
theorem dX6_piece_4 : decode cX6_piece 4 = .ok (.istore_n 1, 1) := dk_60 (dk_at dksX6_piece_0 4 rfl rfl)
theorem dX6_piece_5 : decode cX6_piece 5 = .ok (.iload_n 1, 1) := dk_27 (dk_at dksX6_piece_0 5 rfl rfl)
theorem dX6_piece_6 : decode cX6_piece 6 = .ok (.bipush 33, 2) := dk_16 33 (dk_at dksX6_piece_0 6 rfl rfl)
theorem dX6_piece_8 : decode cX6_piece 8 = .ok (.if_icmp .ne 42, 3) := dk_160 0 42 (dk_at dksX6_piece_0 8 rfl rfl)
theorem dX6_piece_11 : decode cX6_piece 11 = .ok (.aload_n 0, 1) := dk_42 (dk_at dksX6_piece_0 11 rfl rfl)
theorem dX6_piece_12 : decode cX6_piece 12 = .ok (.invokevirtual 57, 3) := dk_182 0 57 (dk_at dksX6_piece_0 12 rfl rfl)
theorem dX6_piece_15 : decode cX6_piece 15 = .ok (.aload_n 0, 1) := dk_42 (dk_at dksX6_piece_0 15 rfl rfl)
theorem dX6_piece_16 : decode cX6_piece 16 = .ok (.invokevirtual 43, 3) := dk_182 0 43 (dk_at dksX6_piece_0 16 rfl rfl)
theorem dX6_piece_19 : decode cX6_piece 19 = .ok (.ifCond .eq 10, 3) := dk_153 0 10 (dk_at dksX6_piece_0 19 rfl rfl)
theorem dX6_piece_22 : decode cX6_piece 22 = .ok (.aload_n 0, 1) := dk_42 (dk_at dksX6_piece_0 22 rfl rfl)
theorem dX6_piece_23 : decode cX6_piece 23 = .ok (.invokevirtual 101, 3) := dk_182 0 101 (dk_at dksX6_piece_1 0 rfl rfl)
theorem dX6_piece_26 : decode cX6_piece 26 = .ok (.goto 4, 3) := dk_167 0 4 (dk_at dksX6_piece_1 3 rfl rfl)
theorem dX6_piece_29 : decode cX6_piece 29 = .ok (.aconst_null, 1) := dk_1 (dk_at dksX6_piece_1 6 rfl rfl)
theorem dX6_piece_30 : decode cX6_piece 30 = .ok (.astore_n 2, 1) := dk_77 (dk_at dksX6_piece_1 7 rfl rfl)
theorem dX6_piece_31 : decode cX6_piece 31 = .ok (.aload_n 0, 1) := dk_42 (dk_at dksX6_piece_1 8 rfl rfl)
theorem dX6_piece_32 : decode cX6_piece 32 = .ok (.dup, 1) := dk_89 (dk_at dksX6_piece_1 9 rfl rfl)
theorem dX6_piece_33 : decode cX6_piece 33 = .ok (.getfield 54, 3) := dk_180 0 54 (dk_at dksX6_piece_1 10 rfl rfl)
theorem dX6_piece_36 : decode cX6_piece 36 = .ok (.iconst 1, 1) := dk_4 (dk_at dksX6_piece_1 13 rfl rfl)
theorem dX6_piece_37 : decode cX6_piece 37 = .ok (.isub, 1) := dk_100 (dk_at dksX6_piece_1 14 rfl rfl)
theorem dX6_piece_38 : decode cX6_piece 38 = .ok (.putfield 54, 3) := dk_181 0 54 (dk_at dksX6_piece_1 15 rfl rfl)
theorem dX6_piece_41 : decode cX6_piece 41 = .ok (.new 105, 3) := dk_187 0 105 (dk_at dksX6_piece_1 18 rfl rfl)
theorem dX6_piece_44 : decode cX6_piece 44 = .ok (.dup, 1) := dk_89 (dk_at dksX6_piece_1 21 rfl rfl)
theorem dX6_piece_45 : decode cX6_piece 45 = .ok (.aload_n 2, 1) := dk_44 (dk_at dksX6_piece_1 22 rfl rfl)
theorem dX6_piece_46 : decode cX6_piece 46 = .ok (.invokespecial 107, 3) := dk_183 0 107 (dk_at dksX6_piece_2 0 rfl rfl)
theorem dX6_piece_49 : decode cX6_piece 49 = .ok (.areturn, 1) := dk_176 (dk_at dksX6_piece_2 3 rfl rfl)
theorem dX6_piece_50 : decode cX6_piece 50 = .ok (.iload_n 1, 1) := dk_27 (dk_at dksX6_piece_2 4 rfl rfl)
theorem dX6_piece_51 : decode cX6_piece 51 = .ok (.bipush 40, 2) := dk_16 40 (dk_at dksX6_piece_2 5 rfl rfl)
theorem dX6_piece_53 : decode cX6_piece 53 = .ok (.if_icmp .ne 8, 3) := dk_160 0 8 (dk_at dksX6_piece_2 7 rfl rfl)
theorem dX6_piece_56 : decode cX6_piece 56 = .ok (.aload_n 0, 1) := dk_42 (dk_at dksX6_piece_2 10 rfl rfl)
theorem dX6_piece_57 : decode cX6_piece 57 = .ok (.invokevirtual 110, 3) := dk_182 0 110 (dk_at dksX6_piece_2 11 rfl rfl)
theorem dX6_piece_60 : decode cX6_piece 60 = .ok (.areturn, 1) := dk_176 (dk_at dksX6_piece_2 14 rfl rfl)
theorem dX6_piece_61 : decode cX6_piece 61 = .ok (.aload_n 0, 1) := dk_42 (dk_at dksX6_piece_2 15 rfl rfl)
theorem dX6_piece_62 : decode cX6_piece 62 = .ok (.invokevirtual 60, 3) := dk_182 0 60 (dk_at dksX6_piece_2 16 rfl rfl)
theorem dX6_piece_65 : decode cX6_piece 65 = .ok (.astore_n 2, 1) := dk_77 (dk_at dksX6_piece_2 19 rfl rfl)
theorem dX6_piece_66 : decode cX6_piece 66 = .ok (.aload_n 0, 1) := dk_42 (dk_at dksX6_piece_2 20 rfl rfl)
theorem dX6_piece_67 : decode cX6_piece 67 = .ok (.invokevirtual 39, 3) := dk_182 0 39 (dk_at dksX6_piece_2 21 rfl rfl)
theorem dX6_piece_70 : decode cX6_piece 70 = .ok (.istore_n 3, 1) := dk_62 (dk_at dksX6_piece_3 0 rfl rfl)
theorem dX6_piece_71 : decode cX6_piece 71 = .ok (.iload_n 3, 1) := dk_29 (dk_at dksX6_piece_3 1 rfl rfl)
theorem dX6_piece_72 : decode cX6_piece 72 = .ok (.bipush 60, 2) := dk_16 60 (dk_at dksX6_piece_3 2 rfl rfl)
theorem dX6_piece_74 : decode cX6_piece 74 = .ok (.if_icmp .eq 24, 3) := dk_159 0 24 (dk_at dksX6_piece_3 4 rfl rfl)
theorem dX6_piece_77 : decode cX6_piece 77 = .ok (.iload_n 3, 1) := dk_29 (dk_at dksX6_piece_3 7 rfl rfl)
theorem dX6_piece_78 : decode cX6_piece 78 = .ok (.bipush 62, 2) := dk_16 62 (dk_at dksX6_piece_3 8 rfl rfl)
theorem dX6_piece_80 : decode cX6_piece 80 = .ok (.if_icmp .eq 18, 3) := dk_159 0 18 (dk_at dksX6_piece_3 10 rfl rfl)
theorem dX6_piece_83 : decode cX6_piece 83 = .ok (.iload_n 3, 1) := dk_29 (dk_at dksX6_piece_3 13 rfl rfl)
theorem dX6_piece_84 : decode cX6_piece 84 = .ok (.bipush 61, 2) := dk_16 61 (dk_at dksX6_piece_3 14 rfl rfl)
theorem dX6_piece_86 : decode cX6_piece 86 = .ok (.if_icmp .eq 12, 3) := dk_159 0 12 (dk_at dksX6_piece_3 16 rfl rfl)
theorem dX6_piece_89 : decode cX6_piece 89 = .ok (.aload_n 0, 1) := dk_42 (dk_at dksX6_piece_3 19 rfl rfl)
theorem dX6_piece_90 : decode cX6_piece 90 = .ok (.iconst 1, 1) := dk_4 (dk_at dksX6_piece_3 20 rfl rfl)
theorem dX6_piece_91 : decode cX6_piece 91 = .ok (.aload_n 0, 1) := dk_42 (dk_at dksX6_piece_3 21 rfl rfl)
theorem dX6_piece_92 : decode cX6_piece 92 = .ok (.getfield 26, 3) := dk_180 0 26 (dk_at dksX6_piece_4 0 rfl rfl)
theorem dX6_piece_95 : decode cX6_piece 95 = .ok (.invokevirtual 50, 3) := dk_182 0 50 (dk_at dksX6_piece_4 3 rfl rfl)
theorem dX6_piece_98 : decode cX6_piece 98 = .ok (.aload_n 0, 1) := dk_42 (dk_at dksX6_piece_4 6 rfl rfl)
theorem dX6_piece_99 : decode cX6_piece 99 = .ok (.dup, 1) := dk_89 (dk_at dksX6_piece_4 7 rfl rfl)
theorem dX6_piece_100 : decode cX6_piece 100 = .ok (.getfield 26, 3) := dk_180 0 26 (dk_at dksX6_piece_4 8 rfl rfl)
theorem dX6_piece_103 : decode cX6_piece 103 = .ok (.iconst 1, 1) := dk_4 (dk_at dksX6_piece_4 11 rfl rfl)
theorem dX6_piece_104 : decode cX6_piece 104 = .ok (.iadd, 1) := dk_96 (dk_at dksX6_piece_4 12 rfl rfl)
theorem dX6_piece_105 : decode cX6_piece 105 = .ok (.putfield 26, 3) := dk_181 0 26 (dk_at dksX6_piece_4 13 rfl rfl)
theorem dX6_piece_108 : decode cX6_piece 108 = .ok (.new 113, 3) := dk_187 0 113 (dk_at dksX6_piece_4 16 rfl rfl)
theorem dX6_piece_111 : decode cX6_piece 111 = .ok (.dup, 1) := dk_89 (dk_at dksX6_piece_4 19 rfl rfl)
theorem dX6_piece_112 : decode cX6_piece 112 = .ok (.aload_n 2, 1) := dk_44 (dk_at dksX6_piece_4 20 rfl rfl)
theorem dX6_piece_113 : decode cX6_piece 113 = .ok (.iload_n 3, 1) := dk_29 (dk_at dksX6_piece_4 21 rfl rfl)
theorem dX6_piece_114 : decode cX6_piece 114 = .ok (.aload_n 0, 1) := dk_42 (dk_at dksX6_piece_4 22 rfl rfl)
theorem dX6_piece_115 : decode cX6_piece 115 = .ok (.invokevirtual 43, 3) := dk_182 0 43 (dk_at dksX6_piece_5 0 rfl rfl)
theorem dX6_piece_118 : decode cX6_piece 118 = .ok (.ifCond .eq 10, 3) := dk_153 0 10 (dk_at dksX6_piece_5 3 rfl rfl)
theorem dX6_piece_121 : decode cX6_piece 121 = .ok (.aload_n 0, 1) := dk_42 (dk_at dksX6_piece_5 6 rfl rfl)
theorem dX6_piece_122 : decode cX6_piece 122 = .ok (.invokevirtual 60, 3) := dk_182 0 60 (dk_at dksX6_piece_5 7 rfl rfl)
theorem dX6_piece_125 : decode cX6_piece 125 = .ok (.goto 4, 3) := dk_167 0 4 (dk_at dksX6_piece_5 10 rfl rfl)
theorem dX6_piece_128 : decode cX6_piece 128 = .ok (.aconst_null, 1) := dk_1 (dk_at dksX6_piece_5 13 rfl rfl)
theorem dX6_piece_129 : decode cX6_piece 129 = .ok (.invokespecial 115, 3) := dk_183 0 115 (dk_at dksX6_piece_5 14 rfl rfl)
theorem dX6_piece_132 : decode cX6_piece 132 = .ok (.areturn, 1) := dk_176 (dk_at dksX6_piece_5 17 rfl rfl)
theorem q123 : (Jvm.Cond.initialized "HighSpots$Reader") ∈ lw_all := lw_g (lw_at lw_m1 7 rfl) rfl
theorem q214 : (Jvm.Cond.fieldLinkNest "HighSpots$Reader" (134 : Nat) "HighSpots$Text" "letters" "[I" "HighSpots") ∈ lw_tbl := lw_at lw_m1 98 rfl
theorem q216 : (Jvm.Cond.fieldLinkNest "HighSpots$Reader" (138 : Nat) "HighSpots$Text" "sums" "[LHighSpots$Sum;" "HighSpots") ∈ lw_tbl := lw_at lw_m1 100 rfl
theorem q218 : (Jvm.Cond.fieldLinkNest "HighSpots$Reader" (142 : Nat) "HighSpots$Text" "conditions" "[LHighSpots$Condition;" "HighSpots") ∈ lw_tbl := lw_at lw_m1 102 rfl
theorem q220 : (Jvm.Cond.fieldLinkNest "HighSpots$Reader" (131 : Nat) "HighSpots$Text" "many" "I" "HighSpots") ∈ lw_tbl := lw_at lw_m1 104 rfl
theorem q245 : (Jvm.Cond.fieldLinkNest "HighSpots$Reader" (29 : Nat) "HighSpots" "tape" "[B" "HighSpots") ∈ lw_tbl := lw_at lw_m1 129 rfl
theorem q337 : (Jvm.Cond.instantiable "HighSpots$Reader" (7 : Nat)) ∈ lw_all := lw_g (lw_at lw_m1 221 rfl) rfl
theorem q339 : (Jvm.Cond.instanceMethod ({ cls := "HighSpots$Reader", name := "<init>", desc := "(LHighSpots;I)V" } : Jvm.MethodName)) ∈ lw_all := lw_g (lw_at lw_m1 223 rfl) rfl
theorem q340 : (Jvm.Cond.code ({ cls := "HighSpots$Reader", name := "<init>", desc := "(LHighSpots;I)V" } : Jvm.MethodName) prog_12_method_1_code (3 : Nat) (Option.none : Option Jvm.ClassFile.FieldType)) ∈ lw_all := lw_g (lw_at lw_m1 224 rfl) rfl
theorem q341 : (Jvm.Cond.methodLink "HighSpots$Reader" (9 : Nat) ({ cls := "java/lang/Object", name := "<init>", desc := "()V" } : Jvm.MethodName)) ∈ lw_all := lw_g (lw_at lw_m1 225 rfl) rfl
theorem q342 : (Jvm.Cond.classLink "HighSpots$Reader" (15 : Nat) "HighSpots$Text") ∈ lw_all := lw_g (lw_at lw_m1 226 rfl) rfl
theorem q343 : (Jvm.Cond.methodLinkNest "HighSpots$Reader" (17 : Nat) ({ cls := "HighSpots$Text", name := "<init>", desc := "()V" } : Jvm.MethodName) "HighSpots") ∈ lw_tbl := lw_at lw_m1 227 rfl
theorem q344 : (Jvm.Cond.fieldLink "HighSpots$Reader" (22 : Nat) "HighSpots$Reader" "n" "I") ∈ lw_all := lw_g (lw_at lw_m1 228 rfl) rfl
theorem q345 : (Jvm.Cond.fieldLink "HighSpots$Reader" (18 : Nat) "HighSpots$Reader" "text" "LHighSpots$Text;") ∈ lw_all := lw_g (lw_at lw_m1 229 rfl) rfl
theorem q347 : (Jvm.Cond.fieldLink "HighSpots$Reader" (26 : Nat) "HighSpots$Reader" "at" "I") ∈ lw_all := lw_g (lw_at lw_m1 231 rfl) rfl
theorem q348 : (Jvm.Cond.fieldLink "HighSpots$Reader" (54 : Nat) "HighSpots$Reader" "open" "I") ∈ lw_all := lw_g (lw_at lw_m1 232 rfl) rfl
theorem q349 : (Jvm.Cond.fieldLink "HighSpots$Reader" (33 : Nat) "HighSpots$Reader" "fault" "I") ∈ lw_all := lw_g (lw_at lw_m1 233 rfl) rfl
theorem q350 : (Jvm.Cond.fieldLink "HighSpots$Reader" (36 : Nat) "HighSpots$Reader" "place" "I") ∈ lw_all := lw_g (lw_at lw_m1 234 rfl) rfl
theorem q351 : (Jvm.Cond.fieldLink "HighSpots$Reader" (3 : Nat) "HighSpots$Reader" "this$0" "LHighSpots;") ∈ lw_all := lw_g (lw_at lw_m1 235 rfl) rfl
theorem q352 : (Jvm.Cond.laysFinal "HighSpots$Reader" "HighSpots$Reader" "n" "I") ∈ lw_all := lw_g (lw_at lw_m1 236 rfl) rfl
theorem q353 : (Jvm.Cond.soleField "HighSpots$Reader" "n") ∈ lw_all := lw_g (lw_at lw_m1 237 rfl) rfl
theorem q354 : (Jvm.Cond.laysFinal "HighSpots$Reader" "HighSpots$Reader" "text" "LHighSpots$Text;") ∈ lw_all := lw_g (lw_at lw_m1 238 rfl) rfl
theorem q355 : (Jvm.Cond.soleField "HighSpots$Reader" "text") ∈ lw_all := lw_g (lw_at lw_m1 239 rfl) rfl
theorem q356 : (Jvm.Cond.lays "HighSpots$Reader" "HighSpots$Reader" "at" "I") ∈ lw_all := lw_g (lw_at lw_m2 0 rfl) rfl
theorem q357 : (Jvm.Cond.soleField "HighSpots$Reader" "at") ∈ lw_all := lw_g (lw_at lw_m2 1 rfl) rfl
theorem q358 : (Jvm.Cond.lays "HighSpots$Reader" "HighSpots$Reader" "open" "I") ∈ lw_all := lw_g (lw_at lw_m2 2 rfl) rfl
theorem q359 : (Jvm.Cond.soleField "HighSpots$Reader" "open") ∈ lw_all := lw_g (lw_at lw_m2 3 rfl) rfl
theorem q360 : (Jvm.Cond.lays "HighSpots$Reader" "HighSpots$Reader" "fault" "I") ∈ lw_all := lw_g (lw_at lw_m2 4 rfl) rfl
theorem q361 : (Jvm.Cond.soleField "HighSpots$Reader" "fault") ∈ lw_all := lw_g (lw_at lw_m2 5 rfl) rfl
theorem q362 : (Jvm.Cond.lays "HighSpots$Reader" "HighSpots$Reader" "place" "I") ∈ lw_all := lw_g (lw_at lw_m2 6 rfl) rfl
theorem q363 : (Jvm.Cond.soleField "HighSpots$Reader" "place") ∈ lw_all := lw_g (lw_at lw_m2 7 rfl) rfl
theorem q364 : (Jvm.Cond.laysFinal "HighSpots$Reader" "HighSpots$Reader" "this$0" "LHighSpots;") ∈ lw_all := lw_g (lw_at lw_m2 8 rfl) rfl
theorem q365 : (Jvm.Cond.soleField "HighSpots$Reader" "this$0") ∈ lw_all := lw_g (lw_at lw_m2 9 rfl) rfl
theorem q366 : (Jvm.Cond.superclass "HighSpots$Reader" "java/lang/Object") ∈ lw_all := lw_g (lw_at lw_m2 10 rfl) rfl
theorem q368 : (Jvm.Cond.instanceMethod ({ cls := "HighSpots$Reader", name := "read", desc := "()I" } : Jvm.MethodName)) ∈ lw_all := lw_g (lw_at lw_m2 12 rfl) rfl
theorem q369 : (Jvm.Cond.selects "HighSpots$Reader" ({ cls := "HighSpots$Reader", name := "read", desc := "()I" } : Jvm.MethodName) ({ cls := "HighSpots$Reader", name := "read", desc := "()I" } : Jvm.MethodName)) ∈ lw_all := lw_g (lw_at lw_m2 13 rfl) rfl
theorem q370 : (Jvm.Cond.code ({ cls := "HighSpots$Reader", name := "read", desc := "()I" } : Jvm.MethodName) prog_12_method_16_code (2 : Nat) (Option.some Jvm.ClassFile.FieldType.int)) ∈ lw_all := lw_g (lw_at lw_m2 14 rfl) rfl
theorem q371 : (Jvm.Cond.methodLink "HighSpots$Reader" (43 : Nat) ({ cls := "HighSpots$Reader", name := "isGood", desc := "()Z" } : Jvm.MethodName)) ∈ lw_all := lw_g (lw_at lw_m2 15 rfl) rfl
theorem q372 : (Jvm.Cond.privateMethod ({ cls := "HighSpots$Reader", name := "isGood", desc := "()Z" } : Jvm.MethodName)) ∈ lw_tbl := lw_at lw_m2 16 rfl
theorem q373 : (Jvm.Cond.instanceMethod ({ cls := "HighSpots$Reader", name := "isGood", desc := "()Z" } : Jvm.MethodName)) ∈ lw_all := lw_g (lw_at lw_m2 17 rfl) rfl
theorem q374 : (Jvm.Cond.code ({ cls := "HighSpots$Reader", name := "isGood", desc := "()Z" } : Jvm.MethodName) prog_12_method_3_code (1 : Nat) (Option.some Jvm.ClassFile.FieldType.boolean)) ∈ lw_all := lw_g (lw_at lw_m2 18 rfl) rfl
theorem q375 : (Jvm.Cond.methodLink "HighSpots$Reader" (146 : Nat) ({ cls := "HighSpots$Reader", name := "clause", desc := "()V" } : Jvm.MethodName)) ∈ lw_all := lw_g (lw_at lw_m2 19 rfl) rfl
theorem q376 : (Jvm.Cond.privateMethod ({ cls := "HighSpots$Reader", name := "clause", desc := "()V" } : Jvm.MethodName)) ∈ lw_tbl := lw_at lw_m2 20 rfl
theorem q377 : (Jvm.Cond.instanceMethod ({ cls := "HighSpots$Reader", name := "clause", desc := "()V" } : Jvm.MethodName)) ∈ lw_all := lw_g (lw_at lw_m2 21 rfl) rfl
theorem q378 : (Jvm.Cond.code ({ cls := "HighSpots$Reader", name := "clause", desc := "()V" } : Jvm.MethodName) prog_12_method_15_code (4 : Nat) (Option.none : Option Jvm.ClassFile.FieldType)) ∈ lw_all := lw_g (lw_at lw_m2 22 rfl) rfl
theorem q379 : (Jvm.Cond.methodLink "HighSpots$Reader" (39 : Nat) ({ cls := "HighSpots$Reader", name := "here", desc := "()I" } : Jvm.MethodName)) ∈ lw_all := lw_g (lw_at lw_m2 23 rfl) rfl
theorem q380 : (Jvm.Cond.privateMethod ({ cls := "HighSpots$Reader", name := "here", desc := "()I" } : Jvm.MethodName)) ∈ lw_tbl := lw_at lw_m2 24 rfl
theorem q381 : (Jvm.Cond.instanceMethod ({ cls := "HighSpots$Reader", name := "here", desc := "()I" } : Jvm.MethodName)) ∈ lw_all := lw_g (lw_at lw_m2 25 rfl) rfl
theorem q382 : (Jvm.Cond.code ({ cls := "HighSpots$Reader", name := "here", desc := "()I" } : Jvm.MethodName) prog_12_method_2_code (1 : Nat) (Option.some Jvm.ClassFile.FieldType.int)) ∈ lw_all := lw_g (lw_at lw_m2 26 rfl) rfl
theorem q383 : (Jvm.Cond.stringRef "HighSpots$Reader" (129 : Nat) "vyx") ∈ lw_tbl := lw_at lw_m2 27 rfl
theorem q384 : (Jvm.Cond.methodLink "HighSpots$Reader" (77 : Nat) ({ cls := "java/lang/String", name := "indexOf", desc := "(I)I" } : Jvm.MethodName)) ∈ lw_all := lw_g (lw_at lw_m2 28 rfl) rfl
theorem q470 : (Jvm.Cond.methodLink "HighSpots$Reader" (50 : Nat) ({ cls := "HighSpots$Reader", name := "bad", desc := "(II)V" } : Jvm.MethodName)) ∈ lw_all := lw_g (lw_at lw_m2 114 rfl) rfl
theorem q471 : (Jvm.Cond.privateMethod ({ cls := "HighSpots$Reader", name := "bad", desc := "(II)V" } : Jvm.MethodName)) ∈ lw_tbl := lw_at lw_m2 115 rfl
theorem q472 : (Jvm.Cond.instanceMethod ({ cls := "HighSpots$Reader", name := "bad", desc := "(II)V" } : Jvm.MethodName)) ∈ lw_all := lw_g (lw_at lw_m2 116 rfl) rfl
theorem q473 : (Jvm.Cond.code ({ cls := "HighSpots$Reader", name := "bad", desc := "(II)V" } : Jvm.MethodName) prog_12_method_4_code (3 : Nat) (Option.none : Option Jvm.ClassFile.FieldType)) ∈ lw_all := lw_g (lw_at lw_m2 117 rfl) rfl
theorem q474 : (Jvm.Cond.methodLink "HighSpots$Reader" (60 : Nat) ({ cls := "HighSpots$Reader", name := "sum", desc := "()LHighSpots$Sum;" } : Jvm.MethodName)) ∈ lw_all := lw_g (lw_at lw_m2 118 rfl) rfl
theorem q475 : (Jvm.Cond.privateMethod ({ cls := "HighSpots$Reader", name := "sum", desc := "()LHighSpots$Sum;" } : Jvm.MethodName)) ∈ lw_tbl := lw_at lw_m2 119 rfl
theorem q476 : (Jvm.Cond.instanceMethod ({ cls := "HighSpots$Reader", name := "sum", desc := "()LHighSpots$Sum;" } : Jvm.MethodName)) ∈ lw_all := lw_g (lw_at lw_m2 120 rfl) rfl
theorem q477 : (Jvm.Cond.code ({ cls := "HighSpots$Reader", name := "sum", desc := "()LHighSpots$Sum;" } : Jvm.MethodName) prog_12_method_11_code (4 : Nat) (Option.some (Jvm.ClassFile.FieldType.object "HighSpots$Sum"))) ∈ lw_all := lw_g (lw_at lw_m2 121 rfl) rfl
theorem q478 : (Jvm.Cond.classLink "HighSpots$Reader" (86 : Nat) "HighSpots$Row") ∈ lw_all := lw_g (lw_at lw_m2 122 rfl) rfl
theorem q480 : (Jvm.Cond.methodLink "HighSpots$Reader" (98 : Nat) ({ cls := "HighSpots$Reader", name := "product", desc := "()LHighSpots$Sum;" } : Jvm.MethodName)) ∈ lw_all := lw_g (lw_at lw_m2 124 rfl) rfl
theorem q481 : (Jvm.Cond.privateMethod ({ cls := "HighSpots$Reader", name := "product", desc := "()LHighSpots$Sum;" } : Jvm.MethodName)) ∈ lw_tbl := lw_at lw_m2 125 rfl
theorem q482 : (Jvm.Cond.instanceMethod ({ cls := "HighSpots$Reader", name := "product", desc := "()LHighSpots$Sum;" } : Jvm.MethodName)) ∈ lw_all := lw_g (lw_at lw_m2 126 rfl) rfl
theorem q483 : (Jvm.Cond.code ({ cls := "HighSpots$Reader", name := "product", desc := "()LHighSpots$Sum;" } : Jvm.MethodName) prog_12_method_10_code (4 : Nat) (Option.some (Jvm.ClassFile.FieldType.object "HighSpots$Sum"))) ∈ lw_all := lw_g (lw_at lw_m2 127 rfl) rfl
theorem q484 : (Jvm.Cond.methodLink "HighSpots$Reader" (88 : Nat) ({ cls := "HighSpots$Reader", name := "factor", desc := "()LHighSpots$Sum;" } : Jvm.MethodName)) ∈ lw_all := lw_g (lw_at lw_m2 128 rfl) rfl
theorem q485 : (Jvm.Cond.privateMethod ({ cls := "HighSpots$Reader", name := "factor", desc := "()LHighSpots$Sum;" } : Jvm.MethodName)) ∈ lw_tbl := lw_at lw_m2 129 rfl
theorem q486 : (Jvm.Cond.instanceMethod ({ cls := "HighSpots$Reader", name := "factor", desc := "()LHighSpots$Sum;" } : Jvm.MethodName)) ∈ lw_all := lw_g (lw_at lw_m2 130 rfl) rfl
theorem q487 : (Jvm.Cond.code ({ cls := "HighSpots$Reader", name := "factor", desc := "()LHighSpots$Sum;" } : Jvm.MethodName) prog_12_method_9_code (3 : Nat) (Option.some (Jvm.ClassFile.FieldType.object "HighSpots$Sum"))) ∈ lw_all := lw_g (lw_at lw_m2 131 rfl) rfl
theorem q488 : (Jvm.Cond.methodLink "HighSpots$Reader" (57 : Nat) ({ cls := "HighSpots$Reader", name := "opens", desc := "()V" } : Jvm.MethodName)) ∈ lw_all := lw_g (lw_at lw_m2 132 rfl) rfl
theorem q489 : (Jvm.Cond.privateMethod ({ cls := "HighSpots$Reader", name := "opens", desc := "()V" } : Jvm.MethodName)) ∈ lw_tbl := lw_at lw_m2 133 rfl
theorem q490 : (Jvm.Cond.instanceMethod ({ cls := "HighSpots$Reader", name := "opens", desc := "()V" } : Jvm.MethodName)) ∈ lw_all := lw_g (lw_at lw_m2 134 rfl) rfl
theorem q491 : (Jvm.Cond.code ({ cls := "HighSpots$Reader", name := "opens", desc := "()V" } : Jvm.MethodName) prog_12_method_8_code (1 : Nat) (Option.none : Option Jvm.ClassFile.FieldType)) ∈ lw_all := lw_g (lw_at lw_m2 135 rfl) rfl
theorem q492 : (Jvm.Cond.methodLink "HighSpots$Reader" (64 : Nat) ({ cls := "HighSpots$Reader", name := "must", desc := "(I)V" } : Jvm.MethodName)) ∈ lw_all := lw_g (lw_at lw_m2 136 rfl) rfl
theorem q493 : (Jvm.Cond.privateMethod ({ cls := "HighSpots$Reader", name := "must", desc := "(I)V" } : Jvm.MethodName)) ∈ lw_tbl := lw_at lw_m2 137 rfl
theorem q494 : (Jvm.Cond.instanceMethod ({ cls := "HighSpots$Reader", name := "must", desc := "(I)V" } : Jvm.MethodName)) ∈ lw_all := lw_g (lw_at lw_m2 138 rfl) rfl
theorem q495 : (Jvm.Cond.code ({ cls := "HighSpots$Reader", name := "must", desc := "(I)V" } : Jvm.MethodName) prog_12_method_7_code (2 : Nat) (Option.none : Option Jvm.ClassFile.FieldType)) ∈ lw_all := lw_g (lw_at lw_m2 139 rfl) rfl
theorem q496 : (Jvm.Cond.methodLink "HighSpots$Reader" (47 : Nat) ({ cls := "HighSpots$Reader", name := "seesDigit", desc := "()Z" } : Jvm.MethodName)) ∈ lw_all := lw_g (lw_at lw_m2 140 rfl) rfl
theorem q497 : (Jvm.Cond.privateMethod ({ cls := "HighSpots$Reader", name := "seesDigit", desc := "()Z" } : Jvm.MethodName)) ∈ lw_tbl := lw_at lw_m2 141 rfl
theorem q498 : (Jvm.Cond.instanceMethod ({ cls := "HighSpots$Reader", name := "seesDigit", desc := "()Z" } : Jvm.MethodName)) ∈ lw_all := lw_g (lw_at lw_m2 142 rfl) rfl
theorem q499 : (Jvm.Cond.code ({ cls := "HighSpots$Reader", name := "seesDigit", desc := "()Z" } : Jvm.MethodName) prog_12_method_5_code (1 : Nat) (Option.some Jvm.ClassFile.FieldType.boolean)) ∈ lw_all := lw_g (lw_at lw_m2 143 rfl) rfl
theorem q500 : (Jvm.Cond.classLink "HighSpots$Reader" (68 : Nat) "HighSpots$Number") ∈ lw_all := lw_g (lw_at lw_m2 144 rfl) rfl
theorem q502 : (Jvm.Cond.methodLink "HighSpots$Reader" (70 : Nat) ({ cls := "HighSpots$Reader", name := "number", desc := "()I" } : Jvm.MethodName)) ∈ lw_all := lw_g (lw_at lw_m2 146 rfl) rfl
theorem q503 : (Jvm.Cond.privateMethod ({ cls := "HighSpots$Reader", name := "number", desc := "()I" } : Jvm.MethodName)) ∈ lw_tbl := lw_at lw_m2 147 rfl
theorem q504 : (Jvm.Cond.instanceMethod ({ cls := "HighSpots$Reader", name := "number", desc := "()I" } : Jvm.MethodName)) ∈ lw_all := lw_g (lw_at lw_m2 148 rfl) rfl
theorem q505 : (Jvm.Cond.code ({ cls := "HighSpots$Reader", name := "number", desc := "()I" } : Jvm.MethodName) prog_12_method_6_code (3 : Nat) (Option.some Jvm.ClassFile.FieldType.int)) ∈ lw_all := lw_g (lw_at lw_m2 149 rfl) rfl
theorem q506 : (Jvm.Cond.methodLink "HighSpots$Reader" (73 : Nat) ({ cls := "HighSpots$Number", name := "<init>", desc := "(I)V" } : Jvm.MethodName)) ∈ lw_all := lw_g (lw_at lw_m2 150 rfl) rfl
theorem q517 : (Jvm.Cond.stringRef "HighSpots$Reader" (75 : Nat) "ulceabhktw") ∈ lw_tbl := lw_at lw_m2 161 rfl
theorem q518 : (Jvm.Cond.classLink "HighSpots$Reader" (83 : Nat) "HighSpots$Letter") ∈ lw_all := lw_g (lw_at lw_m2 162 rfl) rfl
theorem q520 : (Jvm.Cond.methodLink "HighSpots$Reader" (85 : Nat) ({ cls := "HighSpots$Letter", name := "<init>", desc := "(I)V" } : Jvm.MethodName)) ∈ lw_all := lw_g (lw_at lw_m2 164 rfl) rfl
theorem q528 : (Jvm.Cond.methodLink "HighSpots$Reader" (91 : Nat) ({ cls := "HighSpots$Row", name := "<init>", desc := "(ILHighSpots$Sum;)V" } : Jvm.MethodName)) ∈ lw_all := lw_g (lw_at lw_m2 172 rfl) rfl
theorem q535 : (Jvm.Cond.fieldLinkNest "HighSpots$Reader" (94 : Nat) "HighSpots$Row" "next" "LHighSpots$Row;" "HighSpots") ∈ lw_tbl := lw_at lw_m2 179 rfl
theorem q543 : (Jvm.Cond.methodLink "HighSpots$Reader" (110 : Nat) ({ cls := "HighSpots$Reader", name := "condition", desc := "()LHighSpots$Condition;" } : Jvm.MethodName)) ∈ lw_all := lw_g (lw_at lw_m2 187 rfl) rfl
theorem q544 : (Jvm.Cond.privateMethod ({ cls := "HighSpots$Reader", name := "condition", desc := "()LHighSpots$Condition;" } : Jvm.MethodName)) ∈ lw_tbl := lw_at lw_m2 188 rfl
theorem q545 : (Jvm.Cond.instanceMethod ({ cls := "HighSpots$Reader", name := "condition", desc := "()LHighSpots$Condition;" } : Jvm.MethodName)) ∈ lw_all := lw_g (lw_at lw_m2 189 rfl) rfl
theorem q546 : (Jvm.Cond.code ({ cls := "HighSpots$Reader", name := "condition", desc := "()LHighSpots$Condition;" } : Jvm.MethodName) prog_12_method_14_code (3 : Nat) (Option.some (Jvm.ClassFile.FieldType.object "HighSpots$Condition"))) ∈ lw_all := lw_g (lw_at lw_m2 190 rfl) rfl
theorem q547 : (Jvm.Cond.classLink "HighSpots$Reader" (118 : Nat) "HighSpots$Some") ∈ lw_all := lw_g (lw_at lw_m2 191 rfl) rfl
theorem q549 : (Jvm.Cond.methodLink "HighSpots$Reader" (126 : Nat) ({ cls := "HighSpots$Reader", name := "pieces", desc := "()LHighSpots$Condition;" } : Jvm.MethodName)) ∈ lw_all := lw_g (lw_at lw_m2 193 rfl) rfl
theorem q550 : (Jvm.Cond.privateMethod ({ cls := "HighSpots$Reader", name := "pieces", desc := "()LHighSpots$Condition;" } : Jvm.MethodName)) ∈ lw_tbl := lw_at lw_m2 194 rfl
theorem q551 : (Jvm.Cond.instanceMethod ({ cls := "HighSpots$Reader", name := "pieces", desc := "()LHighSpots$Condition;" } : Jvm.MethodName)) ∈ lw_all := lw_g (lw_at lw_m2 195 rfl) rfl
theorem q552 : (Jvm.Cond.code ({ cls := "HighSpots$Reader", name := "pieces", desc := "()LHighSpots$Condition;" } : Jvm.MethodName) prog_12_method_13_code (3 : Nat) (Option.some (Jvm.ClassFile.FieldType.object "HighSpots$Condition"))) ∈ lw_all := lw_g (lw_at lw_m2 196 rfl) rfl
theorem q553 : (Jvm.Cond.methodLink "HighSpots$Reader" (101 : Nat) ({ cls := "HighSpots$Reader", name := "piece", desc := "()LHighSpots$Condition;" } : Jvm.MethodName)) ∈ lw_all := lw_g (lw_at lw_m2 197 rfl) rfl
theorem q554 : (Jvm.Cond.privateMethod ({ cls := "HighSpots$Reader", name := "piece", desc := "()LHighSpots$Condition;" } : Jvm.MethodName)) ∈ lw_tbl := lw_at lw_m2 198 rfl
theorem q555 : (Jvm.Cond.instanceMethod ({ cls := "HighSpots$Reader", name := "piece", desc := "()LHighSpots$Condition;" } : Jvm.MethodName)) ∈ lw_all := lw_g (lw_at lw_m2 199 rfl) rfl
theorem q556 : (Jvm.Cond.code ({ cls := "HighSpots$Reader", name := "piece", desc := "()LHighSpots$Condition;" } : Jvm.MethodName) prog_12_method_12_code (4 : Nat) (Option.some (Jvm.ClassFile.FieldType.object "HighSpots$Condition"))) ∈ lw_all := lw_g (lw_at lw_m2 200 rfl) rfl
theorem q557 : (Jvm.Cond.classLink "HighSpots$Reader" (105 : Nat) "HighSpots$Not") ∈ lw_all := lw_g (lw_at lw_m2 201 rfl) rfl
theorem q559 : (Jvm.Cond.methodLink "HighSpots$Reader" (107 : Nat) ({ cls := "HighSpots$Not", name := "<init>", desc := "(LHighSpots$Condition;)V" } : Jvm.MethodName)) ∈ lw_all := lw_g (lw_at lw_m2 203 rfl) rfl
theorem q570 : (Jvm.Cond.classLink "HighSpots$Reader" (113 : Nat) "HighSpots$Compared") ∈ lw_all := lw_g (lw_at lw_m2 214 rfl) rfl
theorem q572 : (Jvm.Cond.methodLink "HighSpots$Reader" (115 : Nat) ({ cls := "HighSpots$Compared", name := "<init>", desc := "(LHighSpots$Sum;ILHighSpots$Sum;)V" } : Jvm.MethodName)) ∈ lw_all := lw_g (lw_at lw_m2 216 rfl) rfl
theorem q586 : (Jvm.Cond.methodLink "HighSpots$Reader" (120 : Nat) ({ cls := "HighSpots$Some", name := "<init>", desc := "(LHighSpots$Condition;I)V" } : Jvm.MethodName)) ∈ lw_all := lw_g (lw_at lw_m2 230 rfl) rfl
theorem q593 : (Jvm.Cond.fieldLinkNest "HighSpots$Reader" (123 : Nat) "HighSpots$Some" "next" "LHighSpots$Some;" "HighSpots") ∈ lw_tbl := lw_at lw_m2 237 rfl
theorem in_X6 : ∀ w ∈ wsX60, w ∈ lw_all := lw_in wsX60 [352, 354, 356, 358, 360, 362, 364] (by decide +kernel) (by decide +kernel)

end
section
/-! HighSpots$Caster -/
set_option maxRecDepth 100000
def RX16 : String := "HighSpots$Caster"
def TX16 : u_T := fun k => match k with
  | 0 => ("HighSpots$Scribe", "n", "I", true)
  | 1 => ("HighSpots$Scribe", "at", "I", false)
  | 2 => ("HighSpots$Scribe", "fault", "I", false)
  | 3 => ("HighSpots$Scribe", "place", "I", false)
  | 4 => ("HighSpots$Scribe", "this$0", "LHighSpots;", true)
  | 5 => ("HighSpots$Caster", "trial", "[[I", true)
  | 6 => ("HighSpots$Caster", "told", "I", false)
  | 7 => ("HighSpots$Caster", "lines", "I", false)
  | _ => ("HighSpots$Caster", "this$0", "LHighSpots;", true)
def tyX16 : Nat → FieldType := fun k => match k with
  | 0 => .int
  | 1 => .int
  | 2 => .int
  | 3 => .int
  | 4 => .object "HighSpots"
  | 5 => .array (.array .int)
  | 6 => .int
  | 7 => .int
  | _ => .object "HighSpots"
abbrev wsX160 : List Cond := u_ws RX16 TX16 9
-- two fields of one name: no nmX16
theorem tyX16_ok : ∀ k, k < 9 → parseFieldDescriptor (TX16 k).2.2.1 = some (tyX16 k) := by decide +kernel
abbrev cX16_init : ByteArray := prog_4_method_1_code
def yX16_init : MethodName := ⟨RX16, "<init>", "(LHighSpots;I)V"⟩
def dkwX16_init_0 : List UInt8 := [42, 43, 181, 0, 3, 42, 43, 28, 183, 0, 9, 42, 5, 16, 48, 197, 0, 15, 2, 181, 0, 17, 177]
abbrev dktX16_init_0 : List UInt8 := dkwX16_init_0 ++ []
theorem dksX16_init_0 : cX16_init.data.toList.drop 0 = dktX16_init_0 := by decide +kernel
theorem dX16_init_0 : decode cX16_init 0 = .ok (.aload_n 0, 1) := dk_42 (dk_at dksX16_init_0 0 rfl rfl)
theorem dX16_init_1 : decode cX16_init 1 = .ok (.aload_n 1, 1) := dk_43 (dk_at dksX16_init_0 1 rfl rfl)
theorem dX16_init_2 : decode cX16_init 2 = .ok (.putfield 3, 3) := dk_181 0 3 (dk_at dksX16_init_0 2 rfl rfl)
theorem dX16_init_5 : decode cX16_init 5 = .ok (.aload_n 0, 1) := dk_42 (dk_at dksX16_init_0 5 rfl rfl)
theorem dX16_init_6 : decode cX16_init 6 = .ok (.aload_n 1, 1) := dk_43 (dk_at dksX16_init_0 6 rfl rfl)
theorem dX16_init_7 : decode cX16_init 7 = .ok (.iload_n 2, 1) := dk_28 (dk_at dksX16_init_0 7 rfl rfl)
theorem dX16_init_8 : decode cX16_init 8 = .ok (.invokespecial 9, 3) := dk_183 0 9 (dk_at dksX16_init_0 8 rfl rfl)
theorem dX16_init_11 : decode cX16_init 11 = .ok (.aload_n 0, 1) := dk_42 (dk_at dksX16_init_0 11 rfl rfl)
theorem dX16_init_12 : decode cX16_init 12 = .ok (.iconst 2, 1) := dk_5 (dk_at dksX16_init_0 12 rfl rfl)
theorem dX16_init_13 : decode cX16_init 13 = .ok (.bipush 48, 2) := dk_16 48 (dk_at dksX16_init_0 13 rfl rfl)
theorem dX16_init_15 : decode cX16_init 15 = .ok (.multianewarray 15 2, 4) := by decide +kernel
theorem dX16_init_19 : decode cX16_init 19 = .ok (.putfield 17, 3) := dk_181 0 17 (dk_at dksX16_init_0 19 rfl rfl)
theorem dX16_init_22 : decode cX16_init 22 = .ok (.return_, 1) := dk_177 (dk_at dksX16_init_0 22 rfl rfl)
abbrev cX16_read : ByteArray := prog_4_method_4_code
def yX16_read : MethodName := ⟨RX16, "read", "()I"⟩
def dkwX16_read_1 : List UInt8 := [42, 182, 0, 20, 153, 255, 232, 42, 182, 0, 67, 167, 255, 225, 42, 42, 180, 0, 64, 182, 0, 70, 172]
abbrev dktX16_read_1 : List UInt8 := dkwX16_read_1 ++ []
def dkwX16_read_0 : List UInt8 := [42, 182, 0, 67, 42, 182, 0, 20, 153, 0, 30, 42, 182, 0, 47, 154, 0, 23, 42, 16, 59, 182, 0, 57]
abbrev dktX16_read_0 : List UInt8 := dkwX16_read_0 ++ dktX16_read_1
theorem dksX16_read_0 : cX16_read.data.toList.drop 0 = dktX16_read_0 := by decide +kernel
theorem dksX16_read_1 : cX16_read.data.toList.drop 24 = dktX16_read_1 := dk_seg dksX16_read_0 24 rfl rfl
theorem dX16_read_0 : decode cX16_read 0 = .ok (.aload_n 0, 1) := dk_42 (dk_at dksX16_read_0 0 rfl rfl)
theorem dX16_read_1 : decode cX16_read 1 = .ok (.invokevirtual 67, 3) := dk_182 0 67 (dk_at dksX16_read_0 1 rfl rfl)
theorem dX16_read_4 : decode cX16_read 4 = .ok (.aload_n 0, 1) := dk_42 (dk_at dksX16_read_0 4 rfl rfl)
theorem dX16_read_5 : decode cX16_read 5 = .ok (.invokevirtual 20, 3) := dk_182 0 20 (dk_at dksX16_read_0 5 rfl rfl)
theorem dX16_read_8 : decode cX16_read 8 = .ok (.ifCond .eq 30, 3) := dk_153 0 30 (dk_at dksX16_read_0 8 rfl rfl)
theorem dX16_read_11 : decode cX16_read 11 = .ok (.aload_n 0, 1) := dk_42 (dk_at dksX16_read_0 11 rfl rfl)
theorem dX16_read_12 : decode cX16_read 12 = .ok (.invokevirtual 47, 3) := dk_182 0 47 (dk_at dksX16_read_0 12 rfl rfl)
theorem dX16_read_15 : decode cX16_read 15 = .ok (.ifCond .ne 23, 3) := dk_154 0 23 (dk_at dksX16_read_0 15 rfl rfl)
theorem dX16_read_18 : decode cX16_read 18 = .ok (.aload_n 0, 1) := dk_42 (dk_at dksX16_read_0 18 rfl rfl)
theorem dX16_read_19 : decode cX16_read 19 = .ok (.bipush 59, 2) := dk_16 59 (dk_at dksX16_read_0 19 rfl rfl)
theorem dX16_read_21 : decode cX16_read 21 = .ok (.invokevirtual 57, 3) := dk_182 0 57 (dk_at dksX16_read_0 21 rfl rfl)
theorem dX16_read_24 : decode cX16_read 24 = .ok (.aload_n 0, 1) := dk_42 (dk_at dksX16_read_1 0 rfl rfl)
theorem dX16_read_25 : decode cX16_read 25 = .ok (.invokevirtual 20, 3) := dk_182 0 20 (dk_at dksX16_read_1 1 rfl rfl)
theorem dX16_read_28 : decode cX16_read 28 = .ok (.ifCond .eq (-24), 3) := dk_153 255 232 (dk_at dksX16_read_1 4 rfl rfl)
theorem dX16_read_31 : decode cX16_read 31 = .ok (.aload_n 0, 1) := dk_42 (dk_at dksX16_read_1 7 rfl rfl)
theorem dX16_read_32 : decode cX16_read 32 = .ok (.invokevirtual 67, 3) := dk_182 0 67 (dk_at dksX16_read_1 8 rfl rfl)
theorem dX16_read_35 : decode cX16_read 35 = .ok (.goto (-31), 3) := dk_167 255 225 (dk_at dksX16_read_1 11 rfl rfl)
theorem dX16_read_38 : decode cX16_read 38 = .ok (.aload_n 0, 1) := dk_42 (dk_at dksX16_read_1 14 rfl rfl)
theorem dX16_read_39 : decode cX16_read 39 = .ok (.aload_n 0, 1) := dk_42 (dk_at dksX16_read_1 15 rfl rfl)
theorem dX16_read_40 : decode cX16_read 40 = .ok (.getfield 64, 3) := dk_180 0 64 (dk_at dksX16_read_1 16 rfl rfl)
theorem dX16_read_43 : decode cX16_read 43 = .ok (.invokevirtual 70, 3) := dk_182 0 70 (dk_at dksX16_read_1 19 rfl rfl)
theorem dX16_read_46 : decode cX16_read 46 = .ok (.ireturn, 1) := dk_172 (dk_at dksX16_read_1 22 rfl rfl)
abbrev cX16_line : ByteArray := prog_4_method_3_code
def yX16_line : MethodName := ⟨RX16, "line", "()V"⟩
def dkwX16_line_6 : List UInt8 := [96, 120, 128, 181, 0, 53, 42, 27, 28, 182, 0, 61, 42, 89, 180, 0, 64, 4, 96, 181, 0, 64, 177]
abbrev dktX16_line_6 : List UInt8 := dkwX16_line_6 ++ []
def dkwX16_line_5 : List UInt8 := [16, 61, 182, 0, 57, 42, 182, 0, 20, 154, 0, 4, 177, 42, 89, 180, 0, 53, 4, 16, 6, 27, 104, 28]
abbrev dktX16_line_5 : List UInt8 := dkwX16_line_5 ++ dktX16_line_6
def dkwX16_line_4 : List UInt8 := [96, 122, 4, 126, 4, 160, 0, 13, 42, 16, 6, 42, 182, 0, 24, 182, 0, 36, 42, 182, 0, 43, 42]
abbrev dktX16_line_4 : List UInt8 := dkwX16_line_4 ++ dktX16_line_5
def dkwX16_line_3 : List UInt8 := [4, 42, 182, 0, 24, 182, 0, 36, 42, 182, 0, 20, 153, 0, 30, 42, 180, 0, 53, 16, 6, 27, 104, 28]
abbrev dktX16_line_3 : List UInt8 := dkwX16_line_3 ++ dktX16_line_4
def dkwX16_line_2 : List UInt8 := [182, 0, 40, 16, 48, 100, 61, 42, 182, 0, 20, 153, 0, 21, 28, 16, 6, 184, 0, 50, 154, 0, 12, 42]
abbrev dktX16_line_2 : List UInt8 := dkwX16_line_2 ++ dktX16_line_3
def dkwX16_line_1 : List UInt8 := [42, 182, 0, 40, 16, 76, 159, 0, 12, 42, 4, 42, 182, 0, 24, 182, 0, 36, 42, 182, 0, 43, 42]
abbrev dktX16_line_1 : List UInt8 := dkwX16_line_1 ++ dktX16_line_2
def dkwX16_line_0 : List UInt8 := [42, 182, 0, 40, 16, 85, 160, 0, 7, 4, 167, 0, 4, 3, 60, 42, 182, 0, 40, 16, 85, 159, 0, 21]
abbrev dktX16_line_0 : List UInt8 := dkwX16_line_0 ++ dktX16_line_1
theorem dksX16_line_0 : cX16_line.data.toList.drop 0 = dktX16_line_0 := by decide +kernel
theorem dksX16_line_1 : cX16_line.data.toList.drop 24 = dktX16_line_1 := dk_seg dksX16_line_0 24 rfl rfl
theorem dksX16_line_2 : cX16_line.data.toList.drop 47 = dktX16_line_2 := dk_seg dksX16_line_1 23 rfl rfl
theorem dksX16_line_3 : cX16_line.data.toList.drop 71 = dktX16_line_3 := dk_seg dksX16_line_2 24 rfl rfl
theorem dksX16_line_4 : cX16_line.data.toList.drop 95 = dktX16_line_4 := dk_seg dksX16_line_3 24 rfl rfl
theorem dksX16_line_5 : cX16_line.data.toList.drop 118 = dktX16_line_5 := dk_seg dksX16_line_4 23 rfl rfl
theorem dksX16_line_6 : cX16_line.data.toList.drop 142 = dktX16_line_6 := dk_seg dksX16_line_5 24 rfl rfl
theorem dX16_line_0 : decode cX16_line 0 = .ok (.aload_n 0, 1) := dk_42 (dk_at dksX16_line_0 0 rfl rfl)
theorem dX16_line_1 : decode cX16_line 1 = .ok (.invokevirtual 40, 3) := dk_182 0 40 (dk_at dksX16_line_0 1 rfl rfl)
theorem dX16_line_4 : decode cX16_line 4 = .ok (.bipush 85, 2) := dk_16 85 (dk_at dksX16_line_0 4 rfl rfl)
theorem dX16_line_6 : decode cX16_line 6 = .ok (.if_icmp .ne 7, 3) := dk_160 0 7 (dk_at dksX16_line_0 6 rfl rfl)
theorem dX16_line_9 : decode cX16_line 9 = .ok (.iconst 1, 1) := dk_4 (dk_at dksX16_line_0 9 rfl rfl)
theorem dX16_line_10 : decode cX16_line 10 = .ok (.goto 4, 3) := dk_167 0 4 (dk_at dksX16_line_0 10 rfl rfl)
theorem dX16_line_13 : decode cX16_line 13 = .ok (.iconst 0, 1) := dk_3 (dk_at dksX16_line_0 13 rfl rfl)
theorem dX16_line_14 : decode cX16_line 14 = .ok (.istore_n 1, 1) := dk_60 (dk_at dksX16_line_0 14 rfl rfl)
theorem dX16_line_15 : decode cX16_line 15 = .ok (.aload_n 0, 1) := dk_42 (dk_at dksX16_line_0 15 rfl rfl)
theorem dX16_line_16 : decode cX16_line 16 = .ok (.invokevirtual 40, 3) := dk_182 0 40 (dk_at dksX16_line_0 16 rfl rfl)
theorem dX16_line_19 : decode cX16_line 19 = .ok (.bipush 85, 2) := dk_16 85 (dk_at dksX16_line_0 19 rfl rfl)
theorem dX16_line_21 : decode cX16_line 21 = .ok (.if_icmp .eq 21, 3) := dk_159 0 21 (dk_at dksX16_line_0 21 rfl rfl)
theorem dX16_line_24 : decode cX16_line 24 = .ok (.aload_n 0, 1) := dk_42 (dk_at dksX16_line_1 0 rfl rfl)
theorem dX16_line_25 : decode cX16_line 25 = .ok (.invokevirtual 40, 3) := dk_182 0 40 (dk_at dksX16_line_1 1 rfl rfl)
theorem dX16_line_28 : decode cX16_line 28 = .ok (.bipush 76, 2) := dk_16 76 (dk_at dksX16_line_1 4 rfl rfl)
theorem dX16_line_30 : decode cX16_line 30 = .ok (.if_icmp .eq 12, 3) := dk_159 0 12 (dk_at dksX16_line_1 6 rfl rfl)
theorem dX16_line_33 : decode cX16_line 33 = .ok (.aload_n 0, 1) := dk_42 (dk_at dksX16_line_1 9 rfl rfl)
theorem dX16_line_34 : decode cX16_line 34 = .ok (.iconst 1, 1) := dk_4 (dk_at dksX16_line_1 10 rfl rfl)
theorem dX16_line_35 : decode cX16_line 35 = .ok (.aload_n 0, 1) := dk_42 (dk_at dksX16_line_1 11 rfl rfl)
theorem dX16_line_36 : decode cX16_line 36 = .ok (.invokevirtual 24, 3) := dk_182 0 24 (dk_at dksX16_line_1 12 rfl rfl)
theorem dX16_line_39 : decode cX16_line 39 = .ok (.invokevirtual 36, 3) := dk_182 0 36 (dk_at dksX16_line_1 15 rfl rfl)
theorem dX16_line_42 : decode cX16_line 42 = .ok (.aload_n 0, 1) := dk_42 (dk_at dksX16_line_1 18 rfl rfl)
theorem dX16_line_43 : decode cX16_line 43 = .ok (.invokevirtual 43, 3) := dk_182 0 43 (dk_at dksX16_line_1 19 rfl rfl)
theorem dX16_line_46 : decode cX16_line 46 = .ok (.aload_n 0, 1) := dk_42 (dk_at dksX16_line_1 22 rfl rfl)
theorem dX16_line_47 : decode cX16_line 47 = .ok (.invokevirtual 40, 3) := dk_182 0 40 (dk_at dksX16_line_2 0 rfl rfl)
theorem dX16_line_50 : decode cX16_line 50 = .ok (.bipush 48, 2) := dk_16 48 (dk_at dksX16_line_2 3 rfl rfl)
theorem dX16_line_52 : decode cX16_line 52 = .ok (.isub, 1) := dk_100 (dk_at dksX16_line_2 5 rfl rfl)
theorem dX16_line_53 : decode cX16_line 53 = .ok (.istore_n 2, 1) := dk_61 (dk_at dksX16_line_2 6 rfl rfl)
theorem dX16_line_54 : decode cX16_line 54 = .ok (.aload_n 0, 1) := dk_42 (dk_at dksX16_line_2 7 rfl rfl)
theorem dX16_line_55 : decode cX16_line 55 = .ok (.invokevirtual 20, 3) := dk_182 0 20 (dk_at dksX16_line_2 8 rfl rfl)
theorem dX16_line_58 : decode cX16_line 58 = .ok (.ifCond .eq 21, 3) := dk_153 0 21 (dk_at dksX16_line_2 11 rfl rfl)
theorem dX16_line_61 : decode cX16_line 61 = .ok (.iload_n 2, 1) := dk_28 (dk_at dksX16_line_2 14 rfl rfl)
theorem dX16_line_62 : decode cX16_line 62 = .ok (.bipush 6, 2) := dk_16 6 (dk_at dksX16_line_2 15 rfl rfl)
theorem dX16_line_64 : decode cX16_line 64 = .ok (.invokestatic 50, 3) := dk_184 0 50 (dk_at dksX16_line_2 17 rfl rfl)
theorem dX16_line_67 : decode cX16_line 67 = .ok (.ifCond .ne 12, 3) := dk_154 0 12 (dk_at dksX16_line_2 20 rfl rfl)
theorem dX16_line_70 : decode cX16_line 70 = .ok (.aload_n 0, 1) := dk_42 (dk_at dksX16_line_2 23 rfl rfl)
theorem dX16_line_71 : decode cX16_line 71 = .ok (.iconst 1, 1) := dk_4 (dk_at dksX16_line_3 0 rfl rfl)
theorem dX16_line_72 : decode cX16_line 72 = .ok (.aload_n 0, 1) := dk_42 (dk_at dksX16_line_3 1 rfl rfl)
theorem dX16_line_73 : decode cX16_line 73 = .ok (.invokevirtual 24, 3) := dk_182 0 24 (dk_at dksX16_line_3 2 rfl rfl)
theorem dX16_line_76 : decode cX16_line 76 = .ok (.invokevirtual 36, 3) := dk_182 0 36 (dk_at dksX16_line_3 5 rfl rfl)
theorem dX16_line_79 : decode cX16_line 79 = .ok (.aload_n 0, 1) := dk_42 (dk_at dksX16_line_3 8 rfl rfl)
theorem dX16_line_80 : decode cX16_line 80 = .ok (.invokevirtual 20, 3) := dk_182 0 20 (dk_at dksX16_line_3 9 rfl rfl)
theorem dX16_line_83 : decode cX16_line 83 = .ok (.ifCond .eq 30, 3) := dk_153 0 30 (dk_at dksX16_line_3 12 rfl rfl)
theorem dX16_line_86 : decode cX16_line 86 = .ok (.aload_n 0, 1) := dk_42 (dk_at dksX16_line_3 15 rfl rfl)
theorem dX16_line_87 : decode cX16_line 87 = .ok (.getfield 53, 3) := dk_180 0 53 (dk_at dksX16_line_3 16 rfl rfl)
theorem dX16_line_90 : decode cX16_line 90 = .ok (.bipush 6, 2) := dk_16 6 (dk_at dksX16_line_3 19 rfl rfl)
theorem dX16_line_92 : decode cX16_line 92 = .ok (.iload_n 1, 1) := dk_27 (dk_at dksX16_line_3 21 rfl rfl)
theorem dX16_line_93 : decode cX16_line 93 = .ok (.imul, 1) := dk_104 (dk_at dksX16_line_3 22 rfl rfl)
theorem dX16_line_94 : decode cX16_line 94 = .ok (.iload_n 2, 1) := dk_28 (dk_at dksX16_line_3 23 rfl rfl)
theorem dX16_line_95 : decode cX16_line 95 = .ok (.iadd, 1) := dk_96 (dk_at dksX16_line_4 0 rfl rfl)
theorem dX16_line_96 : decode cX16_line 96 = .ok (.ishr, 1) := dk_122 (dk_at dksX16_line_4 1 rfl rfl)
theorem dX16_line_97 : decode cX16_line 97 = .ok (.iconst 1, 1) := dk_4 (dk_at dksX16_line_4 2 rfl rfl)
theorem dX16_line_98 : decode cX16_line 98 = .ok (.iand, 1) := dk_126 (dk_at dksX16_line_4 3 rfl rfl)
theorem dX16_line_99 : decode cX16_line 99 = .ok (.iconst 1, 1) := dk_4 (dk_at dksX16_line_4 4 rfl rfl)
theorem dX16_line_100 : decode cX16_line 100 = .ok (.if_icmp .ne 13, 3) := dk_160 0 13 (dk_at dksX16_line_4 5 rfl rfl)
theorem dX16_line_103 : decode cX16_line 103 = .ok (.aload_n 0, 1) := dk_42 (dk_at dksX16_line_4 8 rfl rfl)
theorem dX16_line_104 : decode cX16_line 104 = .ok (.bipush 6, 2) := dk_16 6 (dk_at dksX16_line_4 9 rfl rfl)
theorem dX16_line_106 : decode cX16_line 106 = .ok (.aload_n 0, 1) := dk_42 (dk_at dksX16_line_4 11 rfl rfl)
theorem dX16_line_107 : decode cX16_line 107 = .ok (.invokevirtual 24, 3) := dk_182 0 24 (dk_at dksX16_line_4 12 rfl rfl)
theorem dX16_line_110 : decode cX16_line 110 = .ok (.invokevirtual 36, 3) := dk_182 0 36 (dk_at dksX16_line_4 15 rfl rfl)
theorem dX16_line_113 : decode cX16_line 113 = .ok (.aload_n 0, 1) := dk_42 (dk_at dksX16_line_4 18 rfl rfl)
theorem dX16_line_114 : decode cX16_line 114 = .ok (.invokevirtual 43, 3) := dk_182 0 43 (dk_at dksX16_line_4 19 rfl rfl)
theorem dX16_line_117 : decode cX16_line 117 = .ok (.aload_n 0, 1) := dk_42 (dk_at dksX16_line_4 22 rfl rfl)
theorem dX16_line_118 : decode cX16_line 118 = .ok (.bipush 61, 2) := dk_16 61 (dk_at dksX16_line_5 0 rfl rfl)
theorem dX16_line_120 : decode cX16_line 120 = .ok (.invokevirtual 57, 3) := dk_182 0 57 (dk_at dksX16_line_5 2 rfl rfl)
theorem dX16_line_123 : decode cX16_line 123 = .ok (.aload_n 0, 1) := dk_42 (dk_at dksX16_line_5 5 rfl rfl)
theorem dX16_line_124 : decode cX16_line 124 = .ok (.invokevirtual 20, 3) := dk_182 0 20 (dk_at dksX16_line_5 6 rfl rfl)
theorem dX16_line_127 : decode cX16_line 127 = .ok (.ifCond .ne 4, 3) := dk_154 0 4 (dk_at dksX16_line_5 9 rfl rfl)
theorem dX16_line_130 : decode cX16_line 130 = .ok (.return_, 1) := dk_177 (dk_at dksX16_line_5 12 rfl rfl)
theorem dX16_line_131 : decode cX16_line 131 = .ok (.aload_n 0, 1) := dk_42 (dk_at dksX16_line_5 13 rfl rfl)
theorem dX16_line_132 : decode cX16_line 132 = .ok (.dup, 1) := dk_89 (dk_at dksX16_line_5 14 rfl rfl)
theorem dX16_line_133 : decode cX16_line 133 = .ok (.getfield 53, 3) := dk_180 0 53 (dk_at dksX16_line_5 15 rfl rfl)
theorem dX16_line_136 : decode cX16_line 136 = .ok (.iconst 1, 1) := dk_4 (dk_at dksX16_line_5 18 rfl rfl)
theorem dX16_line_137 : decode cX16_line 137 = .ok (.bipush 6, 2) := dk_16 6 (dk_at dksX16_line_5 19 rfl rfl)
theorem dX16_line_139 : decode cX16_line 139 = .ok (.iload_n 1, 1) := dk_27 (dk_at dksX16_line_5 21 rfl rfl)
theorem dX16_line_140 : decode cX16_line 140 = .ok (.imul, 1) := dk_104 (dk_at dksX16_line_5 22 rfl rfl)
theorem dX16_line_141 : decode cX16_line 141 = .ok (.iload_n 2, 1) := dk_28 (dk_at dksX16_line_5 23 rfl rfl)
theorem dX16_line_142 : decode cX16_line 142 = .ok (.iadd, 1) := dk_96 (dk_at dksX16_line_6 0 rfl rfl)
theorem dX16_line_143 : decode cX16_line 143 = .ok (.ishl, 1) := dk_120 (dk_at dksX16_line_6 1 rfl rfl)
theorem dX16_line_144 : decode cX16_line 144 = .ok (.ior, 1) := dk_128 (dk_at dksX16_line_6 2 rfl rfl)
theorem dX16_line_145 : decode cX16_line 145 = .ok (.putfield 53, 3) := dk_181 0 53 (dk_at dksX16_line_6 3 rfl rfl)
theorem dX16_line_148 : decode cX16_line 148 = .ok (.aload_n 0, 1) := dk_42 (dk_at dksX16_line_6 6 rfl rfl)
theorem dX16_line_149 : decode cX16_line 149 = .ok (.iload_n 1, 1) := dk_27 (dk_at dksX16_line_6 7 rfl rfl)
theorem dX16_line_150 : decode cX16_line 150 = .ok (.iload_n 2, 1) := dk_28 (dk_at dksX16_line_6 8 rfl rfl)
theorem dX16_line_151 : decode cX16_line 151 = .ok (.invokevirtual 61, 3) := dk_182 0 61 (dk_at dksX16_line_6 9 rfl rfl)
theorem dX16_line_154 : decode cX16_line 154 = .ok (.aload_n 0, 1) := dk_42 (dk_at dksX16_line_6 12 rfl rfl)
theorem dX16_line_155 : decode cX16_line 155 = .ok (.dup, 1) := dk_89 (dk_at dksX16_line_6 13 rfl rfl)
theorem dX16_line_156 : decode cX16_line 156 = .ok (.getfield 64, 3) := dk_180 0 64 (dk_at dksX16_line_6 14 rfl rfl)
theorem dX16_line_159 : decode cX16_line 159 = .ok (.iconst 1, 1) := dk_4 (dk_at dksX16_line_6 17 rfl rfl)
theorem dX16_line_160 : decode cX16_line 160 = .ok (.iadd, 1) := dk_96 (dk_at dksX16_line_6 18 rfl rfl)
theorem dX16_line_161 : decode cX16_line 161 = .ok (.putfield 64, 3) := dk_181 0 64 (dk_at dksX16_line_6 19 rfl rfl)
theorem dX16_line_164 : decode cX16_line 164 = .ok (.return_, 1) := dk_177 (dk_at dksX16_line_6 22 rfl rfl)
abbrev cX16_heights : ByteArray := prog_4_method_2_code
def yX16_heights : MethodName := ⟨RX16, "heights", "(II)V"⟩
def dkwX16_heights_6 : List UInt8 := [159, 0, 7, 4, 167, 0, 4, 3, 54, 4, 167, 255, 118, 177]
abbrev dktX16_heights_6 : List UInt8 := dkwX16_heights_6 ++ []
def dkwX16_heights_5 : List UInt8 := [182, 0, 43, 42, 182, 0, 20, 153, 0, 23, 42, 182, 0, 47, 154, 0, 16, 42, 182, 0, 40, 16, 59]
abbrev dktX16_heights_5 : List UInt8 := dkwX16_heights_5 ++ dktX16_heights_6
def dkwX16_heights_4 : List UInt8 := [28, 104, 29, 96, 42, 182, 0, 40, 16, 97, 100, 79, 132, 3, 1, 132, 7, 1, 167, 255, 216, 42]
abbrev dktX16_heights_4 : List UInt8 := dkwX16_heights_4 ++ dktX16_heights_5
def dkwX16_heights_3 : List UInt8 := [54, 7, 21, 7, 21, 6, 162, 0, 39, 42, 182, 0, 20, 153, 0, 32, 42, 180, 0, 17, 27, 50, 16, 8]
abbrev dktX16_heights_3 : List UInt8 := dkwX16_heights_3 ++ dktX16_heights_4
def dkwX16_heights_2 : List UInt8 := [182, 0, 36, 167, 0, 19, 29, 21, 6, 96, 16, 8, 164, 0, 10, 42, 7, 21, 5, 182, 0, 36, 3]
abbrev dktX16_heights_2 : List UInt8 := dkwX16_heights_2 ++ dktX16_heights_3
def dkwX16_heights_1 : List UInt8 := [182, 0, 28, 54, 6, 42, 16, 97, 16, 122, 182, 0, 32, 154, 0, 15, 42, 4, 42, 182, 0, 24]
abbrev dktX16_heights_1 : List UInt8 := dkwX16_heights_1 ++ dktX16_heights_2
def dkwX16_heights_0 : List UInt8 := [3, 62, 42, 182, 0, 20, 54, 4, 21, 4, 153, 0, 139, 42, 182, 0, 24, 54, 5, 42, 16, 56]
abbrev dktX16_heights_0 : List UInt8 := dkwX16_heights_0 ++ dktX16_heights_1
theorem dksX16_heights_0 : cX16_heights.data.toList.drop 0 = dktX16_heights_0 := by decide +kernel
theorem dksX16_heights_1 : cX16_heights.data.toList.drop 22 = dktX16_heights_1 := dk_seg dksX16_heights_0 22 rfl rfl
theorem dksX16_heights_2 : cX16_heights.data.toList.drop 44 = dktX16_heights_2 := dk_seg dksX16_heights_1 22 rfl rfl
theorem dksX16_heights_3 : cX16_heights.data.toList.drop 67 = dktX16_heights_3 := dk_seg dksX16_heights_2 23 rfl rfl
theorem dksX16_heights_4 : cX16_heights.data.toList.drop 91 = dktX16_heights_4 := dk_seg dksX16_heights_3 24 rfl rfl
theorem dksX16_heights_5 : cX16_heights.data.toList.drop 113 = dktX16_heights_5 := dk_seg dksX16_heights_4 22 rfl rfl
theorem dksX16_heights_6 : cX16_heights.data.toList.drop 136 = dktX16_heights_6 := dk_seg dksX16_heights_5 23 rfl rfl
theorem dX16_heights_0 : decode cX16_heights 0 = .ok (.iconst 0, 1) := dk_3 (dk_at dksX16_heights_0 0 rfl rfl)
theorem dX16_heights_1 : decode cX16_heights 1 = .ok (.istore_n 3, 1) := dk_62 (dk_at dksX16_heights_0 1 rfl rfl)
theorem dX16_heights_2 : decode cX16_heights 2 = .ok (.aload_n 0, 1) := dk_42 (dk_at dksX16_heights_0 2 rfl rfl)
theorem dX16_heights_3 : decode cX16_heights 3 = .ok (.invokevirtual 20, 3) := dk_182 0 20 (dk_at dksX16_heights_0 3 rfl rfl)
theorem dX16_heights_6 : decode cX16_heights 6 = .ok (.istore 4, 2) := dk_54 4 (dk_at dksX16_heights_0 6 rfl rfl)
theorem dX16_heights_8 : decode cX16_heights 8 = .ok (.iload 4, 2) := dk_21 4 (dk_at dksX16_heights_0 8 rfl rfl)
theorem dX16_heights_10 : decode cX16_heights 10 = .ok (.ifCond .eq 139, 3) := dk_153 0 139 (dk_at dksX16_heights_0 10 rfl rfl)
theorem dX16_heights_13 : decode cX16_heights 13 = .ok (.aload_n 0, 1) := dk_42 (dk_at dksX16_heights_0 13 rfl rfl)
theorem dX16_heights_14 : decode cX16_heights 14 = .ok (.invokevirtual 24, 3) := dk_182 0 24 (dk_at dksX16_heights_0 14 rfl rfl)
theorem dX16_heights_17 : decode cX16_heights 17 = .ok (.istore 5, 2) := dk_54 5 (dk_at dksX16_heights_0 17 rfl rfl)
theorem dX16_heights_19 : decode cX16_heights 19 = .ok (.aload_n 0, 1) := dk_42 (dk_at dksX16_heights_0 19 rfl rfl)
theorem dX16_heights_20 : decode cX16_heights 20 = .ok (.bipush 56, 2) := dk_16 56 (dk_at dksX16_heights_0 20 rfl rfl)
theorem dX16_heights_22 : decode cX16_heights 22 = .ok (.invokevirtual 28, 3) := dk_182 0 28 (dk_at dksX16_heights_1 0 rfl rfl)
theorem dX16_heights_25 : decode cX16_heights 25 = .ok (.istore 6, 2) := dk_54 6 (dk_at dksX16_heights_1 3 rfl rfl)
theorem dX16_heights_27 : decode cX16_heights 27 = .ok (.aload_n 0, 1) := dk_42 (dk_at dksX16_heights_1 5 rfl rfl)
theorem dX16_heights_28 : decode cX16_heights 28 = .ok (.bipush 97, 2) := dk_16 97 (dk_at dksX16_heights_1 6 rfl rfl)
theorem dX16_heights_30 : decode cX16_heights 30 = .ok (.bipush 122, 2) := dk_16 122 (dk_at dksX16_heights_1 8 rfl rfl)
theorem dX16_heights_32 : decode cX16_heights 32 = .ok (.invokevirtual 32, 3) := dk_182 0 32 (dk_at dksX16_heights_1 10 rfl rfl)
theorem dX16_heights_35 : decode cX16_heights 35 = .ok (.ifCond .ne 15, 3) := dk_154 0 15 (dk_at dksX16_heights_1 13 rfl rfl)
theorem dX16_heights_38 : decode cX16_heights 38 = .ok (.aload_n 0, 1) := dk_42 (dk_at dksX16_heights_1 16 rfl rfl)
theorem dX16_heights_39 : decode cX16_heights 39 = .ok (.iconst 1, 1) := dk_4 (dk_at dksX16_heights_1 17 rfl rfl)
theorem dX16_heights_40 : decode cX16_heights 40 = .ok (.aload_n 0, 1) := dk_42 (dk_at dksX16_heights_1 18 rfl rfl)
theorem dX16_heights_41 : decode cX16_heights 41 = .ok (.invokevirtual 24, 3) := dk_182 0 24 (dk_at dksX16_heights_1 19 rfl rfl)
theorem dX16_heights_44 : decode cX16_heights 44 = .ok (.invokevirtual 36, 3) := dk_182 0 36 (dk_at dksX16_heights_2 0 rfl rfl)
theorem dX16_heights_47 : decode cX16_heights 47 = .ok (.goto 19, 3) := dk_167 0 19 (dk_at dksX16_heights_2 3 rfl rfl)
theorem dX16_heights_50 : decode cX16_heights 50 = .ok (.iload_n 3, 1) := dk_29 (dk_at dksX16_heights_2 6 rfl rfl)
theorem dX16_heights_51 : decode cX16_heights 51 = .ok (.iload 6, 2) := dk_21 6 (dk_at dksX16_heights_2 7 rfl rfl)
theorem dX16_heights_53 : decode cX16_heights 53 = .ok (.iadd, 1) := dk_96 (dk_at dksX16_heights_2 9 rfl rfl)
theorem dX16_heights_54 : decode cX16_heights 54 = .ok (.bipush 8, 2) := dk_16 8 (dk_at dksX16_heights_2 10 rfl rfl)
theorem dX16_heights_56 : decode cX16_heights 56 = .ok (.if_icmp .le 10, 3) := dk_164 0 10 (dk_at dksX16_heights_2 12 rfl rfl)
theorem dX16_heights_59 : decode cX16_heights 59 = .ok (.aload_n 0, 1) := dk_42 (dk_at dksX16_heights_2 15 rfl rfl)
theorem dX16_heights_60 : decode cX16_heights 60 = .ok (.iconst 4, 1) := dk_7 (dk_at dksX16_heights_2 16 rfl rfl)
theorem dX16_heights_61 : decode cX16_heights 61 = .ok (.iload 5, 2) := dk_21 5 (dk_at dksX16_heights_2 17 rfl rfl)
theorem dX16_heights_63 : decode cX16_heights 63 = .ok (.invokevirtual 36, 3) := dk_182 0 36 (dk_at dksX16_heights_2 19 rfl rfl)
theorem dX16_heights_66 : decode cX16_heights 66 = .ok (.iconst 0, 1) := dk_3 (dk_at dksX16_heights_2 22 rfl rfl)
theorem dX16_heights_67 : decode cX16_heights 67 = .ok (.istore 7, 2) := dk_54 7 (dk_at dksX16_heights_3 0 rfl rfl)
theorem dX16_heights_69 : decode cX16_heights 69 = .ok (.iload 7, 2) := dk_21 7 (dk_at dksX16_heights_3 2 rfl rfl)
theorem dX16_heights_71 : decode cX16_heights 71 = .ok (.iload 6, 2) := dk_21 6 (dk_at dksX16_heights_3 4 rfl rfl)
theorem dX16_heights_73 : decode cX16_heights 73 = .ok (.if_icmp .ge 39, 3) := dk_162 0 39 (dk_at dksX16_heights_3 6 rfl rfl)
theorem dX16_heights_76 : decode cX16_heights 76 = .ok (.aload_n 0, 1) := dk_42 (dk_at dksX16_heights_3 9 rfl rfl)
theorem dX16_heights_77 : decode cX16_heights 77 = .ok (.invokevirtual 20, 3) := dk_182 0 20 (dk_at dksX16_heights_3 10 rfl rfl)
theorem dX16_heights_80 : decode cX16_heights 80 = .ok (.ifCond .eq 32, 3) := dk_153 0 32 (dk_at dksX16_heights_3 13 rfl rfl)
theorem dX16_heights_83 : decode cX16_heights 83 = .ok (.aload_n 0, 1) := dk_42 (dk_at dksX16_heights_3 16 rfl rfl)
theorem dX16_heights_84 : decode cX16_heights 84 = .ok (.getfield 17, 3) := dk_180 0 17 (dk_at dksX16_heights_3 17 rfl rfl)
theorem dX16_heights_87 : decode cX16_heights 87 = .ok (.iload_n 1, 1) := dk_27 (dk_at dksX16_heights_3 20 rfl rfl)
theorem dX16_heights_88 : decode cX16_heights 88 = .ok (.aaload, 1) := dk_50 (dk_at dksX16_heights_3 21 rfl rfl)
theorem dX16_heights_89 : decode cX16_heights 89 = .ok (.bipush 8, 2) := dk_16 8 (dk_at dksX16_heights_3 22 rfl rfl)
theorem dX16_heights_91 : decode cX16_heights 91 = .ok (.iload_n 2, 1) := dk_28 (dk_at dksX16_heights_4 0 rfl rfl)
theorem dX16_heights_92 : decode cX16_heights 92 = .ok (.imul, 1) := dk_104 (dk_at dksX16_heights_4 1 rfl rfl)
theorem dX16_heights_93 : decode cX16_heights 93 = .ok (.iload_n 3, 1) := dk_29 (dk_at dksX16_heights_4 2 rfl rfl)
theorem dX16_heights_94 : decode cX16_heights 94 = .ok (.iadd, 1) := dk_96 (dk_at dksX16_heights_4 3 rfl rfl)
theorem dX16_heights_95 : decode cX16_heights 95 = .ok (.aload_n 0, 1) := dk_42 (dk_at dksX16_heights_4 4 rfl rfl)
theorem dX16_heights_96 : decode cX16_heights 96 = .ok (.invokevirtual 40, 3) := dk_182 0 40 (dk_at dksX16_heights_4 5 rfl rfl)
theorem dX16_heights_99 : decode cX16_heights 99 = .ok (.bipush 97, 2) := dk_16 97 (dk_at dksX16_heights_4 8 rfl rfl)
theorem dX16_heights_101 : decode cX16_heights 101 = .ok (.isub, 1) := dk_100 (dk_at dksX16_heights_4 10 rfl rfl)
theorem dX16_heights_102 : decode cX16_heights 102 = .ok (.iastore, 1) := dk_79 (dk_at dksX16_heights_4 11 rfl rfl)
theorem dX16_heights_103 : decode cX16_heights 103 = .ok (.iinc 3 1, 3) := dk_132 3 1 (dk_at dksX16_heights_4 12 rfl rfl)
theorem dX16_heights_106 : decode cX16_heights 106 = .ok (.iinc 7 1, 3) := dk_132 7 1 (dk_at dksX16_heights_4 15 rfl rfl)
theorem dX16_heights_109 : decode cX16_heights 109 = .ok (.goto (-40), 3) := dk_167 255 216 (dk_at dksX16_heights_4 18 rfl rfl)
theorem dX16_heights_112 : decode cX16_heights 112 = .ok (.aload_n 0, 1) := dk_42 (dk_at dksX16_heights_4 21 rfl rfl)
theorem dX16_heights_113 : decode cX16_heights 113 = .ok (.invokevirtual 43, 3) := dk_182 0 43 (dk_at dksX16_heights_5 0 rfl rfl)
theorem dX16_heights_116 : decode cX16_heights 116 = .ok (.aload_n 0, 1) := dk_42 (dk_at dksX16_heights_5 3 rfl rfl)
theorem dX16_heights_117 : decode cX16_heights 117 = .ok (.invokevirtual 20, 3) := dk_182 0 20 (dk_at dksX16_heights_5 4 rfl rfl)
theorem dX16_heights_120 : decode cX16_heights 120 = .ok (.ifCond .eq 23, 3) := dk_153 0 23 (dk_at dksX16_heights_5 7 rfl rfl)
theorem dX16_heights_123 : decode cX16_heights 123 = .ok (.aload_n 0, 1) := dk_42 (dk_at dksX16_heights_5 10 rfl rfl)
theorem dX16_heights_124 : decode cX16_heights 124 = .ok (.invokevirtual 47, 3) := dk_182 0 47 (dk_at dksX16_heights_5 11 rfl rfl)
theorem dX16_heights_127 : decode cX16_heights 127 = .ok (.ifCond .ne 16, 3) := dk_154 0 16 (dk_at dksX16_heights_5 14 rfl rfl)
theorem dX16_heights_130 : decode cX16_heights 130 = .ok (.aload_n 0, 1) := dk_42 (dk_at dksX16_heights_5 17 rfl rfl)
theorem dX16_heights_131 : decode cX16_heights 131 = .ok (.invokevirtual 40, 3) := dk_182 0 40 (dk_at dksX16_heights_5 18 rfl rfl)
theorem dX16_heights_134 : decode cX16_heights 134 = .ok (.bipush 59, 2) := dk_16 59 (dk_at dksX16_heights_5 21 rfl rfl)
theorem dX16_heights_136 : decode cX16_heights 136 = .ok (.if_icmp .eq 7, 3) := dk_159 0 7 (dk_at dksX16_heights_6 0 rfl rfl)
theorem dX16_heights_139 : decode cX16_heights 139 = .ok (.iconst 1, 1) := dk_4 (dk_at dksX16_heights_6 3 rfl rfl)
theorem dX16_heights_140 : decode cX16_heights 140 = .ok (.goto 4, 3) := dk_167 0 4 (dk_at dksX16_heights_6 4 rfl rfl)
theorem dX16_heights_143 : decode cX16_heights 143 = .ok (.iconst 0, 1) := dk_3 (dk_at dksX16_heights_6 7 rfl rfl)
theorem dX16_heights_144 : decode cX16_heights 144 = .ok (.istore 4, 2) := dk_54 4 (dk_at dksX16_heights_6 8 rfl rfl)
theorem dX16_heights_146 : decode cX16_heights 146 = .ok (.goto (-138), 3) := dk_167 255 118 (dk_at dksX16_heights_6 10 rfl rfl)
theorem dX16_heights_149 : decode cX16_heights 149 = .ok (.return_, 1) := dk_177 (dk_at dksX16_heights_6 13 rfl rfl)
theorem q139 : (Jvm.Cond.initialized "HighSpots$Caster") ∈ lw_all := lw_g (lw_at lw_m1 23 rfl) rfl
theorem q606 : (Jvm.Cond.instantiable "HighSpots$Caster" (9 : Nat)) ∈ lw_all := lw_g (lw_at lw_m3 10 rfl) rfl
theorem q608 : (Jvm.Cond.instanceMethod ({ cls := "HighSpots$Caster", name := "<init>", desc := "(LHighSpots;I)V" } : Jvm.MethodName)) ∈ lw_all := lw_g (lw_at lw_m3 12 rfl) rfl
theorem q609 : (Jvm.Cond.code ({ cls := "HighSpots$Caster", name := "<init>", desc := "(LHighSpots;I)V" } : Jvm.MethodName) prog_4_method_1_code (3 : Nat) (Option.none : Option Jvm.ClassFile.FieldType)) ∈ lw_all := lw_g (lw_at lw_m3 13 rfl) rfl
theorem q610 : (Jvm.Cond.methodLink "HighSpots$Caster" (9 : Nat) ({ cls := "HighSpots$Scribe", name := "<init>", desc := "(LHighSpots;I)V" } : Jvm.MethodName)) ∈ lw_all := lw_g (lw_at lw_m3 14 rfl) rfl
theorem q614 : (Jvm.Cond.classLink "HighSpots$Caster" (15 : Nat) "[[I") ∈ lw_all := lw_g (lw_at lw_m3 18 rfl) rfl
theorem q615 : (Jvm.Cond.fieldLink "HighSpots$Caster" (17 : Nat) "HighSpots$Caster" "trial" "[[I") ∈ lw_all := lw_g (lw_at lw_m3 19 rfl) rfl
theorem q617 : (Jvm.Cond.fieldLink "HighSpots$Caster" (53 : Nat) "HighSpots$Caster" "told" "I") ∈ lw_all := lw_g (lw_at lw_m3 21 rfl) rfl
theorem q618 : (Jvm.Cond.fieldLink "HighSpots$Caster" (64 : Nat) "HighSpots$Caster" "lines" "I") ∈ lw_all := lw_g (lw_at lw_m3 22 rfl) rfl
theorem q619 : (Jvm.Cond.fieldLink "HighSpots$Caster" (3 : Nat) "HighSpots$Caster" "this$0" "LHighSpots;") ∈ lw_all := lw_g (lw_at lw_m3 23 rfl) rfl
theorem q625 : (Jvm.Cond.laysFinal "HighSpots$Caster" "HighSpots$Caster" "trial" "[[I") ∈ lw_all := lw_g (lw_at lw_m3 29 rfl) rfl
theorem q626 : (Jvm.Cond.soleField "HighSpots$Caster" "trial") ∈ lw_all := lw_g (lw_at lw_m3 30 rfl) rfl
theorem q627 : (Jvm.Cond.lays "HighSpots$Caster" "HighSpots$Caster" "told" "I") ∈ lw_all := lw_g (lw_at lw_m3 31 rfl) rfl
theorem q628 : (Jvm.Cond.soleField "HighSpots$Caster" "told") ∈ lw_all := lw_g (lw_at lw_m3 32 rfl) rfl
theorem q629 : (Jvm.Cond.lays "HighSpots$Caster" "HighSpots$Caster" "lines" "I") ∈ lw_all := lw_g (lw_at lw_m3 33 rfl) rfl
theorem q630 : (Jvm.Cond.soleField "HighSpots$Caster" "lines") ∈ lw_all := lw_g (lw_at lw_m3 34 rfl) rfl
theorem q631 : (Jvm.Cond.laysFinal "HighSpots$Caster" "HighSpots$Caster" "this$0" "LHighSpots;") ∈ lw_all := lw_g (lw_at lw_m3 35 rfl) rfl
theorem q632 : (Jvm.Cond.soleField "HighSpots$Caster" "this$0") ∈ lw_all := lw_g (lw_at lw_m3 36 rfl) rfl
theorem q633 : (Jvm.Cond.laysFinal "HighSpots$Caster" "HighSpots$Scribe" "n" "I") ∈ lw_all := lw_g (lw_at lw_m3 37 rfl) rfl
theorem q635 : (Jvm.Cond.lays "HighSpots$Caster" "HighSpots$Scribe" "at" "I") ∈ lw_all := lw_g (lw_at lw_m3 39 rfl) rfl
theorem q637 : (Jvm.Cond.lays "HighSpots$Caster" "HighSpots$Scribe" "fault" "I") ∈ lw_all := lw_g (lw_at lw_m3 41 rfl) rfl
theorem q639 : (Jvm.Cond.lays "HighSpots$Caster" "HighSpots$Scribe" "place" "I") ∈ lw_all := lw_g (lw_at lw_m3 43 rfl) rfl
theorem q641 : (Jvm.Cond.laysFinal "HighSpots$Caster" "HighSpots$Scribe" "this$0" "LHighSpots;") ∈ lw_all := lw_g (lw_at lw_m3 45 rfl) rfl
theorem q643 : (Jvm.Cond.superclass "HighSpots$Caster" "HighSpots$Scribe") ∈ lw_all := lw_g (lw_at lw_m3 47 rfl) rfl
theorem q645 : (Jvm.Cond.instanceMethod ({ cls := "HighSpots$Caster", name := "read", desc := "()I" } : Jvm.MethodName)) ∈ lw_all := lw_g (lw_at lw_m3 49 rfl) rfl
theorem q646 : (Jvm.Cond.selects "HighSpots$Caster" ({ cls := "HighSpots$Caster", name := "read", desc := "()I" } : Jvm.MethodName) ({ cls := "HighSpots$Caster", name := "read", desc := "()I" } : Jvm.MethodName)) ∈ lw_all := lw_g (lw_at lw_m3 50 rfl) rfl
theorem q647 : (Jvm.Cond.code ({ cls := "HighSpots$Caster", name := "read", desc := "()I" } : Jvm.MethodName) prog_4_method_4_code (1 : Nat) (Option.some Jvm.ClassFile.FieldType.int)) ∈ lw_all := lw_g (lw_at lw_m3 51 rfl) rfl
theorem q648 : (Jvm.Cond.methodLink "HighSpots$Caster" (67 : Nat) ({ cls := "HighSpots$Caster", name := "line", desc := "()V" } : Jvm.MethodName)) ∈ lw_all := lw_g (lw_at lw_m3 52 rfl) rfl
theorem q649 : (Jvm.Cond.privateMethod ({ cls := "HighSpots$Caster", name := "line", desc := "()V" } : Jvm.MethodName)) ∈ lw_tbl := lw_at lw_m3 53 rfl
theorem q650 : (Jvm.Cond.instanceMethod ({ cls := "HighSpots$Caster", name := "line", desc := "()V" } : Jvm.MethodName)) ∈ lw_all := lw_g (lw_at lw_m3 54 rfl) rfl
theorem q651 : (Jvm.Cond.code ({ cls := "HighSpots$Caster", name := "line", desc := "()V" } : Jvm.MethodName) prog_4_method_3_code (3 : Nat) (Option.none : Option Jvm.ClassFile.FieldType)) ∈ lw_all := lw_g (lw_at lw_m3 55 rfl) rfl
theorem q652 : (Jvm.Cond.methodLink "HighSpots$Caster" (40 : Nat) ({ cls := "HighSpots$Caster", name := "here", desc := "()I" } : Jvm.MethodName)) ∈ lw_all := lw_g (lw_at lw_m3 56 rfl) rfl
theorem q653 : (Jvm.Cond.sameMethod "HighSpots$Caster" "HighSpots$Scribe" "here" "()I") ∈ lw_all := lw_g (lw_at lw_m3 57 rfl) rfl
theorem q655 : (Jvm.Cond.selects "HighSpots$Caster" ({ cls := "HighSpots$Caster", name := "here", desc := "()I" } : Jvm.MethodName) ({ cls := "HighSpots$Scribe", name := "here", desc := "()I" } : Jvm.MethodName)) ∈ lw_all := lw_g (lw_at lw_m3 59 rfl) rfl
theorem q658 : (Jvm.Cond.methodLink "HighSpots$Caster" (24 : Nat) ({ cls := "HighSpots$Caster", name := "place", desc := "()I" } : Jvm.MethodName)) ∈ lw_all := lw_g (lw_at lw_m3 62 rfl) rfl
theorem q659 : (Jvm.Cond.sameMethod "HighSpots$Caster" "HighSpots$Scribe" "place" "()I") ∈ lw_all := lw_g (lw_at lw_m3 63 rfl) rfl
theorem q661 : (Jvm.Cond.selects "HighSpots$Caster" ({ cls := "HighSpots$Caster", name := "place", desc := "()I" } : Jvm.MethodName) ({ cls := "HighSpots$Scribe", name := "place", desc := "()I" } : Jvm.MethodName)) ∈ lw_all := lw_g (lw_at lw_m3 65 rfl) rfl
theorem q664 : (Jvm.Cond.methodLink "HighSpots$Caster" (36 : Nat) ({ cls := "HighSpots$Caster", name := "bad", desc := "(II)V" } : Jvm.MethodName)) ∈ lw_all := lw_g (lw_at lw_m3 68 rfl) rfl
theorem q665 : (Jvm.Cond.sameMethod "HighSpots$Caster" "HighSpots$Scribe" "bad" "(II)V") ∈ lw_all := lw_g (lw_at lw_m3 69 rfl) rfl
theorem q667 : (Jvm.Cond.selects "HighSpots$Caster" ({ cls := "HighSpots$Caster", name := "bad", desc := "(II)V" } : Jvm.MethodName) ({ cls := "HighSpots$Scribe", name := "bad", desc := "(II)V" } : Jvm.MethodName)) ∈ lw_all := lw_g (lw_at lw_m3 71 rfl) rfl
theorem q670 : (Jvm.Cond.methodLink "HighSpots$Caster" (43 : Nat) ({ cls := "HighSpots$Caster", name := "goesOn", desc := "()V" } : Jvm.MethodName)) ∈ lw_all := lw_g (lw_at lw_m3 74 rfl) rfl
theorem q671 : (Jvm.Cond.sameMethod "HighSpots$Caster" "HighSpots$Scribe" "goesOn" "()V") ∈ lw_all := lw_g (lw_at lw_m3 75 rfl) rfl
theorem q673 : (Jvm.Cond.selects "HighSpots$Caster" ({ cls := "HighSpots$Caster", name := "goesOn", desc := "()V" } : Jvm.MethodName) ({ cls := "HighSpots$Scribe", name := "goesOn", desc := "()V" } : Jvm.MethodName)) ∈ lw_all := lw_g (lw_at lw_m3 77 rfl) rfl
theorem q676 : (Jvm.Cond.methodLink "HighSpots$Caster" (20 : Nat) ({ cls := "HighSpots$Caster", name := "isGood", desc := "()Z" } : Jvm.MethodName)) ∈ lw_all := lw_g (lw_at lw_m3 80 rfl) rfl
theorem q677 : (Jvm.Cond.sameMethod "HighSpots$Caster" "HighSpots$Scribe" "isGood" "()Z") ∈ lw_all := lw_g (lw_at lw_m3 81 rfl) rfl
theorem q679 : (Jvm.Cond.selects "HighSpots$Caster" ({ cls := "HighSpots$Caster", name := "isGood", desc := "()Z" } : Jvm.MethodName) ({ cls := "HighSpots$Scribe", name := "isGood", desc := "()Z" } : Jvm.MethodName)) ∈ lw_all := lw_g (lw_at lw_m3 83 rfl) rfl
theorem q682 : (Jvm.Cond.methodLinkNest "HighSpots$Caster" (50 : Nat) ({ cls := "HighSpots", name := "in", desc := "(II)Z" } : Jvm.MethodName) "HighSpots") ∈ lw_tbl := lw_at lw_m3 86 rfl
theorem q683 : (Jvm.Cond.methodLink "HighSpots$Caster" (57 : Nat) ({ cls := "HighSpots$Caster", name := "must", desc := "(I)V" } : Jvm.MethodName)) ∈ lw_all := lw_g (lw_at lw_m3 87 rfl) rfl
theorem q684 : (Jvm.Cond.sameMethod "HighSpots$Caster" "HighSpots$Scribe" "must" "(I)V") ∈ lw_all := lw_g (lw_at lw_m3 88 rfl) rfl
theorem q686 : (Jvm.Cond.selects "HighSpots$Caster" ({ cls := "HighSpots$Caster", name := "must", desc := "(I)V" } : Jvm.MethodName) ({ cls := "HighSpots$Scribe", name := "must", desc := "(I)V" } : Jvm.MethodName)) ∈ lw_all := lw_g (lw_at lw_m3 90 rfl) rfl
theorem q692 : (Jvm.Cond.methodLink "HighSpots$Caster" (61 : Nat) ({ cls := "HighSpots$Caster", name := "heights", desc := "(II)V" } : Jvm.MethodName)) ∈ lw_all := lw_g (lw_at lw_m3 96 rfl) rfl
theorem q693 : (Jvm.Cond.privateMethod ({ cls := "HighSpots$Caster", name := "heights", desc := "(II)V" } : Jvm.MethodName)) ∈ lw_tbl := lw_at lw_m3 97 rfl
theorem q694 : (Jvm.Cond.instanceMethod ({ cls := "HighSpots$Caster", name := "heights", desc := "(II)V" } : Jvm.MethodName)) ∈ lw_all := lw_g (lw_at lw_m3 98 rfl) rfl
theorem q695 : (Jvm.Cond.code ({ cls := "HighSpots$Caster", name := "heights", desc := "(II)V" } : Jvm.MethodName) prog_4_method_2_code (8 : Nat) (Option.none : Option Jvm.ClassFile.FieldType)) ∈ lw_all := lw_g (lw_at lw_m3 99 rfl) rfl
theorem q696 : (Jvm.Cond.methodLink "HighSpots$Caster" (28 : Nat) ({ cls := "HighSpots$Caster", name := "times", desc := "(I)I" } : Jvm.MethodName)) ∈ lw_all := lw_g (lw_at lw_m3 100 rfl) rfl
theorem q697 : (Jvm.Cond.sameMethod "HighSpots$Caster" "HighSpots$Scribe" "times" "(I)I") ∈ lw_all := lw_g (lw_at lw_m3 101 rfl) rfl
theorem q699 : (Jvm.Cond.selects "HighSpots$Caster" ({ cls := "HighSpots$Caster", name := "times", desc := "(I)I" } : Jvm.MethodName) ({ cls := "HighSpots$Scribe", name := "times", desc := "(I)I" } : Jvm.MethodName)) ∈ lw_all := lw_g (lw_at lw_m3 103 rfl) rfl
theorem q705 : (Jvm.Cond.selects "HighSpots$Caster" ({ cls := "HighSpots$Scribe", name := "sees", desc := "(II)Z" } : Jvm.MethodName) ({ cls := "HighSpots$Scribe", name := "sees", desc := "(II)Z" } : Jvm.MethodName)) ∈ lw_all := lw_g (lw_at lw_m3 109 rfl) rfl
theorem q708 : (Jvm.Cond.methodLink "HighSpots$Caster" (32 : Nat) ({ cls := "HighSpots$Caster", name := "sees", desc := "(II)Z" } : Jvm.MethodName)) ∈ lw_all := lw_g (lw_at lw_m3 112 rfl) rfl
theorem q709 : (Jvm.Cond.sameMethod "HighSpots$Caster" "HighSpots$Scribe" "sees" "(II)Z") ∈ lw_all := lw_g (lw_at lw_m3 113 rfl) rfl
theorem q711 : (Jvm.Cond.selects "HighSpots$Caster" ({ cls := "HighSpots$Caster", name := "sees", desc := "(II)Z" } : Jvm.MethodName) ({ cls := "HighSpots$Scribe", name := "sees", desc := "(II)Z" } : Jvm.MethodName)) ∈ lw_all := lw_g (lw_at lw_m3 115 rfl) rfl
theorem q712 : (Jvm.Cond.methodLink "HighSpots$Caster" (47 : Nat) ({ cls := "HighSpots$Caster", name := "isEnd", desc := "()Z" } : Jvm.MethodName)) ∈ lw_all := lw_g (lw_at lw_m3 116 rfl) rfl
theorem q713 : (Jvm.Cond.sameMethod "HighSpots$Caster" "HighSpots$Scribe" "isEnd" "()Z") ∈ lw_all := lw_g (lw_at lw_m3 117 rfl) rfl
theorem q715 : (Jvm.Cond.selects "HighSpots$Caster" ({ cls := "HighSpots$Caster", name := "isEnd", desc := "()Z" } : Jvm.MethodName) ({ cls := "HighSpots$Scribe", name := "isEnd", desc := "()Z" } : Jvm.MethodName)) ∈ lw_all := lw_g (lw_at lw_m3 119 rfl) rfl
theorem q718 : (Jvm.Cond.methodLink "HighSpots$Caster" (70 : Nat) ({ cls := "HighSpots$Caster", name := "answer", desc := "(I)I" } : Jvm.MethodName)) ∈ lw_all := lw_g (lw_at lw_m3 122 rfl) rfl
theorem q719 : (Jvm.Cond.sameMethod "HighSpots$Caster" "HighSpots$Scribe" "answer" "(I)I") ∈ lw_all := lw_g (lw_at lw_m3 123 rfl) rfl
theorem q721 : (Jvm.Cond.selects "HighSpots$Caster" ({ cls := "HighSpots$Caster", name := "answer", desc := "(I)I" } : Jvm.MethodName) ({ cls := "HighSpots$Scribe", name := "answer", desc := "(I)I" } : Jvm.MethodName)) ∈ lw_all := lw_g (lw_at lw_m3 125 rfl) rfl
theorem q1858 : (Jvm.Cond.selects "HighSpots$Caster" ({ cls := "HighSpots$Scribe", name := "isGood", desc := "()Z" } : Jvm.MethodName) ({ cls := "HighSpots$Scribe", name := "isGood", desc := "()Z" } : Jvm.MethodName)) ∈ lw_all := lw_g (lw_at lw_m8 62 rfl) rfl
theorem q1861 : (Jvm.Cond.selects "HighSpots$Caster" ({ cls := "HighSpots$Scribe", name := "here", desc := "()I" } : Jvm.MethodName) ({ cls := "HighSpots$Scribe", name := "here", desc := "()I" } : Jvm.MethodName)) ∈ lw_all := lw_g (lw_at lw_m8 65 rfl) rfl
theorem q1864 : (Jvm.Cond.selects "HighSpots$Caster" ({ cls := "HighSpots$Scribe", name := "bad", desc := "(II)V" } : Jvm.MethodName) ({ cls := "HighSpots$Scribe", name := "bad", desc := "(II)V" } : Jvm.MethodName)) ∈ lw_all := lw_g (lw_at lw_m8 68 rfl) rfl
theorem in_X16 : ∀ w ∈ wsX160, w ∈ lw_all := lw_in wsX160 [633, 635, 637, 639, 641, 625, 627, 629, 631] (by decide +kernel) (by decide +kernel)

end
section
/-! HighSpots$Guide -/
set_option maxRecDepth 100000
def RX17 : String := "HighSpots$Guide"
def TX17 : u_T := fun k => match k with
  | 0 => ("HighSpots$Scribe", "n", "I", true)
  | 1 => ("HighSpots$Scribe", "at", "I", false)
  | 2 => ("HighSpots$Scribe", "fault", "I", false)
  | 3 => ("HighSpots$Scribe", "place", "I", false)
  | 4 => ("HighSpots$Scribe", "this$0", "LHighSpots;", true)
  | 5 => ("HighSpots$Guide", "row", "[I", true)
  | 6 => ("HighSpots$Guide", "many", "I", false)
  | 7 => ("HighSpots$Guide", "depth", "I", false)
  | _ => ("HighSpots$Guide", "this$0", "LHighSpots;", true)
def tyX17 : Nat → FieldType := fun k => match k with
  | 0 => .int
  | 1 => .int
  | 2 => .int
  | 3 => .int
  | 4 => .object "HighSpots"
  | 5 => .array .int
  | 6 => .int
  | 7 => .int
  | _ => .object "HighSpots"
abbrev wsX170 : List Cond := u_ws RX17 TX17 9
-- two fields of one name: no nmX17
theorem tyX17_ok : ∀ k, k < 9 → parseFieldDescriptor (TX17 k).2.2.1 = some (tyX17 k) := by decide +kernel
abbrev cX17_init : ByteArray := prog_7_method_1_code
def yX17_init : MethodName := ⟨RX17, "<init>", "(LHighSpots;I)V"⟩
def dkwX17_init_0 : List UInt8 := [42, 43, 181, 0, 3, 42, 43, 28, 183, 0, 9, 42, 16, 48, 188, 10, 181, 0, 15, 177]
abbrev dktX17_init_0 : List UInt8 := dkwX17_init_0 ++ []
theorem dksX17_init_0 : cX17_init.data.toList.drop 0 = dktX17_init_0 := by decide +kernel
theorem dX17_init_0 : decode cX17_init 0 = .ok (.aload_n 0, 1) := dk_42 (dk_at dksX17_init_0 0 rfl rfl)
theorem dX17_init_1 : decode cX17_init 1 = .ok (.aload_n 1, 1) := dk_43 (dk_at dksX17_init_0 1 rfl rfl)
theorem dX17_init_2 : decode cX17_init 2 = .ok (.putfield 3, 3) := dk_181 0 3 (dk_at dksX17_init_0 2 rfl rfl)
theorem dX17_init_5 : decode cX17_init 5 = .ok (.aload_n 0, 1) := dk_42 (dk_at dksX17_init_0 5 rfl rfl)
theorem dX17_init_6 : decode cX17_init 6 = .ok (.aload_n 1, 1) := dk_43 (dk_at dksX17_init_0 6 rfl rfl)
theorem dX17_init_7 : decode cX17_init 7 = .ok (.iload_n 2, 1) := dk_28 (dk_at dksX17_init_0 7 rfl rfl)
theorem dX17_init_8 : decode cX17_init 8 = .ok (.invokespecial 9, 3) := dk_183 0 9 (dk_at dksX17_init_0 8 rfl rfl)
theorem dX17_init_11 : decode cX17_init 11 = .ok (.aload_n 0, 1) := dk_42 (dk_at dksX17_init_0 11 rfl rfl)
theorem dX17_init_12 : decode cX17_init 12 = .ok (.bipush 48, 2) := dk_16 48 (dk_at dksX17_init_0 12 rfl rfl)
theorem dX17_init_14 : decode cX17_init 14 = .ok (.newarray .int, 2) := dk_188_10 (dk_at dksX17_init_0 14 rfl rfl)
theorem dX17_init_16 : decode cX17_init 16 = .ok (.putfield 15, 3) := dk_181 0 15 (dk_at dksX17_init_0 16 rfl rfl)
theorem dX17_init_19 : decode cX17_init 19 = .ok (.return_, 1) := dk_177 (dk_at dksX17_init_0 19 rfl rfl)
abbrev cX17_read : ByteArray := prog_7_method_5_code
def yX17_read : MethodName := ⟨RX17, "read", "()I"⟩
def dkwX17_read_1 : List UInt8 := [182, 0, 27, 42, 42, 180, 0, 49, 182, 0, 68, 172]
abbrev dktX17_read_1 : List UInt8 := dkwX17_read_1 ++ []
def dkwX17_read_0 : List UInt8 := [42, 182, 0, 35, 42, 182, 0, 38, 153, 0, 19, 42, 182, 0, 65, 154, 0, 12, 42, 4, 42, 182, 0, 23]
abbrev dktX17_read_0 : List UInt8 := dkwX17_read_0 ++ dktX17_read_1
theorem dksX17_read_0 : cX17_read.data.toList.drop 0 = dktX17_read_0 := by decide +kernel
theorem dksX17_read_1 : cX17_read.data.toList.drop 24 = dktX17_read_1 := dk_seg dksX17_read_0 24 rfl rfl
theorem dX17_read_0 : decode cX17_read 0 = .ok (.aload_n 0, 1) := dk_42 (dk_at dksX17_read_0 0 rfl rfl)
theorem dX17_read_1 : decode cX17_read 1 = .ok (.invokevirtual 35, 3) := dk_182 0 35 (dk_at dksX17_read_0 1 rfl rfl)
theorem dX17_read_4 : decode cX17_read 4 = .ok (.aload_n 0, 1) := dk_42 (dk_at dksX17_read_0 4 rfl rfl)
theorem dX17_read_5 : decode cX17_read 5 = .ok (.invokevirtual 38, 3) := dk_182 0 38 (dk_at dksX17_read_0 5 rfl rfl)
theorem dX17_read_8 : decode cX17_read 8 = .ok (.ifCond .eq 19, 3) := dk_153 0 19 (dk_at dksX17_read_0 8 rfl rfl)
theorem dX17_read_11 : decode cX17_read 11 = .ok (.aload_n 0, 1) := dk_42 (dk_at dksX17_read_0 11 rfl rfl)
theorem dX17_read_12 : decode cX17_read 12 = .ok (.invokevirtual 65, 3) := dk_182 0 65 (dk_at dksX17_read_0 12 rfl rfl)
theorem dX17_read_15 : decode cX17_read 15 = .ok (.ifCond .ne 12, 3) := dk_154 0 12 (dk_at dksX17_read_0 15 rfl rfl)
theorem dX17_read_18 : decode cX17_read 18 = .ok (.aload_n 0, 1) := dk_42 (dk_at dksX17_read_0 18 rfl rfl)
theorem dX17_read_19 : decode cX17_read 19 = .ok (.iconst 1, 1) := dk_4 (dk_at dksX17_read_0 19 rfl rfl)
theorem dX17_read_20 : decode cX17_read 20 = .ok (.aload_n 0, 1) := dk_42 (dk_at dksX17_read_0 20 rfl rfl)
theorem dX17_read_21 : decode cX17_read 21 = .ok (.invokevirtual 23, 3) := dk_182 0 23 (dk_at dksX17_read_0 21 rfl rfl)
theorem dX17_read_24 : decode cX17_read 24 = .ok (.invokevirtual 27, 3) := dk_182 0 27 (dk_at dksX17_read_1 0 rfl rfl)
theorem dX17_read_27 : decode cX17_read 27 = .ok (.aload_n 0, 1) := dk_42 (dk_at dksX17_read_1 3 rfl rfl)
theorem dX17_read_28 : decode cX17_read 28 = .ok (.aload_n 0, 1) := dk_42 (dk_at dksX17_read_1 4 rfl rfl)
theorem dX17_read_29 : decode cX17_read 29 = .ok (.getfield 49, 3) := dk_180 0 49 (dk_at dksX17_read_1 5 rfl rfl)
theorem dX17_read_32 : decode cX17_read 32 = .ok (.invokevirtual 68, 3) := dk_182 0 68 (dk_at dksX17_read_1 8 rfl rfl)
theorem dX17_read_35 : decode cX17_read 35 = .ok (.ireturn, 1) := dk_172 (dk_at dksX17_read_1 11 rfl rfl)
abbrev cX17_all : ByteArray := prog_7_method_4_code
def yX17_all : MethodName := ⟨RX17, "all", "()V"⟩
def dkwX17_all_1 : List UInt8 := [154, 0, 16, 42, 182, 0, 42, 16, 41, 159, 0, 7, 4, 167, 0, 4, 3, 60, 167, 255, 219, 177]
abbrev dktX17_all_1 : List UInt8 := dkwX17_all_1 ++ []
def dkwX17_all_0 : List UInt8 := [42, 182, 0, 38, 60, 27, 153, 0, 39, 42, 182, 0, 62, 42, 182, 0, 38, 153, 0, 23, 42, 182, 0, 65]
abbrev dktX17_all_0 : List UInt8 := dkwX17_all_0 ++ dktX17_all_1
theorem dksX17_all_0 : cX17_all.data.toList.drop 0 = dktX17_all_0 := by decide +kernel
theorem dksX17_all_1 : cX17_all.data.toList.drop 24 = dktX17_all_1 := dk_seg dksX17_all_0 24 rfl rfl
theorem dX17_all_0 : decode cX17_all 0 = .ok (.aload_n 0, 1) := dk_42 (dk_at dksX17_all_0 0 rfl rfl)
theorem dX17_all_1 : decode cX17_all 1 = .ok (.invokevirtual 38, 3) := dk_182 0 38 (dk_at dksX17_all_0 1 rfl rfl)
theorem dX17_all_4 : decode cX17_all 4 = .ok (.istore_n 1, 1) := dk_60 (dk_at dksX17_all_0 4 rfl rfl)
theorem dX17_all_5 : decode cX17_all 5 = .ok (.iload_n 1, 1) := dk_27 (dk_at dksX17_all_0 5 rfl rfl)
theorem dX17_all_6 : decode cX17_all 6 = .ok (.ifCond .eq 39, 3) := dk_153 0 39 (dk_at dksX17_all_0 6 rfl rfl)
theorem dX17_all_9 : decode cX17_all 9 = .ok (.aload_n 0, 1) := dk_42 (dk_at dksX17_all_0 9 rfl rfl)
theorem dX17_all_10 : decode cX17_all 10 = .ok (.invokevirtual 62, 3) := dk_182 0 62 (dk_at dksX17_all_0 10 rfl rfl)
theorem dX17_all_13 : decode cX17_all 13 = .ok (.aload_n 0, 1) := dk_42 (dk_at dksX17_all_0 13 rfl rfl)
theorem dX17_all_14 : decode cX17_all 14 = .ok (.invokevirtual 38, 3) := dk_182 0 38 (dk_at dksX17_all_0 14 rfl rfl)
theorem dX17_all_17 : decode cX17_all 17 = .ok (.ifCond .eq 23, 3) := dk_153 0 23 (dk_at dksX17_all_0 17 rfl rfl)
theorem dX17_all_20 : decode cX17_all 20 = .ok (.aload_n 0, 1) := dk_42 (dk_at dksX17_all_0 20 rfl rfl)
theorem dX17_all_21 : decode cX17_all 21 = .ok (.invokevirtual 65, 3) := dk_182 0 65 (dk_at dksX17_all_0 21 rfl rfl)
theorem dX17_all_24 : decode cX17_all 24 = .ok (.ifCond .ne 16, 3) := dk_154 0 16 (dk_at dksX17_all_1 0 rfl rfl)
theorem dX17_all_27 : decode cX17_all 27 = .ok (.aload_n 0, 1) := dk_42 (dk_at dksX17_all_1 3 rfl rfl)
theorem dX17_all_28 : decode cX17_all 28 = .ok (.invokevirtual 42, 3) := dk_182 0 42 (dk_at dksX17_all_1 4 rfl rfl)
theorem dX17_all_31 : decode cX17_all 31 = .ok (.bipush 41, 2) := dk_16 41 (dk_at dksX17_all_1 7 rfl rfl)
theorem dX17_all_33 : decode cX17_all 33 = .ok (.if_icmp .eq 7, 3) := dk_159 0 7 (dk_at dksX17_all_1 9 rfl rfl)
theorem dX17_all_36 : decode cX17_all 36 = .ok (.iconst 1, 1) := dk_4 (dk_at dksX17_all_1 12 rfl rfl)
theorem dX17_all_37 : decode cX17_all 37 = .ok (.goto 4, 3) := dk_167 0 4 (dk_at dksX17_all_1 13 rfl rfl)
theorem dX17_all_40 : decode cX17_all 40 = .ok (.iconst 0, 1) := dk_3 (dk_at dksX17_all_1 16 rfl rfl)
theorem dX17_all_41 : decode cX17_all 41 = .ok (.istore_n 1, 1) := dk_60 (dk_at dksX17_all_1 17 rfl rfl)
theorem dX17_all_42 : decode cX17_all 42 = .ok (.goto (-37), 3) := dk_167 255 219 (dk_at dksX17_all_1 18 rfl rfl)
theorem dX17_all_45 : decode cX17_all 45 = .ok (.return_, 1) := dk_177 (dk_at dksX17_all_1 21 rfl rfl)
abbrev cX17_one : ByteArray := prog_7_method_3_code
def yX17_one : MethodName := ⟨RX17, "one", "()V"⟩
def dkwX17_one_8 : List UInt8 := [112, 96, 46, 79, 42, 89, 180, 0, 49, 4, 96, 181, 0, 49, 132, 6, 1, 167, 255, 206, 177]
abbrev dktX17_one_8 : List UInt8 := dkwX17_one_8 ++ []
def dkwX17_one_7 : List UInt8 := [21, 5, 28, 104, 162, 0, 40, 42, 180, 0, 15, 42, 180, 0, 49, 42, 180, 0, 15, 29, 21, 6, 21, 5]
abbrev dktX17_one_7 : List UInt8 := dkwX17_one_7 ++ dktX17_one_8
def dkwX17_one_6 : List UInt8 := [164, 0, 10, 42, 16, 6, 27, 182, 0, 27, 21, 5, 54, 6, 42, 182, 0, 38, 153, 0, 49, 21, 6]
abbrev dktX17_one_6 : List UInt8 := dkwX17_one_6 ++ dktX17_one_7
def dkwX17_one_5 : List UInt8 := [42, 180, 0, 49, 29, 100, 54, 5, 42, 182, 0, 38, 153, 0, 21, 29, 21, 5, 28, 104, 96, 16, 48]
abbrev dktX17_one_5 : List UInt8 := dkwX17_one_5 ++ dktX17_one_6
def dkwX17_one_4 : List UInt8 := [180, 0, 15, 42, 180, 0, 49, 21, 4, 79, 42, 89, 180, 0, 49, 4, 96, 181, 0, 49, 42, 182, 0, 31]
abbrev dktX17_one_4 : List UInt8 := dkwX17_one_4 ++ dktX17_one_5
def dkwX17_one_3 : List UInt8 := [42, 180, 0, 49, 28, 96, 16, 48, 164, 0, 13, 42, 16, 6, 27, 182, 0, 27, 167, 0, 28, 42]
abbrev dktX17_one_3 : List UInt8 := dkwX17_one_3 ++ dktX17_one_4
def dkwX17_one_2 : List UInt8 := [42, 182, 0, 59, 167, 0, 66, 21, 4, 156, 0, 15, 42, 4, 42, 182, 0, 23, 182, 0, 27, 167, 0, 49]
abbrev dktX17_one_2 : List UInt8 := dkwX17_one_2 ++ dktX17_one_3
def dkwX17_one_1 : List UInt8 := [2, 167, 0, 12, 18, 52, 42, 182, 0, 42, 182, 0, 54, 54, 4, 42, 182, 0, 42, 16, 40, 160, 0, 10]
abbrev dktX17_one_1 : List UInt8 := dkwX17_one_1 ++ dktX17_one_2
def dkwX17_one_0 : List UInt8 := [42, 182, 0, 23, 60, 42, 16, 57, 182, 0, 45, 61, 42, 180, 0, 49, 62, 42, 182, 0, 42, 154, 0, 7]
abbrev dktX17_one_0 : List UInt8 := dkwX17_one_0 ++ dktX17_one_1
theorem dksX17_one_0 : cX17_one.data.toList.drop 0 = dktX17_one_0 := by decide +kernel
theorem dksX17_one_1 : cX17_one.data.toList.drop 24 = dktX17_one_1 := dk_seg dksX17_one_0 24 rfl rfl
theorem dksX17_one_2 : cX17_one.data.toList.drop 48 = dktX17_one_2 := dk_seg dksX17_one_1 24 rfl rfl
theorem dksX17_one_3 : cX17_one.data.toList.drop 72 = dktX17_one_3 := dk_seg dksX17_one_2 24 rfl rfl
theorem dksX17_one_4 : cX17_one.data.toList.drop 94 = dktX17_one_4 := dk_seg dksX17_one_3 22 rfl rfl
theorem dksX17_one_5 : cX17_one.data.toList.drop 118 = dktX17_one_5 := dk_seg dksX17_one_4 24 rfl rfl
theorem dksX17_one_6 : cX17_one.data.toList.drop 141 = dktX17_one_6 := dk_seg dksX17_one_5 23 rfl rfl
theorem dksX17_one_7 : cX17_one.data.toList.drop 164 = dktX17_one_7 := dk_seg dksX17_one_6 23 rfl rfl
theorem dksX17_one_8 : cX17_one.data.toList.drop 188 = dktX17_one_8 := dk_seg dksX17_one_7 24 rfl rfl
theorem dX17_one_0 : decode cX17_one 0 = .ok (.aload_n 0, 1) := dk_42 (dk_at dksX17_one_0 0 rfl rfl)
theorem dX17_one_1 : decode cX17_one 1 = .ok (.invokevirtual 23, 3) := dk_182 0 23 (dk_at dksX17_one_0 1 rfl rfl)
theorem dX17_one_4 : decode cX17_one 4 = .ok (.istore_n 1, 1) := dk_60 (dk_at dksX17_one_0 4 rfl rfl)
theorem dX17_one_5 : decode cX17_one 5 = .ok (.aload_n 0, 1) := dk_42 (dk_at dksX17_one_0 5 rfl rfl)
theorem dX17_one_6 : decode cX17_one 6 = .ok (.bipush 57, 2) := dk_16 57 (dk_at dksX17_one_0 6 rfl rfl)
theorem dX17_one_8 : decode cX17_one 8 = .ok (.invokevirtual 45, 3) := dk_182 0 45 (dk_at dksX17_one_0 8 rfl rfl)
theorem dX17_one_11 : decode cX17_one 11 = .ok (.istore_n 2, 1) := dk_61 (dk_at dksX17_one_0 11 rfl rfl)
theorem dX17_one_12 : decode cX17_one 12 = .ok (.aload_n 0, 1) := dk_42 (dk_at dksX17_one_0 12 rfl rfl)
theorem dX17_one_13 : decode cX17_one 13 = .ok (.getfield 49, 3) := dk_180 0 49 (dk_at dksX17_one_0 13 rfl rfl)
theorem dX17_one_16 : decode cX17_one 16 = .ok (.istore_n 3, 1) := dk_62 (dk_at dksX17_one_0 16 rfl rfl)
theorem dX17_one_17 : decode cX17_one 17 = .ok (.aload_n 0, 1) := dk_42 (dk_at dksX17_one_0 17 rfl rfl)
theorem dX17_one_18 : decode cX17_one 18 = .ok (.invokevirtual 42, 3) := dk_182 0 42 (dk_at dksX17_one_0 18 rfl rfl)
theorem dX17_one_21 : decode cX17_one 21 = .ok (.ifCond .ne 7, 3) := dk_154 0 7 (dk_at dksX17_one_0 21 rfl rfl)
theorem dX17_one_24 : decode cX17_one 24 = .ok (.iconst (-1), 1) := dk_2 (dk_at dksX17_one_1 0 rfl rfl)
theorem dX17_one_25 : decode cX17_one 25 = .ok (.goto 12, 3) := dk_167 0 12 (dk_at dksX17_one_1 1 rfl rfl)
theorem dX17_one_28 : decode cX17_one 28 = .ok (.ldc 52, 2) := dk_18 52 (dk_at dksX17_one_1 4 rfl rfl)
theorem dX17_one_30 : decode cX17_one 30 = .ok (.aload_n 0, 1) := dk_42 (dk_at dksX17_one_1 6 rfl rfl)
theorem dX17_one_31 : decode cX17_one 31 = .ok (.invokevirtual 42, 3) := dk_182 0 42 (dk_at dksX17_one_1 7 rfl rfl)
theorem dX17_one_34 : decode cX17_one 34 = .ok (.invokevirtual 54, 3) := dk_182 0 54 (dk_at dksX17_one_1 10 rfl rfl)
theorem dX17_one_37 : decode cX17_one 37 = .ok (.istore 4, 2) := dk_54 4 (dk_at dksX17_one_1 13 rfl rfl)
theorem dX17_one_39 : decode cX17_one 39 = .ok (.aload_n 0, 1) := dk_42 (dk_at dksX17_one_1 15 rfl rfl)
theorem dX17_one_40 : decode cX17_one 40 = .ok (.invokevirtual 42, 3) := dk_182 0 42 (dk_at dksX17_one_1 16 rfl rfl)
theorem dX17_one_43 : decode cX17_one 43 = .ok (.bipush 40, 2) := dk_16 40 (dk_at dksX17_one_1 19 rfl rfl)
theorem dX17_one_45 : decode cX17_one 45 = .ok (.if_icmp .ne 10, 3) := dk_160 0 10 (dk_at dksX17_one_1 21 rfl rfl)
theorem dX17_one_48 : decode cX17_one 48 = .ok (.aload_n 0, 1) := dk_42 (dk_at dksX17_one_2 0 rfl rfl)
theorem dX17_one_49 : decode cX17_one 49 = .ok (.invokevirtual 59, 3) := dk_182 0 59 (dk_at dksX17_one_2 1 rfl rfl)
theorem dX17_one_52 : decode cX17_one 52 = .ok (.goto 66, 3) := dk_167 0 66 (dk_at dksX17_one_2 4 rfl rfl)
theorem dX17_one_55 : decode cX17_one 55 = .ok (.iload 4, 2) := dk_21 4 (dk_at dksX17_one_2 7 rfl rfl)
theorem dX17_one_57 : decode cX17_one 57 = .ok (.ifCond .ge 15, 3) := dk_156 0 15 (dk_at dksX17_one_2 9 rfl rfl)
theorem dX17_one_60 : decode cX17_one 60 = .ok (.aload_n 0, 1) := dk_42 (dk_at dksX17_one_2 12 rfl rfl)
theorem dX17_one_61 : decode cX17_one 61 = .ok (.iconst 1, 1) := dk_4 (dk_at dksX17_one_2 13 rfl rfl)
theorem dX17_one_62 : decode cX17_one 62 = .ok (.aload_n 0, 1) := dk_42 (dk_at dksX17_one_2 14 rfl rfl)
theorem dX17_one_63 : decode cX17_one 63 = .ok (.invokevirtual 23, 3) := dk_182 0 23 (dk_at dksX17_one_2 15 rfl rfl)
theorem dX17_one_66 : decode cX17_one 66 = .ok (.invokevirtual 27, 3) := dk_182 0 27 (dk_at dksX17_one_2 18 rfl rfl)
theorem dX17_one_69 : decode cX17_one 69 = .ok (.goto 49, 3) := dk_167 0 49 (dk_at dksX17_one_2 21 rfl rfl)
theorem dX17_one_72 : decode cX17_one 72 = .ok (.aload_n 0, 1) := dk_42 (dk_at dksX17_one_3 0 rfl rfl)
theorem dX17_one_73 : decode cX17_one 73 = .ok (.getfield 49, 3) := dk_180 0 49 (dk_at dksX17_one_3 1 rfl rfl)
theorem dX17_one_76 : decode cX17_one 76 = .ok (.iload_n 2, 1) := dk_28 (dk_at dksX17_one_3 4 rfl rfl)
theorem dX17_one_77 : decode cX17_one 77 = .ok (.iadd, 1) := dk_96 (dk_at dksX17_one_3 5 rfl rfl)
theorem dX17_one_78 : decode cX17_one 78 = .ok (.bipush 48, 2) := dk_16 48 (dk_at dksX17_one_3 6 rfl rfl)
theorem dX17_one_80 : decode cX17_one 80 = .ok (.if_icmp .le 13, 3) := dk_164 0 13 (dk_at dksX17_one_3 8 rfl rfl)
theorem dX17_one_83 : decode cX17_one 83 = .ok (.aload_n 0, 1) := dk_42 (dk_at dksX17_one_3 11 rfl rfl)
theorem dX17_one_84 : decode cX17_one 84 = .ok (.bipush 6, 2) := dk_16 6 (dk_at dksX17_one_3 12 rfl rfl)
theorem dX17_one_86 : decode cX17_one 86 = .ok (.iload_n 1, 1) := dk_27 (dk_at dksX17_one_3 14 rfl rfl)
theorem dX17_one_87 : decode cX17_one 87 = .ok (.invokevirtual 27, 3) := dk_182 0 27 (dk_at dksX17_one_3 15 rfl rfl)
theorem dX17_one_90 : decode cX17_one 90 = .ok (.goto 28, 3) := dk_167 0 28 (dk_at dksX17_one_3 18 rfl rfl)
theorem dX17_one_93 : decode cX17_one 93 = .ok (.aload_n 0, 1) := dk_42 (dk_at dksX17_one_3 21 rfl rfl)
theorem dX17_one_94 : decode cX17_one 94 = .ok (.getfield 15, 3) := dk_180 0 15 (dk_at dksX17_one_4 0 rfl rfl)
theorem dX17_one_97 : decode cX17_one 97 = .ok (.aload_n 0, 1) := dk_42 (dk_at dksX17_one_4 3 rfl rfl)
theorem dX17_one_98 : decode cX17_one 98 = .ok (.getfield 49, 3) := dk_180 0 49 (dk_at dksX17_one_4 4 rfl rfl)
theorem dX17_one_101 : decode cX17_one 101 = .ok (.iload 4, 2) := dk_21 4 (dk_at dksX17_one_4 7 rfl rfl)
theorem dX17_one_103 : decode cX17_one 103 = .ok (.iastore, 1) := dk_79 (dk_at dksX17_one_4 9 rfl rfl)
theorem dX17_one_104 : decode cX17_one 104 = .ok (.aload_n 0, 1) := dk_42 (dk_at dksX17_one_4 10 rfl rfl)
theorem dX17_one_105 : decode cX17_one 105 = .ok (.dup, 1) := dk_89 (dk_at dksX17_one_4 11 rfl rfl)
theorem dX17_one_106 : decode cX17_one 106 = .ok (.getfield 49, 3) := dk_180 0 49 (dk_at dksX17_one_4 12 rfl rfl)
theorem dX17_one_109 : decode cX17_one 109 = .ok (.iconst 1, 1) := dk_4 (dk_at dksX17_one_4 15 rfl rfl)
theorem dX17_one_110 : decode cX17_one 110 = .ok (.iadd, 1) := dk_96 (dk_at dksX17_one_4 16 rfl rfl)
theorem dX17_one_111 : decode cX17_one 111 = .ok (.putfield 49, 3) := dk_181 0 49 (dk_at dksX17_one_4 17 rfl rfl)
theorem dX17_one_114 : decode cX17_one 114 = .ok (.aload_n 0, 1) := dk_42 (dk_at dksX17_one_4 20 rfl rfl)
theorem dX17_one_115 : decode cX17_one 115 = .ok (.invokevirtual 31, 3) := dk_182 0 31 (dk_at dksX17_one_4 21 rfl rfl)
theorem dX17_one_118 : decode cX17_one 118 = .ok (.aload_n 0, 1) := dk_42 (dk_at dksX17_one_5 0 rfl rfl)
theorem dX17_one_119 : decode cX17_one 119 = .ok (.getfield 49, 3) := dk_180 0 49 (dk_at dksX17_one_5 1 rfl rfl)
theorem dX17_one_122 : decode cX17_one 122 = .ok (.iload_n 3, 1) := dk_29 (dk_at dksX17_one_5 4 rfl rfl)
theorem dX17_one_123 : decode cX17_one 123 = .ok (.isub, 1) := dk_100 (dk_at dksX17_one_5 5 rfl rfl)
theorem dX17_one_124 : decode cX17_one 124 = .ok (.istore 5, 2) := dk_54 5 (dk_at dksX17_one_5 6 rfl rfl)
theorem dX17_one_126 : decode cX17_one 126 = .ok (.aload_n 0, 1) := dk_42 (dk_at dksX17_one_5 8 rfl rfl)
theorem dX17_one_127 : decode cX17_one 127 = .ok (.invokevirtual 38, 3) := dk_182 0 38 (dk_at dksX17_one_5 9 rfl rfl)
theorem dX17_one_130 : decode cX17_one 130 = .ok (.ifCond .eq 21, 3) := dk_153 0 21 (dk_at dksX17_one_5 12 rfl rfl)
theorem dX17_one_133 : decode cX17_one 133 = .ok (.iload_n 3, 1) := dk_29 (dk_at dksX17_one_5 15 rfl rfl)
theorem dX17_one_134 : decode cX17_one 134 = .ok (.iload 5, 2) := dk_21 5 (dk_at dksX17_one_5 16 rfl rfl)
theorem dX17_one_136 : decode cX17_one 136 = .ok (.iload_n 2, 1) := dk_28 (dk_at dksX17_one_5 18 rfl rfl)
theorem dX17_one_137 : decode cX17_one 137 = .ok (.imul, 1) := dk_104 (dk_at dksX17_one_5 19 rfl rfl)
theorem dX17_one_138 : decode cX17_one 138 = .ok (.iadd, 1) := dk_96 (dk_at dksX17_one_5 20 rfl rfl)
theorem dX17_one_139 : decode cX17_one 139 = .ok (.bipush 48, 2) := dk_16 48 (dk_at dksX17_one_5 21 rfl rfl)
theorem dX17_one_141 : decode cX17_one 141 = .ok (.if_icmp .le 10, 3) := dk_164 0 10 (dk_at dksX17_one_6 0 rfl rfl)
theorem dX17_one_144 : decode cX17_one 144 = .ok (.aload_n 0, 1) := dk_42 (dk_at dksX17_one_6 3 rfl rfl)
theorem dX17_one_145 : decode cX17_one 145 = .ok (.bipush 6, 2) := dk_16 6 (dk_at dksX17_one_6 4 rfl rfl)
theorem dX17_one_147 : decode cX17_one 147 = .ok (.iload_n 1, 1) := dk_27 (dk_at dksX17_one_6 6 rfl rfl)
theorem dX17_one_148 : decode cX17_one 148 = .ok (.invokevirtual 27, 3) := dk_182 0 27 (dk_at dksX17_one_6 7 rfl rfl)
theorem dX17_one_151 : decode cX17_one 151 = .ok (.iload 5, 2) := dk_21 5 (dk_at dksX17_one_6 10 rfl rfl)
theorem dX17_one_153 : decode cX17_one 153 = .ok (.istore 6, 2) := dk_54 6 (dk_at dksX17_one_6 12 rfl rfl)
theorem dX17_one_155 : decode cX17_one 155 = .ok (.aload_n 0, 1) := dk_42 (dk_at dksX17_one_6 14 rfl rfl)
theorem dX17_one_156 : decode cX17_one 156 = .ok (.invokevirtual 38, 3) := dk_182 0 38 (dk_at dksX17_one_6 15 rfl rfl)
theorem dX17_one_159 : decode cX17_one 159 = .ok (.ifCond .eq 49, 3) := dk_153 0 49 (dk_at dksX17_one_6 18 rfl rfl)
theorem dX17_one_162 : decode cX17_one 162 = .ok (.iload 6, 2) := dk_21 6 (dk_at dksX17_one_6 21 rfl rfl)
theorem dX17_one_164 : decode cX17_one 164 = .ok (.iload 5, 2) := dk_21 5 (dk_at dksX17_one_7 0 rfl rfl)
theorem dX17_one_166 : decode cX17_one 166 = .ok (.iload_n 2, 1) := dk_28 (dk_at dksX17_one_7 2 rfl rfl)
theorem dX17_one_167 : decode cX17_one 167 = .ok (.imul, 1) := dk_104 (dk_at dksX17_one_7 3 rfl rfl)
theorem dX17_one_168 : decode cX17_one 168 = .ok (.if_icmp .ge 40, 3) := dk_162 0 40 (dk_at dksX17_one_7 4 rfl rfl)
theorem dX17_one_171 : decode cX17_one 171 = .ok (.aload_n 0, 1) := dk_42 (dk_at dksX17_one_7 7 rfl rfl)
theorem dX17_one_172 : decode cX17_one 172 = .ok (.getfield 15, 3) := dk_180 0 15 (dk_at dksX17_one_7 8 rfl rfl)
theorem dX17_one_175 : decode cX17_one 175 = .ok (.aload_n 0, 1) := dk_42 (dk_at dksX17_one_7 11 rfl rfl)
theorem dX17_one_176 : decode cX17_one 176 = .ok (.getfield 49, 3) := dk_180 0 49 (dk_at dksX17_one_7 12 rfl rfl)
theorem dX17_one_179 : decode cX17_one 179 = .ok (.aload_n 0, 1) := dk_42 (dk_at dksX17_one_7 15 rfl rfl)
theorem dX17_one_180 : decode cX17_one 180 = .ok (.getfield 15, 3) := dk_180 0 15 (dk_at dksX17_one_7 16 rfl rfl)
theorem dX17_one_183 : decode cX17_one 183 = .ok (.iload_n 3, 1) := dk_29 (dk_at dksX17_one_7 19 rfl rfl)
theorem dX17_one_184 : decode cX17_one 184 = .ok (.iload 6, 2) := dk_21 6 (dk_at dksX17_one_7 20 rfl rfl)
theorem dX17_one_186 : decode cX17_one 186 = .ok (.iload 5, 2) := dk_21 5 (dk_at dksX17_one_7 22 rfl rfl)
theorem dX17_one_188 : decode cX17_one 188 = .ok (.irem, 1) := dk_112 (dk_at dksX17_one_8 0 rfl rfl)
theorem dX17_one_189 : decode cX17_one 189 = .ok (.iadd, 1) := dk_96 (dk_at dksX17_one_8 1 rfl rfl)
theorem dX17_one_190 : decode cX17_one 190 = .ok (.iaload, 1) := dk_46 (dk_at dksX17_one_8 2 rfl rfl)
theorem dX17_one_191 : decode cX17_one 191 = .ok (.iastore, 1) := dk_79 (dk_at dksX17_one_8 3 rfl rfl)
theorem dX17_one_192 : decode cX17_one 192 = .ok (.aload_n 0, 1) := dk_42 (dk_at dksX17_one_8 4 rfl rfl)
theorem dX17_one_193 : decode cX17_one 193 = .ok (.dup, 1) := dk_89 (dk_at dksX17_one_8 5 rfl rfl)
theorem dX17_one_194 : decode cX17_one 194 = .ok (.getfield 49, 3) := dk_180 0 49 (dk_at dksX17_one_8 6 rfl rfl)
theorem dX17_one_197 : decode cX17_one 197 = .ok (.iconst 1, 1) := dk_4 (dk_at dksX17_one_8 9 rfl rfl)
theorem dX17_one_198 : decode cX17_one 198 = .ok (.iadd, 1) := dk_96 (dk_at dksX17_one_8 10 rfl rfl)
theorem dX17_one_199 : decode cX17_one 199 = .ok (.putfield 49, 3) := dk_181 0 49 (dk_at dksX17_one_8 11 rfl rfl)
theorem dX17_one_202 : decode cX17_one 202 = .ok (.iinc 6 1, 3) := dk_132 6 1 (dk_at dksX17_one_8 14 rfl rfl)
theorem dX17_one_205 : decode cX17_one 205 = .ok (.goto (-50), 3) := dk_167 255 206 (dk_at dksX17_one_8 17 rfl rfl)
theorem dX17_one_208 : decode cX17_one 208 = .ok (.return_, 1) := dk_177 (dk_at dksX17_one_8 20 rfl rfl)
abbrev cX17_rounds : ByteArray := prog_7_method_2_code
def yX17_rounds : MethodName := ⟨RX17, "rounds", "()V"⟩
def dkwX17_rounds_3 : List UInt8 := [100, 181, 0, 19, 177]
abbrev dktX17_rounds_3 : List UInt8 := dkwX17_rounds_3 ++ []
def dkwX17_rounds_2 : List UInt8 := [16, 41, 159, 0, 12, 42, 4, 42, 182, 0, 23, 182, 0, 27, 42, 182, 0, 31, 42, 89, 180, 0, 19, 4]
abbrev dktX17_rounds_2 : List UInt8 := dkwX17_rounds_2 ++ dktX17_rounds_3
def dkwX17_rounds_1 : List UInt8 := [180, 0, 19, 4, 96, 181, 0, 19, 42, 182, 0, 35, 42, 182, 0, 38, 153, 0, 21, 42, 182, 0, 42]
abbrev dktX17_rounds_1 : List UInt8 := dkwX17_rounds_1 ++ dktX17_rounds_2
def dkwX17_rounds_0 : List UInt8 := [42, 180, 0, 19, 5, 160, 0, 12, 42, 8, 42, 182, 0, 23, 182, 0, 27, 42, 182, 0, 31, 42, 89]
abbrev dktX17_rounds_0 : List UInt8 := dkwX17_rounds_0 ++ dktX17_rounds_1
theorem dksX17_rounds_0 : cX17_rounds.data.toList.drop 0 = dktX17_rounds_0 := by decide +kernel
theorem dksX17_rounds_1 : cX17_rounds.data.toList.drop 23 = dktX17_rounds_1 := dk_seg dksX17_rounds_0 23 rfl rfl
theorem dksX17_rounds_2 : cX17_rounds.data.toList.drop 46 = dktX17_rounds_2 := dk_seg dksX17_rounds_1 23 rfl rfl
theorem dksX17_rounds_3 : cX17_rounds.data.toList.drop 70 = dktX17_rounds_3 := dk_seg dksX17_rounds_2 24 rfl rfl
theorem dX17_rounds_0 : decode cX17_rounds 0 = .ok (.aload_n 0, 1) := dk_42 (dk_at dksX17_rounds_0 0 rfl rfl)
theorem dX17_rounds_1 : decode cX17_rounds 1 = .ok (.getfield 19, 3) := dk_180 0 19 (dk_at dksX17_rounds_0 1 rfl rfl)
theorem dX17_rounds_4 : decode cX17_rounds 4 = .ok (.iconst 2, 1) := dk_5 (dk_at dksX17_rounds_0 4 rfl rfl)
theorem dX17_rounds_5 : decode cX17_rounds 5 = .ok (.if_icmp .ne 12, 3) := dk_160 0 12 (dk_at dksX17_rounds_0 5 rfl rfl)
theorem dX17_rounds_8 : decode cX17_rounds 8 = .ok (.aload_n 0, 1) := dk_42 (dk_at dksX17_rounds_0 8 rfl rfl)
theorem dX17_rounds_9 : decode cX17_rounds 9 = .ok (.iconst 5, 1) := dk_8 (dk_at dksX17_rounds_0 9 rfl rfl)
theorem dX17_rounds_10 : decode cX17_rounds 10 = .ok (.aload_n 0, 1) := dk_42 (dk_at dksX17_rounds_0 10 rfl rfl)
theorem dX17_rounds_11 : decode cX17_rounds 11 = .ok (.invokevirtual 23, 3) := dk_182 0 23 (dk_at dksX17_rounds_0 11 rfl rfl)
theorem dX17_rounds_14 : decode cX17_rounds 14 = .ok (.invokevirtual 27, 3) := dk_182 0 27 (dk_at dksX17_rounds_0 14 rfl rfl)
theorem dX17_rounds_17 : decode cX17_rounds 17 = .ok (.aload_n 0, 1) := dk_42 (dk_at dksX17_rounds_0 17 rfl rfl)
theorem dX17_rounds_18 : decode cX17_rounds 18 = .ok (.invokevirtual 31, 3) := dk_182 0 31 (dk_at dksX17_rounds_0 18 rfl rfl)
theorem dX17_rounds_21 : decode cX17_rounds 21 = .ok (.aload_n 0, 1) := dk_42 (dk_at dksX17_rounds_0 21 rfl rfl)
theorem dX17_rounds_22 : decode cX17_rounds 22 = .ok (.dup, 1) := dk_89 (dk_at dksX17_rounds_0 22 rfl rfl)
theorem dX17_rounds_23 : decode cX17_rounds 23 = .ok (.getfield 19, 3) := dk_180 0 19 (dk_at dksX17_rounds_1 0 rfl rfl)
theorem dX17_rounds_26 : decode cX17_rounds 26 = .ok (.iconst 1, 1) := dk_4 (dk_at dksX17_rounds_1 3 rfl rfl)
theorem dX17_rounds_27 : decode cX17_rounds 27 = .ok (.iadd, 1) := dk_96 (dk_at dksX17_rounds_1 4 rfl rfl)
theorem dX17_rounds_28 : decode cX17_rounds 28 = .ok (.putfield 19, 3) := dk_181 0 19 (dk_at dksX17_rounds_1 5 rfl rfl)
theorem dX17_rounds_31 : decode cX17_rounds 31 = .ok (.aload_n 0, 1) := dk_42 (dk_at dksX17_rounds_1 8 rfl rfl)
theorem dX17_rounds_32 : decode cX17_rounds 32 = .ok (.invokevirtual 35, 3) := dk_182 0 35 (dk_at dksX17_rounds_1 9 rfl rfl)
theorem dX17_rounds_35 : decode cX17_rounds 35 = .ok (.aload_n 0, 1) := dk_42 (dk_at dksX17_rounds_1 12 rfl rfl)
theorem dX17_rounds_36 : decode cX17_rounds 36 = .ok (.invokevirtual 38, 3) := dk_182 0 38 (dk_at dksX17_rounds_1 13 rfl rfl)
theorem dX17_rounds_39 : decode cX17_rounds 39 = .ok (.ifCond .eq 21, 3) := dk_153 0 21 (dk_at dksX17_rounds_1 16 rfl rfl)
theorem dX17_rounds_42 : decode cX17_rounds 42 = .ok (.aload_n 0, 1) := dk_42 (dk_at dksX17_rounds_1 19 rfl rfl)
theorem dX17_rounds_43 : decode cX17_rounds 43 = .ok (.invokevirtual 42, 3) := dk_182 0 42 (dk_at dksX17_rounds_1 20 rfl rfl)
theorem dX17_rounds_46 : decode cX17_rounds 46 = .ok (.bipush 41, 2) := dk_16 41 (dk_at dksX17_rounds_2 0 rfl rfl)
theorem dX17_rounds_48 : decode cX17_rounds 48 = .ok (.if_icmp .eq 12, 3) := dk_159 0 12 (dk_at dksX17_rounds_2 2 rfl rfl)
theorem dX17_rounds_51 : decode cX17_rounds 51 = .ok (.aload_n 0, 1) := dk_42 (dk_at dksX17_rounds_2 5 rfl rfl)
theorem dX17_rounds_52 : decode cX17_rounds 52 = .ok (.iconst 1, 1) := dk_4 (dk_at dksX17_rounds_2 6 rfl rfl)
theorem dX17_rounds_53 : decode cX17_rounds 53 = .ok (.aload_n 0, 1) := dk_42 (dk_at dksX17_rounds_2 7 rfl rfl)
theorem dX17_rounds_54 : decode cX17_rounds 54 = .ok (.invokevirtual 23, 3) := dk_182 0 23 (dk_at dksX17_rounds_2 8 rfl rfl)
theorem dX17_rounds_57 : decode cX17_rounds 57 = .ok (.invokevirtual 27, 3) := dk_182 0 27 (dk_at dksX17_rounds_2 11 rfl rfl)
theorem dX17_rounds_60 : decode cX17_rounds 60 = .ok (.aload_n 0, 1) := dk_42 (dk_at dksX17_rounds_2 14 rfl rfl)
theorem dX17_rounds_61 : decode cX17_rounds 61 = .ok (.invokevirtual 31, 3) := dk_182 0 31 (dk_at dksX17_rounds_2 15 rfl rfl)
theorem dX17_rounds_64 : decode cX17_rounds 64 = .ok (.aload_n 0, 1) := dk_42 (dk_at dksX17_rounds_2 18 rfl rfl)
theorem dX17_rounds_65 : decode cX17_rounds 65 = .ok (.dup, 1) := dk_89 (dk_at dksX17_rounds_2 19 rfl rfl)
theorem dX17_rounds_66 : decode cX17_rounds 66 = .ok (.getfield 19, 3) := dk_180 0 19 (dk_at dksX17_rounds_2 20 rfl rfl)
theorem dX17_rounds_69 : decode cX17_rounds 69 = .ok (.iconst 1, 1) := dk_4 (dk_at dksX17_rounds_2 23 rfl rfl)
theorem dX17_rounds_70 : decode cX17_rounds 70 = .ok (.isub, 1) := dk_100 (dk_at dksX17_rounds_3 0 rfl rfl)
theorem dX17_rounds_71 : decode cX17_rounds 71 = .ok (.putfield 19, 3) := dk_181 0 19 (dk_at dksX17_rounds_3 1 rfl rfl)
theorem dX17_rounds_74 : decode cX17_rounds 74 = .ok (.return_, 1) := dk_177 (dk_at dksX17_rounds_3 4 rfl rfl)
theorem q140 : (Jvm.Cond.initialized "HighSpots$Guide") ∈ lw_all := lw_g (lw_at lw_m1 24 rfl) rfl
theorem q706 : (Jvm.Cond.selects "HighSpots$Guide" ({ cls := "HighSpots$Scribe", name := "sees", desc := "(II)Z" } : Jvm.MethodName) ({ cls := "HighSpots$Scribe", name := "sees", desc := "(II)Z" } : Jvm.MethodName)) ∈ lw_all := lw_g (lw_at lw_m3 110 rfl) rfl
theorem q729 : (Jvm.Cond.instantiable "HighSpots$Guide" (9 : Nat)) ∈ lw_all := lw_g (lw_at lw_m3 133 rfl) rfl
theorem q731 : (Jvm.Cond.instanceMethod ({ cls := "HighSpots$Guide", name := "<init>", desc := "(LHighSpots;I)V" } : Jvm.MethodName)) ∈ lw_all := lw_g (lw_at lw_m3 135 rfl) rfl
theorem q732 : (Jvm.Cond.code ({ cls := "HighSpots$Guide", name := "<init>", desc := "(LHighSpots;I)V" } : Jvm.MethodName) prog_7_method_1_code (3 : Nat) (Option.none : Option Jvm.ClassFile.FieldType)) ∈ lw_all := lw_g (lw_at lw_m3 136 rfl) rfl
theorem q733 : (Jvm.Cond.methodLink "HighSpots$Guide" (9 : Nat) ({ cls := "HighSpots$Scribe", name := "<init>", desc := "(LHighSpots;I)V" } : Jvm.MethodName)) ∈ lw_all := lw_g (lw_at lw_m3 137 rfl) rfl
theorem q734 : (Jvm.Cond.fieldLink "HighSpots$Guide" (15 : Nat) "HighSpots$Guide" "row" "[I") ∈ lw_all := lw_g (lw_at lw_m3 138 rfl) rfl
theorem q736 : (Jvm.Cond.fieldLink "HighSpots$Guide" (49 : Nat) "HighSpots$Guide" "many" "I") ∈ lw_all := lw_g (lw_at lw_m3 140 rfl) rfl
theorem q737 : (Jvm.Cond.fieldLink "HighSpots$Guide" (19 : Nat) "HighSpots$Guide" "depth" "I") ∈ lw_all := lw_g (lw_at lw_m3 141 rfl) rfl
theorem q738 : (Jvm.Cond.fieldLink "HighSpots$Guide" (3 : Nat) "HighSpots$Guide" "this$0" "LHighSpots;") ∈ lw_all := lw_g (lw_at lw_m3 142 rfl) rfl
theorem q739 : (Jvm.Cond.laysFinal "HighSpots$Guide" "HighSpots$Guide" "row" "[I") ∈ lw_all := lw_g (lw_at lw_m3 143 rfl) rfl
theorem q740 : (Jvm.Cond.soleField "HighSpots$Guide" "row") ∈ lw_all := lw_g (lw_at lw_m3 144 rfl) rfl
theorem q741 : (Jvm.Cond.lays "HighSpots$Guide" "HighSpots$Guide" "many" "I") ∈ lw_all := lw_g (lw_at lw_m3 145 rfl) rfl
theorem q742 : (Jvm.Cond.soleField "HighSpots$Guide" "many") ∈ lw_all := lw_g (lw_at lw_m3 146 rfl) rfl
theorem q743 : (Jvm.Cond.lays "HighSpots$Guide" "HighSpots$Guide" "depth" "I") ∈ lw_all := lw_g (lw_at lw_m3 147 rfl) rfl
theorem q744 : (Jvm.Cond.soleField "HighSpots$Guide" "depth") ∈ lw_all := lw_g (lw_at lw_m3 148 rfl) rfl
theorem q745 : (Jvm.Cond.laysFinal "HighSpots$Guide" "HighSpots$Guide" "this$0" "LHighSpots;") ∈ lw_all := lw_g (lw_at lw_m3 149 rfl) rfl
theorem q746 : (Jvm.Cond.soleField "HighSpots$Guide" "this$0") ∈ lw_all := lw_g (lw_at lw_m3 150 rfl) rfl
theorem q747 : (Jvm.Cond.laysFinal "HighSpots$Guide" "HighSpots$Scribe" "n" "I") ∈ lw_all := lw_g (lw_at lw_m3 151 rfl) rfl
theorem q748 : (Jvm.Cond.lays "HighSpots$Guide" "HighSpots$Scribe" "at" "I") ∈ lw_all := lw_g (lw_at lw_m3 152 rfl) rfl
theorem q749 : (Jvm.Cond.lays "HighSpots$Guide" "HighSpots$Scribe" "fault" "I") ∈ lw_all := lw_g (lw_at lw_m3 153 rfl) rfl
theorem q750 : (Jvm.Cond.lays "HighSpots$Guide" "HighSpots$Scribe" "place" "I") ∈ lw_all := lw_g (lw_at lw_m3 154 rfl) rfl
theorem q751 : (Jvm.Cond.laysFinal "HighSpots$Guide" "HighSpots$Scribe" "this$0" "LHighSpots;") ∈ lw_all := lw_g (lw_at lw_m3 155 rfl) rfl
theorem q752 : (Jvm.Cond.superclass "HighSpots$Guide" "HighSpots$Scribe") ∈ lw_all := lw_g (lw_at lw_m3 156 rfl) rfl
theorem q754 : (Jvm.Cond.instanceMethod ({ cls := "HighSpots$Guide", name := "read", desc := "()I" } : Jvm.MethodName)) ∈ lw_all := lw_g (lw_at lw_m3 158 rfl) rfl
theorem q755 : (Jvm.Cond.selects "HighSpots$Guide" ({ cls := "HighSpots$Guide", name := "read", desc := "()I" } : Jvm.MethodName) ({ cls := "HighSpots$Guide", name := "read", desc := "()I" } : Jvm.MethodName)) ∈ lw_all := lw_g (lw_at lw_m3 159 rfl) rfl
theorem q756 : (Jvm.Cond.code ({ cls := "HighSpots$Guide", name := "read", desc := "()I" } : Jvm.MethodName) prog_7_method_5_code (1 : Nat) (Option.some Jvm.ClassFile.FieldType.int)) ∈ lw_all := lw_g (lw_at lw_m3 160 rfl) rfl
theorem q757 : (Jvm.Cond.methodLink "HighSpots$Guide" (35 : Nat) ({ cls := "HighSpots$Guide", name := "all", desc := "()V" } : Jvm.MethodName)) ∈ lw_all := lw_g (lw_at lw_m3 161 rfl) rfl
theorem q758 : (Jvm.Cond.privateMethod ({ cls := "HighSpots$Guide", name := "all", desc := "()V" } : Jvm.MethodName)) ∈ lw_tbl := lw_at lw_m3 162 rfl
theorem q759 : (Jvm.Cond.instanceMethod ({ cls := "HighSpots$Guide", name := "all", desc := "()V" } : Jvm.MethodName)) ∈ lw_all := lw_g (lw_at lw_m3 163 rfl) rfl
theorem q760 : (Jvm.Cond.code ({ cls := "HighSpots$Guide", name := "all", desc := "()V" } : Jvm.MethodName) prog_7_method_4_code (2 : Nat) (Option.none : Option Jvm.ClassFile.FieldType)) ∈ lw_all := lw_g (lw_at lw_m3 164 rfl) rfl
theorem q761 : (Jvm.Cond.methodLink "HighSpots$Guide" (38 : Nat) ({ cls := "HighSpots$Guide", name := "isGood", desc := "()Z" } : Jvm.MethodName)) ∈ lw_all := lw_g (lw_at lw_m3 165 rfl) rfl
theorem q762 : (Jvm.Cond.sameMethod "HighSpots$Guide" "HighSpots$Scribe" "isGood" "()Z") ∈ lw_all := lw_g (lw_at lw_m3 166 rfl) rfl
theorem q763 : (Jvm.Cond.selects "HighSpots$Guide" ({ cls := "HighSpots$Guide", name := "isGood", desc := "()Z" } : Jvm.MethodName) ({ cls := "HighSpots$Scribe", name := "isGood", desc := "()Z" } : Jvm.MethodName)) ∈ lw_all := lw_g (lw_at lw_m3 167 rfl) rfl
theorem q764 : (Jvm.Cond.methodLink "HighSpots$Guide" (62 : Nat) ({ cls := "HighSpots$Guide", name := "one", desc := "()V" } : Jvm.MethodName)) ∈ lw_all := lw_g (lw_at lw_m3 168 rfl) rfl
theorem q765 : (Jvm.Cond.privateMethod ({ cls := "HighSpots$Guide", name := "one", desc := "()V" } : Jvm.MethodName)) ∈ lw_tbl := lw_at lw_m3 169 rfl
theorem q766 : (Jvm.Cond.instanceMethod ({ cls := "HighSpots$Guide", name := "one", desc := "()V" } : Jvm.MethodName)) ∈ lw_all := lw_g (lw_at lw_m3 170 rfl) rfl
theorem q767 : (Jvm.Cond.code ({ cls := "HighSpots$Guide", name := "one", desc := "()V" } : Jvm.MethodName) prog_7_method_3_code (7 : Nat) (Option.none : Option Jvm.ClassFile.FieldType)) ∈ lw_all := lw_g (lw_at lw_m3 171 rfl) rfl
theorem q768 : (Jvm.Cond.methodLink "HighSpots$Guide" (23 : Nat) ({ cls := "HighSpots$Guide", name := "place", desc := "()I" } : Jvm.MethodName)) ∈ lw_all := lw_g (lw_at lw_m3 172 rfl) rfl
theorem q769 : (Jvm.Cond.sameMethod "HighSpots$Guide" "HighSpots$Scribe" "place" "()I") ∈ lw_all := lw_g (lw_at lw_m3 173 rfl) rfl
theorem q770 : (Jvm.Cond.selects "HighSpots$Guide" ({ cls := "HighSpots$Guide", name := "place", desc := "()I" } : Jvm.MethodName) ({ cls := "HighSpots$Scribe", name := "place", desc := "()I" } : Jvm.MethodName)) ∈ lw_all := lw_g (lw_at lw_m3 174 rfl) rfl
theorem q771 : (Jvm.Cond.methodLink "HighSpots$Guide" (45 : Nat) ({ cls := "HighSpots$Guide", name := "times", desc := "(I)I" } : Jvm.MethodName)) ∈ lw_all := lw_g (lw_at lw_m3 175 rfl) rfl
theorem q772 : (Jvm.Cond.sameMethod "HighSpots$Guide" "HighSpots$Scribe" "times" "(I)I") ∈ lw_all := lw_g (lw_at lw_m3 176 rfl) rfl
theorem q773 : (Jvm.Cond.selects "HighSpots$Guide" ({ cls := "HighSpots$Guide", name := "times", desc := "(I)I" } : Jvm.MethodName) ({ cls := "HighSpots$Scribe", name := "times", desc := "(I)I" } : Jvm.MethodName)) ∈ lw_all := lw_g (lw_at lw_m3 177 rfl) rfl
theorem q774 : (Jvm.Cond.methodLink "HighSpots$Guide" (42 : Nat) ({ cls := "HighSpots$Guide", name := "here", desc := "()I" } : Jvm.MethodName)) ∈ lw_all := lw_g (lw_at lw_m3 178 rfl) rfl
theorem q775 : (Jvm.Cond.sameMethod "HighSpots$Guide" "HighSpots$Scribe" "here" "()I") ∈ lw_all := lw_g (lw_at lw_m3 179 rfl) rfl
theorem q776 : (Jvm.Cond.selects "HighSpots$Guide" ({ cls := "HighSpots$Guide", name := "here", desc := "()I" } : Jvm.MethodName) ({ cls := "HighSpots$Scribe", name := "here", desc := "()I" } : Jvm.MethodName)) ∈ lw_all := lw_g (lw_at lw_m3 180 rfl) rfl
theorem q777 : (Jvm.Cond.stringRef "HighSpots$Guide" (52 : Nat) "lrfb.") ∈ lw_tbl := lw_at lw_m3 181 rfl
theorem q778 : (Jvm.Cond.methodLink "HighSpots$Guide" (54 : Nat) ({ cls := "java/lang/String", name := "indexOf", desc := "(I)I" } : Jvm.MethodName)) ∈ lw_all := lw_g (lw_at lw_m3 182 rfl) rfl
theorem q779 : (Jvm.Cond.methodLink "HighSpots$Guide" (59 : Nat) ({ cls := "HighSpots$Guide", name := "rounds", desc := "()V" } : Jvm.MethodName)) ∈ lw_all := lw_g (lw_at lw_m3 183 rfl) rfl
theorem q780 : (Jvm.Cond.privateMethod ({ cls := "HighSpots$Guide", name := "rounds", desc := "()V" } : Jvm.MethodName)) ∈ lw_tbl := lw_at lw_m3 184 rfl
theorem q781 : (Jvm.Cond.instanceMethod ({ cls := "HighSpots$Guide", name := "rounds", desc := "()V" } : Jvm.MethodName)) ∈ lw_all := lw_g (lw_at lw_m3 185 rfl) rfl
theorem q782 : (Jvm.Cond.code ({ cls := "HighSpots$Guide", name := "rounds", desc := "()V" } : Jvm.MethodName) prog_7_method_2_code (1 : Nat) (Option.none : Option Jvm.ClassFile.FieldType)) ∈ lw_all := lw_g (lw_at lw_m3 186 rfl) rfl
theorem q783 : (Jvm.Cond.methodLink "HighSpots$Guide" (27 : Nat) ({ cls := "HighSpots$Guide", name := "bad", desc := "(II)V" } : Jvm.MethodName)) ∈ lw_all := lw_g (lw_at lw_m3 187 rfl) rfl
theorem q784 : (Jvm.Cond.sameMethod "HighSpots$Guide" "HighSpots$Scribe" "bad" "(II)V") ∈ lw_all := lw_g (lw_at lw_m3 188 rfl) rfl
theorem q785 : (Jvm.Cond.selects "HighSpots$Guide" ({ cls := "HighSpots$Guide", name := "bad", desc := "(II)V" } : Jvm.MethodName) ({ cls := "HighSpots$Scribe", name := "bad", desc := "(II)V" } : Jvm.MethodName)) ∈ lw_all := lw_g (lw_at lw_m3 189 rfl) rfl
theorem q786 : (Jvm.Cond.methodLink "HighSpots$Guide" (31 : Nat) ({ cls := "HighSpots$Guide", name := "goesOn", desc := "()V" } : Jvm.MethodName)) ∈ lw_all := lw_g (lw_at lw_m3 190 rfl) rfl
theorem q787 : (Jvm.Cond.sameMethod "HighSpots$Guide" "HighSpots$Scribe" "goesOn" "()V") ∈ lw_all := lw_g (lw_at lw_m3 191 rfl) rfl
theorem q788 : (Jvm.Cond.selects "HighSpots$Guide" ({ cls := "HighSpots$Guide", name := "goesOn", desc := "()V" } : Jvm.MethodName) ({ cls := "HighSpots$Scribe", name := "goesOn", desc := "()V" } : Jvm.MethodName)) ∈ lw_all := lw_g (lw_at lw_m3 192 rfl) rfl
theorem q789 : (Jvm.Cond.methodLink "HighSpots$Guide" (65 : Nat) ({ cls := "HighSpots$Guide", name := "isEnd", desc := "()Z" } : Jvm.MethodName)) ∈ lw_all := lw_g (lw_at lw_m3 193 rfl) rfl
theorem q790 : (Jvm.Cond.sameMethod "HighSpots$Guide" "HighSpots$Scribe" "isEnd" "()Z") ∈ lw_all := lw_g (lw_at lw_m3 194 rfl) rfl
theorem q791 : (Jvm.Cond.selects "HighSpots$Guide" ({ cls := "HighSpots$Guide", name := "isEnd", desc := "()Z" } : Jvm.MethodName) ({ cls := "HighSpots$Scribe", name := "isEnd", desc := "()Z" } : Jvm.MethodName)) ∈ lw_all := lw_g (lw_at lw_m3 195 rfl) rfl
theorem q792 : (Jvm.Cond.methodLink "HighSpots$Guide" (68 : Nat) ({ cls := "HighSpots$Guide", name := "answer", desc := "(I)I" } : Jvm.MethodName)) ∈ lw_all := lw_g (lw_at lw_m3 196 rfl) rfl
theorem q793 : (Jvm.Cond.sameMethod "HighSpots$Guide" "HighSpots$Scribe" "answer" "(I)I") ∈ lw_all := lw_g (lw_at lw_m3 197 rfl) rfl
theorem q794 : (Jvm.Cond.selects "HighSpots$Guide" ({ cls := "HighSpots$Guide", name := "answer", desc := "(I)I" } : Jvm.MethodName) ({ cls := "HighSpots$Scribe", name := "answer", desc := "(I)I" } : Jvm.MethodName)) ∈ lw_all := lw_g (lw_at lw_m3 198 rfl) rfl
theorem q1859 : (Jvm.Cond.selects "HighSpots$Guide" ({ cls := "HighSpots$Scribe", name := "isGood", desc := "()Z" } : Jvm.MethodName) ({ cls := "HighSpots$Scribe", name := "isGood", desc := "()Z" } : Jvm.MethodName)) ∈ lw_all := lw_g (lw_at lw_m8 63 rfl) rfl
theorem q1862 : (Jvm.Cond.selects "HighSpots$Guide" ({ cls := "HighSpots$Scribe", name := "here", desc := "()I" } : Jvm.MethodName) ({ cls := "HighSpots$Scribe", name := "here", desc := "()I" } : Jvm.MethodName)) ∈ lw_all := lw_g (lw_at lw_m8 66 rfl) rfl
theorem q1865 : (Jvm.Cond.selects "HighSpots$Guide" ({ cls := "HighSpots$Scribe", name := "bad", desc := "(II)V" } : Jvm.MethodName) ({ cls := "HighSpots$Scribe", name := "bad", desc := "(II)V" } : Jvm.MethodName)) ∈ lw_all := lw_g (lw_at lw_m8 69 rfl) rfl
theorem in_X17 : ∀ w ∈ wsX170, w ∈ lw_all := lw_in wsX170 [747, 748, 749, 750, 751, 739, 741, 743, 745] (by decide +kernel) (by decide +kernel)

end