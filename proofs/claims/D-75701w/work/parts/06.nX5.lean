section
/-! HighSpotsModel -/
set_option maxRecDepth 100000
def RX5 : String := "HighSpotsModel"
def TX5 : u_T := fun k => match k with
  | 0 => ("HighSpotsModel", "heights", "[I", true)
  | 1 => ("HighSpotsModel", "wornOf", "[I", true)
  | 2 => ("HighSpotsModel", "off", "[Z", true)
  | 3 => ("HighSpotsModel", "lot", "I", false)
  | 4 => ("HighSpotsModel", "night", "I", false)
  | 5 => ("HighSpotsModel", "tape", "[B", true)
  | 6 => ("HighSpotsModel", "taped", "I", false)
  | 7 => ("HighSpotsModel", "place0", "I", false)
  | 8 => ("HighSpotsModel", "length0", "I", false)
  | 9 => ("HighSpotsModel", "fault", "I", false)
  | 10 => ("HighSpotsModel", "number0", "I", false)
  | 11 => ("HighSpotsModel", "open", "I", false)
  | 12 => ("HighSpotsModel", "codeMany", "I", false)
  | 13 => ("HighSpotsModel", "waiting", "I", false)
  | 14 => ("HighSpotsModel", "saidMany", "I", false)
  | 15 => ("HighSpotsModel", "clauses", "I", false)
  | 16 => ("HighSpotsModel", "said", "[I", true)
  | 17 => ("HighSpotsModel", "waitsAt", "[I", true)
  | 18 => ("HighSpotsModel", "saidLetter", "[I", true)
  | 19 => ("HighSpotsModel", "saidFrom", "[I", true)
  | 20 => ("HighSpotsModel", "saidHalf", "[I", true)
  | 21 => ("HighSpotsModel", "saidTo", "[I", true)
  | 22 => ("HighSpotsModel", "codes", "[I", true)
  | 23 => ("HighSpotsModel", "clauseOf", "[I", true)
  | 24 => ("HighSpotsModel", "codeFrom", "[I", true)
  | 25 => ("HighSpotsModel", "codeHalf", "[I", true)
  | 26 => ("HighSpotsModel", "codeTo", "[I", true)
  | 27 => ("HighSpotsModel", "stack", "[I", true)
  | 28 => ("HighSpotsModel", "facts", "[I", true)
  | 29 => ("HighSpotsModel", "newHeights", "[I", true)
  | 30 => ("HighSpotsModel", "rowsTold", "I", false)
  | 31 => ("HighSpotsModel", "lines", "I", false)
  | 32 => ("HighSpotsModel", "put", "I", false)
  | 33 => ("HighSpotsModel", "times0", "I", false)
  | 34 => ("HighSpotsModel", "steps", "[I", true)
  | 35 => ("HighSpotsModel", "newSteps", "[I", true)
  | 36 => ("HighSpotsModel", "groupFrom", "[I", true)
  | 37 => ("HighSpotsModel", "groupTimes", "[I", true)
  | 38 => ("HighSpotsModel", "groupAt", "[I", true)
  | 39 => ("HighSpotsModel", "stepMany", "I", false)
  | 40 => ("HighSpotsModel", "newMany", "I", false)
  | 41 => ("HighSpotsModel", "depth", "I", false)
  | 42 => ("HighSpotsModel", "marked", "[Z", true)
  | 43 => ("HighSpotsModel", "openings", "[I", true)
  | 44 => ("HighSpotsModel", "stepsTo", "[I", true)
  | 45 => ("HighSpotsModel", "isIn", "[Z", true)
  | 46 => ("HighSpotsModel", "groupOf", "[I", true)
  | 47 => ("HighSpotsModel", "groupMany", "I", false)
  | 48 => ("HighSpotsModel", "groupMost", "I", false)
  | 49 => ("HighSpotsModel", "touching", "[I", true)
  | 50 => ("HighSpotsModel", "touchMany", "I", false)
  | 51 => ("HighSpotsModel", "climbOf", "[I", true)
  | 52 => ("HighSpotsModel", "glideA", "I", false)
  | 53 => ("HighSpotsModel", "glideB", "I", false)
  | 54 => ("HighSpotsModel", "comeBy", "[Z", true)
  | 55 => ("HighSpotsModel", "shelf", "[I", true)
  | _ => ("HighSpotsModel", "isKept", "Z", false)
def tyX5 : Nat → FieldType := fun k => match k with
  | 0 => .array .int
  | 1 => .array .int
  | 2 => .array .boolean
  | 3 => .int
  | 4 => .int
  | 5 => .array .byte
  | 6 => .int
  | 7 => .int
  | 8 => .int
  | 9 => .int
  | 10 => .int
  | 11 => .int
  | 12 => .int
  | 13 => .int
  | 14 => .int
  | 15 => .int
  | 16 => .array .int
  | 17 => .array .int
  | 18 => .array .int
  | 19 => .array .int
  | 20 => .array .int
  | 21 => .array .int
  | 22 => .array .int
  | 23 => .array .int
  | 24 => .array .int
  | 25 => .array .int
  | 26 => .array .int
  | 27 => .array .int
  | 28 => .array .int
  | 29 => .array .int
  | 30 => .int
  | 31 => .int
  | 32 => .int
  | 33 => .int
  | 34 => .array .int
  | 35 => .array .int
  | 36 => .array .int
  | 37 => .array .int
  | 38 => .array .int
  | 39 => .int
  | 40 => .int
  | 41 => .int
  | 42 => .array .boolean
  | 43 => .array .int
  | 44 => .array .int
  | 45 => .array .boolean
  | 46 => .array .int
  | 47 => .int
  | 48 => .int
  | 49 => .array .int
  | 50 => .int
  | 51 => .array .int
  | 52 => .int
  | 53 => .int
  | 54 => .array .boolean
  | 55 => .array .int
  | _ => .boolean
abbrev wsX50 : List Cond := u_ws RX5 TX5 57
set_option maxRecDepth 100000 in
theorem nmX5 : ∀ a, a < 57 → ∀ b, b < 57 → a ≠ b → (TX5 a).2.1 ≠ (TX5 b).2.1 := by decide +kernel
set_option maxRecDepth 100000 in
theorem tyX5_ok : ∀ k, k < 57 → parseFieldDescriptor (TX5 k).2.2.1 = some (tyX5 k) := by decide +kernel
abbrev cX5_init : ByteArray := prog_19_method_1_code
def yX5_init : MethodName := ⟨RX5, "<init>", "()V"⟩
def dkwX5_init_11 : List UInt8 := [188, 10, 181, 0, 105, 42, 4, 181, 0, 108, 177]
abbrev dktX5_init_11 : List UInt8 := dkwX5_init_11 ++ []
def dkwX5_init_10 : List UInt8 := [181, 0, 96, 42, 16, 48, 188, 10, 181, 0, 99, 42, 16, 63, 188, 4, 181, 0, 102, 42, 17, 0, 200]
abbrev dktX5_init_10 : List UInt8 := dkwX5_init_10 ++ dktX5_init_11
def dkwX5_init_9 : List UInt8 := [181, 0, 87, 42, 16, 48, 188, 4, 181, 0, 90, 42, 16, 48, 188, 10, 181, 0, 93, 42, 16, 48, 188, 10]
abbrev dktX5_init_9 : List UInt8 := dkwX5_init_9 ++ dktX5_init_10
def dkwX5_init_8 : List UInt8 := [181, 0, 78, 42, 16, 48, 188, 4, 181, 0, 81, 42, 16, 63, 188, 10, 181, 0, 84, 42, 16, 63, 188, 10]
abbrev dktX5_init_8 : List UInt8 := dkwX5_init_8 ++ dktX5_init_9
def dkwX5_init_7 : List UInt8 := [188, 10, 181, 0, 69, 42, 6, 188, 10, 181, 0, 72, 42, 6, 188, 10, 181, 0, 75, 42, 6, 188, 10]
abbrev dktX5_init_7 : List UInt8 := dkwX5_init_7 ++ dktX5_init_8
def dkwX5_init_6 : List UInt8 := [188, 10, 181, 0, 60, 42, 16, 96, 188, 10, 181, 0, 63, 42, 16, 48, 188, 10, 181, 0, 66, 42, 16, 48]
abbrev dktX5_init_6 : List UInt8 := dkwX5_init_6 ++ dktX5_init_7
def dkwX5_init_5 : List UInt8 := [181, 0, 51, 42, 16, 16, 188, 10, 181, 0, 54, 42, 17, 1, 4, 188, 10, 181, 0, 57, 42, 16, 10]
abbrev dktX5_init_5 : List UInt8 := dkwX5_init_5 ++ dktX5_init_6
def dkwX5_init_4 : List UInt8 := [181, 0, 42, 42, 16, 16, 188, 10, 181, 0, 45, 42, 16, 16, 188, 10, 181, 0, 48, 42, 16, 16, 188, 10]
abbrev dktX5_init_4 : List UInt8 := dkwX5_init_4 ++ dktX5_init_5
def dkwX5_init_3 : List UInt8 := [42, 16, 16, 188, 10, 181, 0, 36, 42, 16, 16, 188, 10, 181, 0, 39, 42, 17, 1, 4, 188, 10]
abbrev dktX5_init_3 : List UInt8 := dkwX5_init_3 ++ dktX5_init_4
def dkwX5_init_2 : List UInt8 := [17, 1, 4, 188, 10, 181, 0, 27, 42, 16, 16, 188, 10, 181, 0, 30, 42, 16, 16, 188, 10, 181, 0, 33]
abbrev dktX5_init_2 : List UInt8 := dkwX5_init_2 ++ dktX5_init_3
def dkwX5_init_1 : List UInt8 := [181, 0, 16, 42, 17, 1, 4, 188, 8, 181, 0, 20, 42, 17, 1, 4, 188, 10, 181, 0, 24, 42]
abbrev dktX5_init_1 : List UInt8 := dkwX5_init_1 ++ dktX5_init_2
def dkwX5_init_0 : List UInt8 := [42, 183, 0, 1, 42, 16, 96, 188, 10, 181, 0, 7, 42, 5, 188, 10, 181, 0, 13, 42, 16, 48, 188, 4]
abbrev dktX5_init_0 : List UInt8 := dkwX5_init_0 ++ dktX5_init_1
theorem dksX5_init_0 : cX5_init.data.toList.drop 0 = dktX5_init_0 := by decide +kernel
theorem dksX5_init_1 : cX5_init.data.toList.drop 24 = dktX5_init_1 := dk_seg dksX5_init_0 24 rfl rfl
theorem dksX5_init_2 : cX5_init.data.toList.drop 46 = dktX5_init_2 := dk_seg dksX5_init_1 22 rfl rfl
theorem dksX5_init_3 : cX5_init.data.toList.drop 70 = dktX5_init_3 := dk_seg dksX5_init_2 24 rfl rfl
theorem dksX5_init_4 : cX5_init.data.toList.drop 92 = dktX5_init_4 := dk_seg dksX5_init_3 22 rfl rfl
theorem dksX5_init_5 : cX5_init.data.toList.drop 116 = dktX5_init_5 := dk_seg dksX5_init_4 24 rfl rfl
theorem dksX5_init_6 : cX5_init.data.toList.drop 139 = dktX5_init_6 := dk_seg dksX5_init_5 23 rfl rfl
theorem dksX5_init_7 : cX5_init.data.toList.drop 163 = dktX5_init_7 := dk_seg dksX5_init_6 24 rfl rfl
theorem dksX5_init_8 : cX5_init.data.toList.drop 186 = dktX5_init_8 := dk_seg dksX5_init_7 23 rfl rfl
theorem dksX5_init_9 : cX5_init.data.toList.drop 210 = dktX5_init_9 := dk_seg dksX5_init_8 24 rfl rfl
theorem dksX5_init_10 : cX5_init.data.toList.drop 234 = dktX5_init_10 := dk_seg dksX5_init_9 24 rfl rfl
theorem dksX5_init_11 : cX5_init.data.toList.drop 257 = dktX5_init_11 := dk_seg dksX5_init_10 23 rfl rfl
theorem dX5_init_0 : decode cX5_init 0 = .ok (.aload_n 0, 1) := dk_42 (dk_at dksX5_init_0 0 rfl rfl)
theorem dX5_init_1 : decode cX5_init 1 = .ok (.invokespecial 1, 3) := dk_183 0 1 (dk_at dksX5_init_0 1 rfl rfl)
theorem dX5_init_4 : decode cX5_init 4 = .ok (.aload_n 0, 1) := dk_42 (dk_at dksX5_init_0 4 rfl rfl)
theorem dX5_init_5 : decode cX5_init 5 = .ok (.bipush 96, 2) := dk_16 96 (dk_at dksX5_init_0 5 rfl rfl)
theorem dX5_init_7 : decode cX5_init 7 = .ok (.newarray .int, 2) := dk_188_10 (dk_at dksX5_init_0 7 rfl rfl)
theorem dX5_init_9 : decode cX5_init 9 = .ok (.putfield 7, 3) := dk_181 0 7 (dk_at dksX5_init_0 9 rfl rfl)
theorem dX5_init_12 : decode cX5_init 12 = .ok (.aload_n 0, 1) := dk_42 (dk_at dksX5_init_0 12 rfl rfl)
theorem dX5_init_13 : decode cX5_init 13 = .ok (.iconst 2, 1) := dk_5 (dk_at dksX5_init_0 13 rfl rfl)
theorem dX5_init_14 : decode cX5_init 14 = .ok (.newarray .int, 2) := dk_188_10 (dk_at dksX5_init_0 14 rfl rfl)
theorem dX5_init_16 : decode cX5_init 16 = .ok (.putfield 13, 3) := dk_181 0 13 (dk_at dksX5_init_0 16 rfl rfl)
theorem dX5_init_19 : decode cX5_init 19 = .ok (.aload_n 0, 1) := dk_42 (dk_at dksX5_init_0 19 rfl rfl)
theorem dX5_init_20 : decode cX5_init 20 = .ok (.bipush 48, 2) := dk_16 48 (dk_at dksX5_init_0 20 rfl rfl)
theorem dX5_init_22 : decode cX5_init 22 = .ok (.newarray .boolean, 2) := dk_188_4 (dk_at dksX5_init_0 22 rfl rfl)
theorem dX5_init_24 : decode cX5_init 24 = .ok (.putfield 16, 3) := dk_181 0 16 (dk_at dksX5_init_1 0 rfl rfl)
theorem dX5_init_27 : decode cX5_init 27 = .ok (.aload_n 0, 1) := dk_42 (dk_at dksX5_init_1 3 rfl rfl)
theorem dX5_init_28 : decode cX5_init 28 = .ok (.sipush 260, 3) := dk_17 1 4 (dk_at dksX5_init_1 4 rfl rfl)
theorem dX5_init_31 : decode cX5_init 31 = .ok (.newarray .byte, 2) := dk_188_8 (dk_at dksX5_init_1 7 rfl rfl)
theorem dX5_init_33 : decode cX5_init 33 = .ok (.putfield 20, 3) := dk_181 0 20 (dk_at dksX5_init_1 9 rfl rfl)
theorem dX5_init_36 : decode cX5_init 36 = .ok (.aload_n 0, 1) := dk_42 (dk_at dksX5_init_1 12 rfl rfl)
theorem dX5_init_37 : decode cX5_init 37 = .ok (.sipush 260, 3) := dk_17 1 4 (dk_at dksX5_init_1 13 rfl rfl)
theorem dX5_init_40 : decode cX5_init 40 = .ok (.newarray .int, 2) := dk_188_10 (dk_at dksX5_init_1 16 rfl rfl)
theorem dX5_init_42 : decode cX5_init 42 = .ok (.putfield 24, 3) := dk_181 0 24 (dk_at dksX5_init_1 18 rfl rfl)
theorem dX5_init_45 : decode cX5_init 45 = .ok (.aload_n 0, 1) := dk_42 (dk_at dksX5_init_1 21 rfl rfl)
theorem dX5_init_46 : decode cX5_init 46 = .ok (.sipush 260, 3) := dk_17 1 4 (dk_at dksX5_init_2 0 rfl rfl)
theorem dX5_init_49 : decode cX5_init 49 = .ok (.newarray .int, 2) := dk_188_10 (dk_at dksX5_init_2 3 rfl rfl)
theorem dX5_init_51 : decode cX5_init 51 = .ok (.putfield 27, 3) := dk_181 0 27 (dk_at dksX5_init_2 5 rfl rfl)
theorem dX5_init_54 : decode cX5_init 54 = .ok (.aload_n 0, 1) := dk_42 (dk_at dksX5_init_2 8 rfl rfl)
theorem dX5_init_55 : decode cX5_init 55 = .ok (.bipush 16, 2) := dk_16 16 (dk_at dksX5_init_2 9 rfl rfl)
theorem dX5_init_57 : decode cX5_init 57 = .ok (.newarray .int, 2) := dk_188_10 (dk_at dksX5_init_2 11 rfl rfl)
theorem dX5_init_59 : decode cX5_init 59 = .ok (.putfield 30, 3) := dk_181 0 30 (dk_at dksX5_init_2 13 rfl rfl)
theorem dX5_init_62 : decode cX5_init 62 = .ok (.aload_n 0, 1) := dk_42 (dk_at dksX5_init_2 16 rfl rfl)
theorem dX5_init_63 : decode cX5_init 63 = .ok (.bipush 16, 2) := dk_16 16 (dk_at dksX5_init_2 17 rfl rfl)
theorem dX5_init_65 : decode cX5_init 65 = .ok (.newarray .int, 2) := dk_188_10 (dk_at dksX5_init_2 19 rfl rfl)
theorem dX5_init_67 : decode cX5_init 67 = .ok (.putfield 33, 3) := dk_181 0 33 (dk_at dksX5_init_2 21 rfl rfl)
theorem dX5_init_70 : decode cX5_init 70 = .ok (.aload_n 0, 1) := dk_42 (dk_at dksX5_init_3 0 rfl rfl)
theorem dX5_init_71 : decode cX5_init 71 = .ok (.bipush 16, 2) := dk_16 16 (dk_at dksX5_init_3 1 rfl rfl)
theorem dX5_init_73 : decode cX5_init 73 = .ok (.newarray .int, 2) := dk_188_10 (dk_at dksX5_init_3 3 rfl rfl)
theorem dX5_init_75 : decode cX5_init 75 = .ok (.putfield 36, 3) := dk_181 0 36 (dk_at dksX5_init_3 5 rfl rfl)
theorem dX5_init_78 : decode cX5_init 78 = .ok (.aload_n 0, 1) := dk_42 (dk_at dksX5_init_3 8 rfl rfl)
theorem dX5_init_79 : decode cX5_init 79 = .ok (.bipush 16, 2) := dk_16 16 (dk_at dksX5_init_3 9 rfl rfl)
theorem dX5_init_81 : decode cX5_init 81 = .ok (.newarray .int, 2) := dk_188_10 (dk_at dksX5_init_3 11 rfl rfl)
theorem dX5_init_83 : decode cX5_init 83 = .ok (.putfield 39, 3) := dk_181 0 39 (dk_at dksX5_init_3 13 rfl rfl)
theorem dX5_init_86 : decode cX5_init 86 = .ok (.aload_n 0, 1) := dk_42 (dk_at dksX5_init_3 16 rfl rfl)
theorem dX5_init_87 : decode cX5_init 87 = .ok (.sipush 260, 3) := dk_17 1 4 (dk_at dksX5_init_3 17 rfl rfl)
theorem dX5_init_90 : decode cX5_init 90 = .ok (.newarray .int, 2) := dk_188_10 (dk_at dksX5_init_3 20 rfl rfl)
theorem dX5_init_92 : decode cX5_init 92 = .ok (.putfield 42, 3) := dk_181 0 42 (dk_at dksX5_init_4 0 rfl rfl)
theorem dX5_init_95 : decode cX5_init 95 = .ok (.aload_n 0, 1) := dk_42 (dk_at dksX5_init_4 3 rfl rfl)
theorem dX5_init_96 : decode cX5_init 96 = .ok (.bipush 16, 2) := dk_16 16 (dk_at dksX5_init_4 4 rfl rfl)
theorem dX5_init_98 : decode cX5_init 98 = .ok (.newarray .int, 2) := dk_188_10 (dk_at dksX5_init_4 6 rfl rfl)
theorem dX5_init_100 : decode cX5_init 100 = .ok (.putfield 45, 3) := dk_181 0 45 (dk_at dksX5_init_4 8 rfl rfl)
theorem dX5_init_103 : decode cX5_init 103 = .ok (.aload_n 0, 1) := dk_42 (dk_at dksX5_init_4 11 rfl rfl)
theorem dX5_init_104 : decode cX5_init 104 = .ok (.bipush 16, 2) := dk_16 16 (dk_at dksX5_init_4 12 rfl rfl)
theorem dX5_init_106 : decode cX5_init 106 = .ok (.newarray .int, 2) := dk_188_10 (dk_at dksX5_init_4 14 rfl rfl)
theorem dX5_init_108 : decode cX5_init 108 = .ok (.putfield 48, 3) := dk_181 0 48 (dk_at dksX5_init_4 16 rfl rfl)
theorem dX5_init_111 : decode cX5_init 111 = .ok (.aload_n 0, 1) := dk_42 (dk_at dksX5_init_4 19 rfl rfl)
theorem dX5_init_112 : decode cX5_init 112 = .ok (.bipush 16, 2) := dk_16 16 (dk_at dksX5_init_4 20 rfl rfl)
theorem dX5_init_114 : decode cX5_init 114 = .ok (.newarray .int, 2) := dk_188_10 (dk_at dksX5_init_4 22 rfl rfl)
theorem dX5_init_116 : decode cX5_init 116 = .ok (.putfield 51, 3) := dk_181 0 51 (dk_at dksX5_init_5 0 rfl rfl)
theorem dX5_init_119 : decode cX5_init 119 = .ok (.aload_n 0, 1) := dk_42 (dk_at dksX5_init_5 3 rfl rfl)
theorem dX5_init_120 : decode cX5_init 120 = .ok (.bipush 16, 2) := dk_16 16 (dk_at dksX5_init_5 4 rfl rfl)
theorem dX5_init_122 : decode cX5_init 122 = .ok (.newarray .int, 2) := dk_188_10 (dk_at dksX5_init_5 6 rfl rfl)
theorem dX5_init_124 : decode cX5_init 124 = .ok (.putfield 54, 3) := dk_181 0 54 (dk_at dksX5_init_5 8 rfl rfl)
theorem dX5_init_127 : decode cX5_init 127 = .ok (.aload_n 0, 1) := dk_42 (dk_at dksX5_init_5 11 rfl rfl)
theorem dX5_init_128 : decode cX5_init 128 = .ok (.sipush 260, 3) := dk_17 1 4 (dk_at dksX5_init_5 12 rfl rfl)
theorem dX5_init_131 : decode cX5_init 131 = .ok (.newarray .int, 2) := dk_188_10 (dk_at dksX5_init_5 15 rfl rfl)
theorem dX5_init_133 : decode cX5_init 133 = .ok (.putfield 57, 3) := dk_181 0 57 (dk_at dksX5_init_5 17 rfl rfl)
theorem dX5_init_136 : decode cX5_init 136 = .ok (.aload_n 0, 1) := dk_42 (dk_at dksX5_init_5 20 rfl rfl)
theorem dX5_init_137 : decode cX5_init 137 = .ok (.bipush 10, 2) := dk_16 10 (dk_at dksX5_init_5 21 rfl rfl)
theorem dX5_init_139 : decode cX5_init 139 = .ok (.newarray .int, 2) := dk_188_10 (dk_at dksX5_init_6 0 rfl rfl)
theorem dX5_init_141 : decode cX5_init 141 = .ok (.putfield 60, 3) := dk_181 0 60 (dk_at dksX5_init_6 2 rfl rfl)
theorem dX5_init_144 : decode cX5_init 144 = .ok (.aload_n 0, 1) := dk_42 (dk_at dksX5_init_6 5 rfl rfl)
theorem dX5_init_145 : decode cX5_init 145 = .ok (.bipush 96, 2) := dk_16 96 (dk_at dksX5_init_6 6 rfl rfl)
theorem dX5_init_147 : decode cX5_init 147 = .ok (.newarray .int, 2) := dk_188_10 (dk_at dksX5_init_6 8 rfl rfl)
theorem dX5_init_149 : decode cX5_init 149 = .ok (.putfield 63, 3) := dk_181 0 63 (dk_at dksX5_init_6 10 rfl rfl)
theorem dX5_init_152 : decode cX5_init 152 = .ok (.aload_n 0, 1) := dk_42 (dk_at dksX5_init_6 13 rfl rfl)
theorem dX5_init_153 : decode cX5_init 153 = .ok (.bipush 48, 2) := dk_16 48 (dk_at dksX5_init_6 14 rfl rfl)
theorem dX5_init_155 : decode cX5_init 155 = .ok (.newarray .int, 2) := dk_188_10 (dk_at dksX5_init_6 16 rfl rfl)
theorem dX5_init_157 : decode cX5_init 157 = .ok (.putfield 66, 3) := dk_181 0 66 (dk_at dksX5_init_6 18 rfl rfl)
theorem dX5_init_160 : decode cX5_init 160 = .ok (.aload_n 0, 1) := dk_42 (dk_at dksX5_init_6 21 rfl rfl)
theorem dX5_init_161 : decode cX5_init 161 = .ok (.bipush 48, 2) := dk_16 48 (dk_at dksX5_init_6 22 rfl rfl)
theorem dX5_init_163 : decode cX5_init 163 = .ok (.newarray .int, 2) := dk_188_10 (dk_at dksX5_init_7 0 rfl rfl)
theorem dX5_init_165 : decode cX5_init 165 = .ok (.putfield 69, 3) := dk_181 0 69 (dk_at dksX5_init_7 2 rfl rfl)
theorem dX5_init_168 : decode cX5_init 168 = .ok (.aload_n 0, 1) := dk_42 (dk_at dksX5_init_7 5 rfl rfl)
theorem dX5_init_169 : decode cX5_init 169 = .ok (.iconst 3, 1) := dk_6 (dk_at dksX5_init_7 6 rfl rfl)
theorem dX5_init_170 : decode cX5_init 170 = .ok (.newarray .int, 2) := dk_188_10 (dk_at dksX5_init_7 7 rfl rfl)
theorem dX5_init_172 : decode cX5_init 172 = .ok (.putfield 72, 3) := dk_181 0 72 (dk_at dksX5_init_7 9 rfl rfl)
theorem dX5_init_175 : decode cX5_init 175 = .ok (.aload_n 0, 1) := dk_42 (dk_at dksX5_init_7 12 rfl rfl)
theorem dX5_init_176 : decode cX5_init 176 = .ok (.iconst 3, 1) := dk_6 (dk_at dksX5_init_7 13 rfl rfl)
theorem dX5_init_177 : decode cX5_init 177 = .ok (.newarray .int, 2) := dk_188_10 (dk_at dksX5_init_7 14 rfl rfl)
theorem dX5_init_179 : decode cX5_init 179 = .ok (.putfield 75, 3) := dk_181 0 75 (dk_at dksX5_init_7 16 rfl rfl)
theorem dX5_init_182 : decode cX5_init 182 = .ok (.aload_n 0, 1) := dk_42 (dk_at dksX5_init_7 19 rfl rfl)
theorem dX5_init_183 : decode cX5_init 183 = .ok (.iconst 3, 1) := dk_6 (dk_at dksX5_init_7 20 rfl rfl)
theorem dX5_init_184 : decode cX5_init 184 = .ok (.newarray .int, 2) := dk_188_10 (dk_at dksX5_init_7 21 rfl rfl)
theorem dX5_init_186 : decode cX5_init 186 = .ok (.putfield 78, 3) := dk_181 0 78 (dk_at dksX5_init_8 0 rfl rfl)
theorem dX5_init_189 : decode cX5_init 189 = .ok (.aload_n 0, 1) := dk_42 (dk_at dksX5_init_8 3 rfl rfl)
theorem dX5_init_190 : decode cX5_init 190 = .ok (.bipush 48, 2) := dk_16 48 (dk_at dksX5_init_8 4 rfl rfl)
theorem dX5_init_192 : decode cX5_init 192 = .ok (.newarray .boolean, 2) := dk_188_4 (dk_at dksX5_init_8 6 rfl rfl)
theorem dX5_init_194 : decode cX5_init 194 = .ok (.putfield 81, 3) := dk_181 0 81 (dk_at dksX5_init_8 8 rfl rfl)
theorem dX5_init_197 : decode cX5_init 197 = .ok (.aload_n 0, 1) := dk_42 (dk_at dksX5_init_8 11 rfl rfl)
theorem dX5_init_198 : decode cX5_init 198 = .ok (.bipush 63, 2) := dk_16 63 (dk_at dksX5_init_8 12 rfl rfl)
theorem dX5_init_200 : decode cX5_init 200 = .ok (.newarray .int, 2) := dk_188_10 (dk_at dksX5_init_8 14 rfl rfl)
theorem dX5_init_202 : decode cX5_init 202 = .ok (.putfield 84, 3) := dk_181 0 84 (dk_at dksX5_init_8 16 rfl rfl)
theorem dX5_init_205 : decode cX5_init 205 = .ok (.aload_n 0, 1) := dk_42 (dk_at dksX5_init_8 19 rfl rfl)
theorem dX5_init_206 : decode cX5_init 206 = .ok (.bipush 63, 2) := dk_16 63 (dk_at dksX5_init_8 20 rfl rfl)
theorem dX5_init_208 : decode cX5_init 208 = .ok (.newarray .int, 2) := dk_188_10 (dk_at dksX5_init_8 22 rfl rfl)
theorem dX5_init_210 : decode cX5_init 210 = .ok (.putfield 87, 3) := dk_181 0 87 (dk_at dksX5_init_9 0 rfl rfl)
theorem dX5_init_213 : decode cX5_init 213 = .ok (.aload_n 0, 1) := dk_42 (dk_at dksX5_init_9 3 rfl rfl)
theorem dX5_init_214 : decode cX5_init 214 = .ok (.bipush 48, 2) := dk_16 48 (dk_at dksX5_init_9 4 rfl rfl)
theorem dX5_init_216 : decode cX5_init 216 = .ok (.newarray .boolean, 2) := dk_188_4 (dk_at dksX5_init_9 6 rfl rfl)
theorem dX5_init_218 : decode cX5_init 218 = .ok (.putfield 90, 3) := dk_181 0 90 (dk_at dksX5_init_9 8 rfl rfl)
theorem dX5_init_221 : decode cX5_init 221 = .ok (.aload_n 0, 1) := dk_42 (dk_at dksX5_init_9 11 rfl rfl)
theorem dX5_init_222 : decode cX5_init 222 = .ok (.bipush 48, 2) := dk_16 48 (dk_at dksX5_init_9 12 rfl rfl)
theorem dX5_init_224 : decode cX5_init 224 = .ok (.newarray .int, 2) := dk_188_10 (dk_at dksX5_init_9 14 rfl rfl)
theorem dX5_init_226 : decode cX5_init 226 = .ok (.putfield 93, 3) := dk_181 0 93 (dk_at dksX5_init_9 16 rfl rfl)
theorem dX5_init_229 : decode cX5_init 229 = .ok (.aload_n 0, 1) := dk_42 (dk_at dksX5_init_9 19 rfl rfl)
theorem dX5_init_230 : decode cX5_init 230 = .ok (.bipush 48, 2) := dk_16 48 (dk_at dksX5_init_9 20 rfl rfl)
theorem dX5_init_232 : decode cX5_init 232 = .ok (.newarray .int, 2) := dk_188_10 (dk_at dksX5_init_9 22 rfl rfl)
theorem dX5_init_234 : decode cX5_init 234 = .ok (.putfield 96, 3) := dk_181 0 96 (dk_at dksX5_init_10 0 rfl rfl)
theorem dX5_init_237 : decode cX5_init 237 = .ok (.aload_n 0, 1) := dk_42 (dk_at dksX5_init_10 3 rfl rfl)
theorem dX5_init_238 : decode cX5_init 238 = .ok (.bipush 48, 2) := dk_16 48 (dk_at dksX5_init_10 4 rfl rfl)
theorem dX5_init_240 : decode cX5_init 240 = .ok (.newarray .int, 2) := dk_188_10 (dk_at dksX5_init_10 6 rfl rfl)
theorem dX5_init_242 : decode cX5_init 242 = .ok (.putfield 99, 3) := dk_181 0 99 (dk_at dksX5_init_10 8 rfl rfl)
theorem dX5_init_245 : decode cX5_init 245 = .ok (.aload_n 0, 1) := dk_42 (dk_at dksX5_init_10 11 rfl rfl)
theorem dX5_init_246 : decode cX5_init 246 = .ok (.bipush 63, 2) := dk_16 63 (dk_at dksX5_init_10 12 rfl rfl)
theorem dX5_init_248 : decode cX5_init 248 = .ok (.newarray .boolean, 2) := dk_188_4 (dk_at dksX5_init_10 14 rfl rfl)
theorem dX5_init_250 : decode cX5_init 250 = .ok (.putfield 102, 3) := dk_181 0 102 (dk_at dksX5_init_10 16 rfl rfl)
theorem dX5_init_253 : decode cX5_init 253 = .ok (.aload_n 0, 1) := dk_42 (dk_at dksX5_init_10 19 rfl rfl)
theorem dX5_init_254 : decode cX5_init 254 = .ok (.sipush 200, 3) := dk_17 0 200 (dk_at dksX5_init_10 20 rfl rfl)
theorem dX5_init_257 : decode cX5_init 257 = .ok (.newarray .int, 2) := dk_188_10 (dk_at dksX5_init_11 0 rfl rfl)
theorem dX5_init_259 : decode cX5_init 259 = .ok (.putfield 105, 3) := dk_181 0 105 (dk_at dksX5_init_11 2 rfl rfl)
theorem dX5_init_262 : decode cX5_init 262 = .ok (.aload_n 0, 1) := dk_42 (dk_at dksX5_init_11 5 rfl rfl)
theorem dX5_init_263 : decode cX5_init 263 = .ok (.iconst 1, 1) := dk_4 (dk_at dksX5_init_11 6 rfl rfl)
theorem dX5_init_264 : decode cX5_init 264 = .ok (.putfield 108, 3) := dk_181 0 108 (dk_at dksX5_init_11 7 rfl rfl)
theorem dX5_init_267 : decode cX5_init 267 = .ok (.return_, 1) := dk_177 (dk_at dksX5_init_11 10 rfl rfl)
abbrev cX5_height : ByteArray := prog_19_method_10_code
def yX5_height : MethodName := ⟨RX5, "height", "(III)Z"⟩
def dkwX5_height_1 : List UInt8 := [3, 172, 42, 180, 0, 7, 16, 48, 27, 104, 28, 96, 29, 79, 4, 172]
abbrev dktX5_height_1 : List UInt8 := dkwX5_height_1 ++ []
def dkwX5_height_0 : List UInt8 := [27, 184, 0, 117, 153, 0, 20, 28, 184, 0, 121, 153, 0, 13, 29, 3, 16, 25, 184, 0, 112, 154, 0, 5]
abbrev dktX5_height_0 : List UInt8 := dkwX5_height_0 ++ dktX5_height_1
theorem dksX5_height_0 : cX5_height.data.toList.drop 0 = dktX5_height_0 := by decide +kernel
theorem dksX5_height_1 : cX5_height.data.toList.drop 24 = dktX5_height_1 := dk_seg dksX5_height_0 24 rfl rfl
theorem dX5_height_0 : decode cX5_height 0 = .ok (.iload_n 1, 1) := dk_27 (dk_at dksX5_height_0 0 rfl rfl)
theorem dX5_height_1 : decode cX5_height 1 = .ok (.invokestatic 117, 3) := dk_184 0 117 (dk_at dksX5_height_0 1 rfl rfl)
theorem dX5_height_4 : decode cX5_height 4 = .ok (.ifCond .eq 20, 3) := dk_153 0 20 (dk_at dksX5_height_0 4 rfl rfl)
theorem dX5_height_7 : decode cX5_height 7 = .ok (.iload_n 2, 1) := dk_28 (dk_at dksX5_height_0 7 rfl rfl)
theorem dX5_height_8 : decode cX5_height 8 = .ok (.invokestatic 121, 3) := dk_184 0 121 (dk_at dksX5_height_0 8 rfl rfl)
theorem dX5_height_11 : decode cX5_height 11 = .ok (.ifCond .eq 13, 3) := dk_153 0 13 (dk_at dksX5_height_0 11 rfl rfl)
theorem dX5_height_14 : decode cX5_height 14 = .ok (.iload_n 3, 1) := dk_29 (dk_at dksX5_height_0 14 rfl rfl)
theorem dX5_height_15 : decode cX5_height 15 = .ok (.iconst 0, 1) := dk_3 (dk_at dksX5_height_0 15 rfl rfl)
theorem dX5_height_16 : decode cX5_height 16 = .ok (.bipush 25, 2) := dk_16 25 (dk_at dksX5_height_0 16 rfl rfl)
theorem dX5_height_18 : decode cX5_height 18 = .ok (.invokestatic 112, 3) := dk_184 0 112 (dk_at dksX5_height_0 18 rfl rfl)
theorem dX5_height_21 : decode cX5_height 21 = .ok (.ifCond .ne 5, 3) := dk_154 0 5 (dk_at dksX5_height_0 21 rfl rfl)
theorem dX5_height_24 : decode cX5_height 24 = .ok (.iconst 0, 1) := dk_3 (dk_at dksX5_height_1 0 rfl rfl)
theorem dX5_height_25 : decode cX5_height 25 = .ok (.ireturn, 1) := dk_172 (dk_at dksX5_height_1 1 rfl rfl)
theorem dX5_height_26 : decode cX5_height 26 = .ok (.aload_n 0, 1) := dk_42 (dk_at dksX5_height_1 2 rfl rfl)
theorem dX5_height_27 : decode cX5_height 27 = .ok (.getfield 7, 3) := dk_180 0 7 (dk_at dksX5_height_1 3 rfl rfl)
theorem dX5_height_30 : decode cX5_height 30 = .ok (.bipush 48, 2) := dk_16 48 (dk_at dksX5_height_1 6 rfl rfl)
theorem dX5_height_32 : decode cX5_height 32 = .ok (.iload_n 1, 1) := dk_27 (dk_at dksX5_height_1 8 rfl rfl)
theorem dX5_height_33 : decode cX5_height 33 = .ok (.imul, 1) := dk_104 (dk_at dksX5_height_1 9 rfl rfl)
theorem dX5_height_34 : decode cX5_height 34 = .ok (.iload_n 2, 1) := dk_28 (dk_at dksX5_height_1 10 rfl rfl)
theorem dX5_height_35 : decode cX5_height 35 = .ok (.iadd, 1) := dk_96 (dk_at dksX5_height_1 11 rfl rfl)
theorem dX5_height_36 : decode cX5_height 36 = .ok (.iload_n 3, 1) := dk_29 (dk_at dksX5_height_1 12 rfl rfl)
theorem dX5_height_37 : decode cX5_height 37 = .ok (.iastore, 1) := dk_79 (dk_at dksX5_height_1 13 rfl rfl)
theorem dX5_height_38 : decode cX5_height 38 = .ok (.iconst 1, 1) := dk_4 (dk_at dksX5_height_1 14 rfl rfl)
theorem dX5_height_39 : decode cX5_height 39 = .ok (.ireturn, 1) := dk_172 (dk_at dksX5_height_1 15 rfl rfl)
abbrev cX5_isCast : ByteArray := prog_19_method_5_code
def yX5_isCast : MethodName := ⟨RX5, "isCast", "(I)Z"⟩
def dkwX5_isCast_0 : List UInt8 := [26, 3, 4, 184, 0, 112, 172]
abbrev dktX5_isCast_0 : List UInt8 := dkwX5_isCast_0 ++ []
theorem dksX5_isCast_0 : cX5_isCast.data.toList.drop 0 = dktX5_isCast_0 := by decide +kernel
theorem dX5_isCast_0 : decode cX5_isCast 0 = .ok (.iload_n 0, 1) := dk_26 (dk_at dksX5_isCast_0 0 rfl rfl)
theorem dX5_isCast_1 : decode cX5_isCast 1 = .ok (.iconst 0, 1) := dk_3 (dk_at dksX5_isCast_0 1 rfl rfl)
theorem dX5_isCast_2 : decode cX5_isCast 2 = .ok (.iconst 1, 1) := dk_4 (dk_at dksX5_isCast_0 2 rfl rfl)
theorem dX5_isCast_3 : decode cX5_isCast 3 = .ok (.invokestatic 112, 3) := dk_184 0 112 (dk_at dksX5_isCast_0 3 rfl rfl)
theorem dX5_isCast_6 : decode cX5_isCast 6 = .ok (.ireturn, 1) := dk_172 (dk_at dksX5_isCast_0 6 rfl rfl)
abbrev cX5_in : ByteArray := prog_19_method_2_code
def yX5_in : MethodName := ⟨RX5, "in", "(III)Z"⟩
def dkwX5_in_0 : List UInt8 := [26, 27, 161, 0, 12, 26, 28, 163, 0, 7, 4, 167, 0, 4, 3, 172]
abbrev dktX5_in_0 : List UInt8 := dkwX5_in_0 ++ []
theorem dksX5_in_0 : cX5_in.data.toList.drop 0 = dktX5_in_0 := by decide +kernel
theorem dX5_in_0 : decode cX5_in 0 = .ok (.iload_n 0, 1) := dk_26 (dk_at dksX5_in_0 0 rfl rfl)
theorem dX5_in_1 : decode cX5_in 1 = .ok (.iload_n 1, 1) := dk_27 (dk_at dksX5_in_0 1 rfl rfl)
theorem dX5_in_2 : decode cX5_in 2 = .ok (.if_icmp .lt 12, 3) := dk_161 0 12 (dk_at dksX5_in_0 2 rfl rfl)
theorem dX5_in_5 : decode cX5_in 5 = .ok (.iload_n 0, 1) := dk_26 (dk_at dksX5_in_0 5 rfl rfl)
theorem dX5_in_6 : decode cX5_in 6 = .ok (.iload_n 2, 1) := dk_28 (dk_at dksX5_in_0 6 rfl rfl)
theorem dX5_in_7 : decode cX5_in 7 = .ok (.if_icmp .gt 7, 3) := dk_163 0 7 (dk_at dksX5_in_0 7 rfl rfl)
theorem dX5_in_10 : decode cX5_in 10 = .ok (.iconst 1, 1) := dk_4 (dk_at dksX5_in_0 10 rfl rfl)
theorem dX5_in_11 : decode cX5_in 11 = .ok (.goto 4, 3) := dk_167 0 4 (dk_at dksX5_in_0 11 rfl rfl)
theorem dX5_in_14 : decode cX5_in 14 = .ok (.iconst 0, 1) := dk_3 (dk_at dksX5_in_0 14 rfl rfl)
theorem dX5_in_15 : decode cX5_in 15 = .ok (.ireturn, 1) := dk_172 (dk_at dksX5_in_0 15 rfl rfl)
abbrev cX5_isPlace : ByteArray := prog_19_method_6_code
def yX5_isPlace : MethodName := ⟨RX5, "isPlace", "(I)Z"⟩
def dkwX5_isPlace_0 : List UInt8 := [26, 3, 16, 47, 184, 0, 112, 172]
abbrev dktX5_isPlace_0 : List UInt8 := dkwX5_isPlace_0 ++ []
theorem dksX5_isPlace_0 : cX5_isPlace.data.toList.drop 0 = dktX5_isPlace_0 := by decide +kernel
theorem dX5_isPlace_0 : decode cX5_isPlace 0 = .ok (.iload_n 0, 1) := dk_26 (dk_at dksX5_isPlace_0 0 rfl rfl)
theorem dX5_isPlace_1 : decode cX5_isPlace 1 = .ok (.iconst 0, 1) := dk_3 (dk_at dksX5_isPlace_0 1 rfl rfl)
theorem dX5_isPlace_2 : decode cX5_isPlace 2 = .ok (.bipush 47, 2) := dk_16 47 (dk_at dksX5_isPlace_0 2 rfl rfl)
theorem dX5_isPlace_4 : decode cX5_isPlace 4 = .ok (.invokestatic 112, 3) := dk_184 0 112 (dk_at dksX5_isPlace_0 4 rfl rfl)
theorem dX5_isPlace_7 : decode cX5_isPlace 7 = .ok (.ireturn, 1) := dk_172 (dk_at dksX5_isPlace_0 7 rfl rfl)
abbrev cX5_heightOf : ByteArray := prog_19_method_11_code
def yX5_heightOf : MethodName := ⟨RX5, "heightOf", "(II)I"⟩
def dkwX5_heightOf_1 : List UInt8 := [46, 167, 0, 4, 2, 172]
abbrev dktX5_heightOf_1 : List UInt8 := dkwX5_heightOf_1 ++ []
def dkwX5_heightOf_0 : List UInt8 := [27, 184, 0, 117, 153, 0, 24, 28, 184, 0, 121, 153, 0, 17, 42, 180, 0, 7, 16, 48, 27, 104, 28, 96]
abbrev dktX5_heightOf_0 : List UInt8 := dkwX5_heightOf_0 ++ dktX5_heightOf_1
theorem dksX5_heightOf_0 : cX5_heightOf.data.toList.drop 0 = dktX5_heightOf_0 := by decide +kernel
theorem dksX5_heightOf_1 : cX5_heightOf.data.toList.drop 24 = dktX5_heightOf_1 := dk_seg dksX5_heightOf_0 24 rfl rfl
theorem dX5_heightOf_0 : decode cX5_heightOf 0 = .ok (.iload_n 1, 1) := dk_27 (dk_at dksX5_heightOf_0 0 rfl rfl)
theorem dX5_heightOf_1 : decode cX5_heightOf 1 = .ok (.invokestatic 117, 3) := dk_184 0 117 (dk_at dksX5_heightOf_0 1 rfl rfl)
theorem dX5_heightOf_4 : decode cX5_heightOf 4 = .ok (.ifCond .eq 24, 3) := dk_153 0 24 (dk_at dksX5_heightOf_0 4 rfl rfl)
theorem dX5_heightOf_7 : decode cX5_heightOf 7 = .ok (.iload_n 2, 1) := dk_28 (dk_at dksX5_heightOf_0 7 rfl rfl)
theorem dX5_heightOf_8 : decode cX5_heightOf 8 = .ok (.invokestatic 121, 3) := dk_184 0 121 (dk_at dksX5_heightOf_0 8 rfl rfl)
theorem dX5_heightOf_11 : decode cX5_heightOf 11 = .ok (.ifCond .eq 17, 3) := dk_153 0 17 (dk_at dksX5_heightOf_0 11 rfl rfl)
theorem dX5_heightOf_14 : decode cX5_heightOf 14 = .ok (.aload_n 0, 1) := dk_42 (dk_at dksX5_heightOf_0 14 rfl rfl)
theorem dX5_heightOf_15 : decode cX5_heightOf 15 = .ok (.getfield 7, 3) := dk_180 0 7 (dk_at dksX5_heightOf_0 15 rfl rfl)
theorem dX5_heightOf_18 : decode cX5_heightOf 18 = .ok (.bipush 48, 2) := dk_16 48 (dk_at dksX5_heightOf_0 18 rfl rfl)
theorem dX5_heightOf_20 : decode cX5_heightOf 20 = .ok (.iload_n 1, 1) := dk_27 (dk_at dksX5_heightOf_0 20 rfl rfl)
theorem dX5_heightOf_21 : decode cX5_heightOf 21 = .ok (.imul, 1) := dk_104 (dk_at dksX5_heightOf_0 21 rfl rfl)
theorem dX5_heightOf_22 : decode cX5_heightOf 22 = .ok (.iload_n 2, 1) := dk_28 (dk_at dksX5_heightOf_0 22 rfl rfl)
theorem dX5_heightOf_23 : decode cX5_heightOf 23 = .ok (.iadd, 1) := dk_96 (dk_at dksX5_heightOf_0 23 rfl rfl)
theorem dX5_heightOf_24 : decode cX5_heightOf 24 = .ok (.iaload, 1) := dk_46 (dk_at dksX5_heightOf_1 0 rfl rfl)
theorem dX5_heightOf_25 : decode cX5_heightOf 25 = .ok (.goto 4, 3) := dk_167 0 4 (dk_at dksX5_heightOf_1 1 rfl rfl)
theorem dX5_heightOf_28 : decode cX5_heightOf 28 = .ok (.iconst (-1), 1) := dk_2 (dk_at dksX5_heightOf_1 4 rfl rfl)
theorem dX5_heightOf_29 : decode cX5_heightOf 29 = .ok (.ireturn, 1) := dk_172 (dk_at dksX5_heightOf_1 5 rfl rfl)
abbrev cX5_keepOff : ByteArray := prog_19_method_12_code
def yX5_keepOff : MethodName := ⟨RX5, "keepOff", "(IZ)Z"⟩
def dkwX5_keepOff_0 : List UInt8 := [27, 184, 0, 121, 154, 0, 5, 3, 172, 42, 180, 0, 16, 27, 28, 84, 4, 172]
abbrev dktX5_keepOff_0 : List UInt8 := dkwX5_keepOff_0 ++ []
theorem dksX5_keepOff_0 : cX5_keepOff.data.toList.drop 0 = dktX5_keepOff_0 := by decide +kernel
theorem dX5_keepOff_0 : decode cX5_keepOff 0 = .ok (.iload_n 1, 1) := dk_27 (dk_at dksX5_keepOff_0 0 rfl rfl)
theorem dX5_keepOff_1 : decode cX5_keepOff 1 = .ok (.invokestatic 121, 3) := dk_184 0 121 (dk_at dksX5_keepOff_0 1 rfl rfl)
theorem dX5_keepOff_4 : decode cX5_keepOff 4 = .ok (.ifCond .ne 5, 3) := dk_154 0 5 (dk_at dksX5_keepOff_0 4 rfl rfl)
theorem dX5_keepOff_7 : decode cX5_keepOff 7 = .ok (.iconst 0, 1) := dk_3 (dk_at dksX5_keepOff_0 7 rfl rfl)
theorem dX5_keepOff_8 : decode cX5_keepOff 8 = .ok (.ireturn, 1) := dk_172 (dk_at dksX5_keepOff_0 8 rfl rfl)
theorem dX5_keepOff_9 : decode cX5_keepOff 9 = .ok (.aload_n 0, 1) := dk_42 (dk_at dksX5_keepOff_0 9 rfl rfl)
theorem dX5_keepOff_10 : decode cX5_keepOff 10 = .ok (.getfield 16, 3) := dk_180 0 16 (dk_at dksX5_keepOff_0 10 rfl rfl)
theorem dX5_keepOff_13 : decode cX5_keepOff 13 = .ok (.iload_n 1, 1) := dk_27 (dk_at dksX5_keepOff_0 13 rfl rfl)
theorem dX5_keepOff_14 : decode cX5_keepOff 14 = .ok (.iload_n 2, 1) := dk_28 (dk_at dksX5_keepOff_0 14 rfl rfl)
theorem dX5_keepOff_15 : decode cX5_keepOff 15 = .ok (.bastore, 1) := dk_84 (dk_at dksX5_keepOff_0 15 rfl rfl)
theorem dX5_keepOff_16 : decode cX5_keepOff 16 = .ok (.iconst 1, 1) := dk_4 (dk_at dksX5_keepOff_0 16 rfl rfl)
theorem dX5_keepOff_17 : decode cX5_keepOff 17 = .ok (.ireturn, 1) := dk_172 (dk_at dksX5_keepOff_0 17 rfl rfl)
abbrev cX5_feed : ByteArray := prog_19_method_16_code
def yX5_feed : MethodName := ⟨RX5, "feed", "(IIIII)I"⟩
def dkwX5_feed_2 : List UInt8 := [172]
abbrev dktX5_feed_2 : List UInt8 := dkwX5_feed_2 ++ []
def dkwX5_feed_1 : List UInt8 := [182, 0, 127, 42, 29, 182, 0, 127, 42, 21, 4, 182, 0, 127, 42, 21, 5, 182, 0, 127, 42, 180, 0, 124]
abbrev dktX5_feed_1 : List UInt8 := dkwX5_feed_1 ++ dktX5_feed_2
def dkwX5_feed_0 : List UInt8 := [42, 180, 0, 124, 16, 20, 96, 17, 1, 4, 164, 0, 5, 2, 172, 42, 27, 182, 0, 127, 42, 28]
abbrev dktX5_feed_0 : List UInt8 := dkwX5_feed_0 ++ dktX5_feed_1
theorem dksX5_feed_0 : cX5_feed.data.toList.drop 0 = dktX5_feed_0 := by decide +kernel
theorem dksX5_feed_1 : cX5_feed.data.toList.drop 22 = dktX5_feed_1 := dk_seg dksX5_feed_0 22 rfl rfl
theorem dksX5_feed_2 : cX5_feed.data.toList.drop 46 = dktX5_feed_2 := dk_seg dksX5_feed_1 24 rfl rfl
theorem dX5_feed_0 : decode cX5_feed 0 = .ok (.aload_n 0, 1) := dk_42 (dk_at dksX5_feed_0 0 rfl rfl)
theorem dX5_feed_1 : decode cX5_feed 1 = .ok (.getfield 124, 3) := dk_180 0 124 (dk_at dksX5_feed_0 1 rfl rfl)
theorem dX5_feed_4 : decode cX5_feed 4 = .ok (.bipush 20, 2) := dk_16 20 (dk_at dksX5_feed_0 4 rfl rfl)
theorem dX5_feed_6 : decode cX5_feed 6 = .ok (.iadd, 1) := dk_96 (dk_at dksX5_feed_0 6 rfl rfl)
theorem dX5_feed_7 : decode cX5_feed 7 = .ok (.sipush 260, 3) := dk_17 1 4 (dk_at dksX5_feed_0 7 rfl rfl)
theorem dX5_feed_10 : decode cX5_feed 10 = .ok (.if_icmp .le 5, 3) := dk_164 0 5 (dk_at dksX5_feed_0 10 rfl rfl)
theorem dX5_feed_13 : decode cX5_feed 13 = .ok (.iconst (-1), 1) := dk_2 (dk_at dksX5_feed_0 13 rfl rfl)
theorem dX5_feed_14 : decode cX5_feed 14 = .ok (.ireturn, 1) := dk_172 (dk_at dksX5_feed_0 14 rfl rfl)
theorem dX5_feed_15 : decode cX5_feed 15 = .ok (.aload_n 0, 1) := dk_42 (dk_at dksX5_feed_0 15 rfl rfl)
theorem dX5_feed_16 : decode cX5_feed 16 = .ok (.iload_n 1, 1) := dk_27 (dk_at dksX5_feed_0 16 rfl rfl)
theorem dX5_feed_17 : decode cX5_feed 17 = .ok (.invokevirtual 127, 3) := dk_182 0 127 (dk_at dksX5_feed_0 17 rfl rfl)
theorem dX5_feed_20 : decode cX5_feed 20 = .ok (.aload_n 0, 1) := dk_42 (dk_at dksX5_feed_0 20 rfl rfl)
theorem dX5_feed_21 : decode cX5_feed 21 = .ok (.iload_n 2, 1) := dk_28 (dk_at dksX5_feed_0 21 rfl rfl)
theorem dX5_feed_22 : decode cX5_feed 22 = .ok (.invokevirtual 127, 3) := dk_182 0 127 (dk_at dksX5_feed_1 0 rfl rfl)
theorem dX5_feed_25 : decode cX5_feed 25 = .ok (.aload_n 0, 1) := dk_42 (dk_at dksX5_feed_1 3 rfl rfl)
theorem dX5_feed_26 : decode cX5_feed 26 = .ok (.iload_n 3, 1) := dk_29 (dk_at dksX5_feed_1 4 rfl rfl)
theorem dX5_feed_27 : decode cX5_feed 27 = .ok (.invokevirtual 127, 3) := dk_182 0 127 (dk_at dksX5_feed_1 5 rfl rfl)
theorem dX5_feed_30 : decode cX5_feed 30 = .ok (.aload_n 0, 1) := dk_42 (dk_at dksX5_feed_1 8 rfl rfl)
theorem dX5_feed_31 : decode cX5_feed 31 = .ok (.iload 4, 2) := dk_21 4 (dk_at dksX5_feed_1 9 rfl rfl)
theorem dX5_feed_33 : decode cX5_feed 33 = .ok (.invokevirtual 127, 3) := dk_182 0 127 (dk_at dksX5_feed_1 11 rfl rfl)
theorem dX5_feed_36 : decode cX5_feed 36 = .ok (.aload_n 0, 1) := dk_42 (dk_at dksX5_feed_1 14 rfl rfl)
theorem dX5_feed_37 : decode cX5_feed 37 = .ok (.iload 5, 2) := dk_21 5 (dk_at dksX5_feed_1 15 rfl rfl)
theorem dX5_feed_39 : decode cX5_feed 39 = .ok (.invokevirtual 127, 3) := dk_182 0 127 (dk_at dksX5_feed_1 17 rfl rfl)
theorem dX5_feed_42 : decode cX5_feed 42 = .ok (.aload_n 0, 1) := dk_42 (dk_at dksX5_feed_1 20 rfl rfl)
theorem dX5_feed_43 : decode cX5_feed 43 = .ok (.getfield 124, 3) := dk_180 0 124 (dk_at dksX5_feed_1 21 rfl rfl)
theorem dX5_feed_46 : decode cX5_feed 46 = .ok (.ireturn, 1) := dk_172 (dk_at dksX5_feed_2 0 rfl rfl)
abbrev cX5_types : ByteArray := prog_19_method_15_code
def yX5_types : MethodName := ⟨RX5, "types", "(I)V"⟩
def dkwX5_types_1 : List UInt8 := [180, 0, 124, 4, 96, 181, 0, 124, 132, 2, 255, 167, 255, 223, 177]
abbrev dktX5_types_1 : List UInt8 := dkwX5_types_1 ++ []
def dkwX5_types_0 : List UInt8 := [6, 61, 28, 155, 0, 35, 42, 180, 0, 20, 42, 180, 0, 124, 27, 16, 8, 28, 104, 122, 145, 84, 42, 42]
abbrev dktX5_types_0 : List UInt8 := dkwX5_types_0 ++ dktX5_types_1
theorem dksX5_types_0 : cX5_types.data.toList.drop 0 = dktX5_types_0 := by decide +kernel
theorem dksX5_types_1 : cX5_types.data.toList.drop 24 = dktX5_types_1 := dk_seg dksX5_types_0 24 rfl rfl
theorem dX5_types_0 : decode cX5_types 0 = .ok (.iconst 3, 1) := dk_6 (dk_at dksX5_types_0 0 rfl rfl)
theorem dX5_types_1 : decode cX5_types 1 = .ok (.istore_n 2, 1) := dk_61 (dk_at dksX5_types_0 1 rfl rfl)
theorem dX5_types_2 : decode cX5_types 2 = .ok (.iload_n 2, 1) := dk_28 (dk_at dksX5_types_0 2 rfl rfl)
theorem dX5_types_3 : decode cX5_types 3 = .ok (.ifCond .lt 35, 3) := dk_155 0 35 (dk_at dksX5_types_0 3 rfl rfl)
theorem dX5_types_6 : decode cX5_types 6 = .ok (.aload_n 0, 1) := dk_42 (dk_at dksX5_types_0 6 rfl rfl)
theorem dX5_types_7 : decode cX5_types 7 = .ok (.getfield 20, 3) := dk_180 0 20 (dk_at dksX5_types_0 7 rfl rfl)
theorem dX5_types_10 : decode cX5_types 10 = .ok (.aload_n 0, 1) := dk_42 (dk_at dksX5_types_0 10 rfl rfl)
theorem dX5_types_11 : decode cX5_types 11 = .ok (.getfield 124, 3) := dk_180 0 124 (dk_at dksX5_types_0 11 rfl rfl)
theorem dX5_types_14 : decode cX5_types 14 = .ok (.iload_n 1, 1) := dk_27 (dk_at dksX5_types_0 14 rfl rfl)
theorem dX5_types_15 : decode cX5_types 15 = .ok (.bipush 8, 2) := dk_16 8 (dk_at dksX5_types_0 15 rfl rfl)
theorem dX5_types_17 : decode cX5_types 17 = .ok (.iload_n 2, 1) := dk_28 (dk_at dksX5_types_0 17 rfl rfl)
theorem dX5_types_18 : decode cX5_types 18 = .ok (.imul, 1) := dk_104 (dk_at dksX5_types_0 18 rfl rfl)
theorem dX5_types_19 : decode cX5_types 19 = .ok (.ishr, 1) := dk_122 (dk_at dksX5_types_0 19 rfl rfl)
theorem dX5_types_20 : decode cX5_types 20 = .ok (.i2b, 1) := dk_145 (dk_at dksX5_types_0 20 rfl rfl)
theorem dX5_types_21 : decode cX5_types 21 = .ok (.bastore, 1) := dk_84 (dk_at dksX5_types_0 21 rfl rfl)
theorem dX5_types_22 : decode cX5_types 22 = .ok (.aload_n 0, 1) := dk_42 (dk_at dksX5_types_0 22 rfl rfl)
theorem dX5_types_23 : decode cX5_types 23 = .ok (.aload_n 0, 1) := dk_42 (dk_at dksX5_types_0 23 rfl rfl)
theorem dX5_types_24 : decode cX5_types 24 = .ok (.getfield 124, 3) := dk_180 0 124 (dk_at dksX5_types_1 0 rfl rfl)
theorem dX5_types_27 : decode cX5_types 27 = .ok (.iconst 1, 1) := dk_4 (dk_at dksX5_types_1 3 rfl rfl)
theorem dX5_types_28 : decode cX5_types 28 = .ok (.iadd, 1) := dk_96 (dk_at dksX5_types_1 4 rfl rfl)
theorem dX5_types_29 : decode cX5_types 29 = .ok (.putfield 124, 3) := dk_181 0 124 (dk_at dksX5_types_1 5 rfl rfl)
theorem dX5_types_32 : decode cX5_types 32 = .ok (.iinc 2 (-1), 3) := dk_132 2 255 (dk_at dksX5_types_1 8 rfl rfl)
theorem dX5_types_35 : decode cX5_types 35 = .ok (.goto (-33), 3) := dk_167 255 223 (dk_at dksX5_types_1 11 rfl rfl)
theorem dX5_types_38 : decode cX5_types 38 = .ok (.return_, 1) := dk_177 (dk_at dksX5_types_1 14 rfl rfl)
abbrev cX5_law : ByteArray := prog_19_method_39_code
def yX5_law : MethodName := ⟨RX5, "law", "(I)I"⟩
def dkwX5_law_7 : List UInt8 := [79, 42, 180, 0, 54, 29, 42, 180, 0, 39, 29, 46, 79, 132, 3, 1, 167, 255, 197, 42, 180, 0, 210, 172]
abbrev dktX5_law_7 : List UInt8 := dkwX5_law_7 ++ []
def dkwX5_law_6 : List UInt8 := [79, 42, 180, 0, 48, 29, 42, 180, 0, 33, 29, 46, 79, 42, 180, 0, 51, 29, 42, 180, 0, 36, 29, 46]
abbrev dktX5_law_6 : List UInt8 := dkwX5_law_6 ++ dktX5_law_7
def dkwX5_law_5 : List UInt8 := [167, 255, 233, 3, 62, 29, 42, 180, 0, 210, 162, 0, 57, 42, 180, 0, 45, 29, 42, 180, 0, 30, 29, 46]
abbrev dktX5_law_5 : List UInt8 := dkwX5_law_5 ++ dktX5_law_6
def dkwX5_law_4 : List UInt8 := [29, 42, 180, 0, 155, 162, 0, 21, 42, 180, 0, 42, 29, 42, 180, 0, 24, 29, 46, 79, 132, 3, 1]
abbrev dktX5_law_4 : List UInt8 := dkwX5_law_4 ++ dktX5_law_5
def dkwX5_law_3 : List UInt8 := [42, 3, 181, 0, 124, 28, 154, 0, 8, 42, 180, 0, 141, 172, 42, 42, 180, 0, 210, 181, 0, 225, 3, 62]
abbrev dktX5_law_3 : List UInt8 := dkwX5_law_3 ++ dktX5_law_4
def dkwX5_law_2 : List UInt8 := [16, 59, 182, 0, 222, 153, 0, 14, 42, 182, 0, 219, 153, 0, 7, 4, 167, 0, 4, 3, 61, 167, 255, 219]
abbrev dktX5_law_2 : List UInt8 := dkwX5_law_2 ++ dktX5_law_3
def dkwX5_law_1 : List UInt8 := [182, 0, 216, 42, 182, 0, 219, 61, 28, 153, 0, 39, 42, 180, 0, 131, 42, 180, 0, 134, 162, 0, 28, 42]
abbrev dktX5_law_1 : List UInt8 := dkwX5_law_1 ++ dktX5_law_2
def dkwX5_law_0 : List UInt8 := [27, 4, 17, 0, 240, 184, 0, 112, 153, 0, 11, 27, 42, 180, 0, 124, 164, 0, 5, 2, 172, 42, 27]
abbrev dktX5_law_0 : List UInt8 := dkwX5_law_0 ++ dktX5_law_1
theorem dksX5_law_0 : cX5_law.data.toList.drop 0 = dktX5_law_0 := by decide +kernel
theorem dksX5_law_1 : cX5_law.data.toList.drop 23 = dktX5_law_1 := dk_seg dksX5_law_0 23 rfl rfl
theorem dksX5_law_2 : cX5_law.data.toList.drop 47 = dktX5_law_2 := dk_seg dksX5_law_1 24 rfl rfl
theorem dksX5_law_3 : cX5_law.data.toList.drop 71 = dktX5_law_3 := dk_seg dksX5_law_2 24 rfl rfl
theorem dksX5_law_4 : cX5_law.data.toList.drop 95 = dktX5_law_4 := dk_seg dksX5_law_3 24 rfl rfl
theorem dksX5_law_5 : cX5_law.data.toList.drop 118 = dktX5_law_5 := dk_seg dksX5_law_4 23 rfl rfl
theorem dksX5_law_6 : cX5_law.data.toList.drop 142 = dktX5_law_6 := dk_seg dksX5_law_5 24 rfl rfl
theorem dksX5_law_7 : cX5_law.data.toList.drop 166 = dktX5_law_7 := dk_seg dksX5_law_6 24 rfl rfl
theorem dX5_law_0 : decode cX5_law 0 = .ok (.iload_n 1, 1) := dk_27 (dk_at dksX5_law_0 0 rfl rfl)
theorem dX5_law_1 : decode cX5_law 1 = .ok (.iconst 1, 1) := dk_4 (dk_at dksX5_law_0 1 rfl rfl)
theorem dX5_law_2 : decode cX5_law 2 = .ok (.sipush 240, 3) := dk_17 0 240 (dk_at dksX5_law_0 2 rfl rfl)
theorem dX5_law_5 : decode cX5_law 5 = .ok (.invokestatic 112, 3) := dk_184 0 112 (dk_at dksX5_law_0 5 rfl rfl)
theorem dX5_law_8 : decode cX5_law 8 = .ok (.ifCond .eq 11, 3) := dk_153 0 11 (dk_at dksX5_law_0 8 rfl rfl)
theorem dX5_law_11 : decode cX5_law 11 = .ok (.iload_n 1, 1) := dk_27 (dk_at dksX5_law_0 11 rfl rfl)
theorem dX5_law_12 : decode cX5_law 12 = .ok (.aload_n 0, 1) := dk_42 (dk_at dksX5_law_0 12 rfl rfl)
theorem dX5_law_13 : decode cX5_law 13 = .ok (.getfield 124, 3) := dk_180 0 124 (dk_at dksX5_law_0 13 rfl rfl)
theorem dX5_law_16 : decode cX5_law 16 = .ok (.if_icmp .le 5, 3) := dk_164 0 5 (dk_at dksX5_law_0 16 rfl rfl)
theorem dX5_law_19 : decode cX5_law 19 = .ok (.iconst (-1), 1) := dk_2 (dk_at dksX5_law_0 19 rfl rfl)
theorem dX5_law_20 : decode cX5_law 20 = .ok (.ireturn, 1) := dk_172 (dk_at dksX5_law_0 20 rfl rfl)
theorem dX5_law_21 : decode cX5_law 21 = .ok (.aload_n 0, 1) := dk_42 (dk_at dksX5_law_0 21 rfl rfl)
theorem dX5_law_22 : decode cX5_law 22 = .ok (.iload_n 1, 1) := dk_27 (dk_at dksX5_law_0 22 rfl rfl)
theorem dX5_law_23 : decode cX5_law 23 = .ok (.invokevirtual 216, 3) := dk_182 0 216 (dk_at dksX5_law_1 0 rfl rfl)
theorem dX5_law_26 : decode cX5_law 26 = .ok (.aload_n 0, 1) := dk_42 (dk_at dksX5_law_1 3 rfl rfl)
theorem dX5_law_27 : decode cX5_law 27 = .ok (.invokevirtual 219, 3) := dk_182 0 219 (dk_at dksX5_law_1 4 rfl rfl)
theorem dX5_law_30 : decode cX5_law 30 = .ok (.istore_n 2, 1) := dk_61 (dk_at dksX5_law_1 7 rfl rfl)
theorem dX5_law_31 : decode cX5_law 31 = .ok (.iload_n 2, 1) := dk_28 (dk_at dksX5_law_1 8 rfl rfl)
theorem dX5_law_32 : decode cX5_law 32 = .ok (.ifCond .eq 39, 3) := dk_153 0 39 (dk_at dksX5_law_1 9 rfl rfl)
theorem dX5_law_35 : decode cX5_law 35 = .ok (.aload_n 0, 1) := dk_42 (dk_at dksX5_law_1 12 rfl rfl)
theorem dX5_law_36 : decode cX5_law 36 = .ok (.getfield 131, 3) := dk_180 0 131 (dk_at dksX5_law_1 13 rfl rfl)
theorem dX5_law_39 : decode cX5_law 39 = .ok (.aload_n 0, 1) := dk_42 (dk_at dksX5_law_1 16 rfl rfl)
theorem dX5_law_40 : decode cX5_law 40 = .ok (.getfield 134, 3) := dk_180 0 134 (dk_at dksX5_law_1 17 rfl rfl)
theorem dX5_law_43 : decode cX5_law 43 = .ok (.if_icmp .ge 28, 3) := dk_162 0 28 (dk_at dksX5_law_1 20 rfl rfl)
theorem dX5_law_46 : decode cX5_law 46 = .ok (.aload_n 0, 1) := dk_42 (dk_at dksX5_law_1 23 rfl rfl)
theorem dX5_law_47 : decode cX5_law 47 = .ok (.bipush 59, 2) := dk_16 59 (dk_at dksX5_law_2 0 rfl rfl)
theorem dX5_law_49 : decode cX5_law 49 = .ok (.invokevirtual 222, 3) := dk_182 0 222 (dk_at dksX5_law_2 2 rfl rfl)
theorem dX5_law_52 : decode cX5_law 52 = .ok (.ifCond .eq 14, 3) := dk_153 0 14 (dk_at dksX5_law_2 5 rfl rfl)
theorem dX5_law_55 : decode cX5_law 55 = .ok (.aload_n 0, 1) := dk_42 (dk_at dksX5_law_2 8 rfl rfl)
theorem dX5_law_56 : decode cX5_law 56 = .ok (.invokevirtual 219, 3) := dk_182 0 219 (dk_at dksX5_law_2 9 rfl rfl)
theorem dX5_law_59 : decode cX5_law 59 = .ok (.ifCond .eq 7, 3) := dk_153 0 7 (dk_at dksX5_law_2 12 rfl rfl)
theorem dX5_law_62 : decode cX5_law 62 = .ok (.iconst 1, 1) := dk_4 (dk_at dksX5_law_2 15 rfl rfl)
theorem dX5_law_63 : decode cX5_law 63 = .ok (.goto 4, 3) := dk_167 0 4 (dk_at dksX5_law_2 16 rfl rfl)
theorem dX5_law_66 : decode cX5_law 66 = .ok (.iconst 0, 1) := dk_3 (dk_at dksX5_law_2 19 rfl rfl)
theorem dX5_law_67 : decode cX5_law 67 = .ok (.istore_n 2, 1) := dk_61 (dk_at dksX5_law_2 20 rfl rfl)
theorem dX5_law_68 : decode cX5_law 68 = .ok (.goto (-37), 3) := dk_167 255 219 (dk_at dksX5_law_2 21 rfl rfl)
theorem dX5_law_71 : decode cX5_law 71 = .ok (.aload_n 0, 1) := dk_42 (dk_at dksX5_law_3 0 rfl rfl)
theorem dX5_law_72 : decode cX5_law 72 = .ok (.iconst 0, 1) := dk_3 (dk_at dksX5_law_3 1 rfl rfl)
theorem dX5_law_73 : decode cX5_law 73 = .ok (.putfield 124, 3) := dk_181 0 124 (dk_at dksX5_law_3 2 rfl rfl)
theorem dX5_law_76 : decode cX5_law 76 = .ok (.iload_n 2, 1) := dk_28 (dk_at dksX5_law_3 5 rfl rfl)
theorem dX5_law_77 : decode cX5_law 77 = .ok (.ifCond .ne 8, 3) := dk_154 0 8 (dk_at dksX5_law_3 6 rfl rfl)
theorem dX5_law_80 : decode cX5_law 80 = .ok (.aload_n 0, 1) := dk_42 (dk_at dksX5_law_3 9 rfl rfl)
theorem dX5_law_81 : decode cX5_law 81 = .ok (.getfield 141, 3) := dk_180 0 141 (dk_at dksX5_law_3 10 rfl rfl)
theorem dX5_law_84 : decode cX5_law 84 = .ok (.ireturn, 1) := dk_172 (dk_at dksX5_law_3 13 rfl rfl)
theorem dX5_law_85 : decode cX5_law 85 = .ok (.aload_n 0, 1) := dk_42 (dk_at dksX5_law_3 14 rfl rfl)
theorem dX5_law_86 : decode cX5_law 86 = .ok (.aload_n 0, 1) := dk_42 (dk_at dksX5_law_3 15 rfl rfl)
theorem dX5_law_87 : decode cX5_law 87 = .ok (.getfield 210, 3) := dk_180 0 210 (dk_at dksX5_law_3 16 rfl rfl)
theorem dX5_law_90 : decode cX5_law 90 = .ok (.putfield 225, 3) := dk_181 0 225 (dk_at dksX5_law_3 19 rfl rfl)
theorem dX5_law_93 : decode cX5_law 93 = .ok (.iconst 0, 1) := dk_3 (dk_at dksX5_law_3 22 rfl rfl)
theorem dX5_law_94 : decode cX5_law 94 = .ok (.istore_n 3, 1) := dk_62 (dk_at dksX5_law_3 23 rfl rfl)
theorem dX5_law_95 : decode cX5_law 95 = .ok (.iload_n 3, 1) := dk_29 (dk_at dksX5_law_4 0 rfl rfl)
theorem dX5_law_96 : decode cX5_law 96 = .ok (.aload_n 0, 1) := dk_42 (dk_at dksX5_law_4 1 rfl rfl)
theorem dX5_law_97 : decode cX5_law 97 = .ok (.getfield 155, 3) := dk_180 0 155 (dk_at dksX5_law_4 2 rfl rfl)
theorem dX5_law_100 : decode cX5_law 100 = .ok (.if_icmp .ge 21, 3) := dk_162 0 21 (dk_at dksX5_law_4 5 rfl rfl)
theorem dX5_law_103 : decode cX5_law 103 = .ok (.aload_n 0, 1) := dk_42 (dk_at dksX5_law_4 8 rfl rfl)
theorem dX5_law_104 : decode cX5_law 104 = .ok (.getfield 42, 3) := dk_180 0 42 (dk_at dksX5_law_4 9 rfl rfl)
theorem dX5_law_107 : decode cX5_law 107 = .ok (.iload_n 3, 1) := dk_29 (dk_at dksX5_law_4 12 rfl rfl)
theorem dX5_law_108 : decode cX5_law 108 = .ok (.aload_n 0, 1) := dk_42 (dk_at dksX5_law_4 13 rfl rfl)
theorem dX5_law_109 : decode cX5_law 109 = .ok (.getfield 24, 3) := dk_180 0 24 (dk_at dksX5_law_4 14 rfl rfl)
theorem dX5_law_112 : decode cX5_law 112 = .ok (.iload_n 3, 1) := dk_29 (dk_at dksX5_law_4 17 rfl rfl)
theorem dX5_law_113 : decode cX5_law 113 = .ok (.iaload, 1) := dk_46 (dk_at dksX5_law_4 18 rfl rfl)
theorem dX5_law_114 : decode cX5_law 114 = .ok (.iastore, 1) := dk_79 (dk_at dksX5_law_4 19 rfl rfl)
theorem dX5_law_115 : decode cX5_law 115 = .ok (.iinc 3 1, 3) := dk_132 3 1 (dk_at dksX5_law_4 20 rfl rfl)
theorem dX5_law_118 : decode cX5_law 118 = .ok (.goto (-23), 3) := dk_167 255 233 (dk_at dksX5_law_5 0 rfl rfl)
theorem dX5_law_121 : decode cX5_law 121 = .ok (.iconst 0, 1) := dk_3 (dk_at dksX5_law_5 3 rfl rfl)
theorem dX5_law_122 : decode cX5_law 122 = .ok (.istore_n 3, 1) := dk_62 (dk_at dksX5_law_5 4 rfl rfl)
theorem dX5_law_123 : decode cX5_law 123 = .ok (.iload_n 3, 1) := dk_29 (dk_at dksX5_law_5 5 rfl rfl)
theorem dX5_law_124 : decode cX5_law 124 = .ok (.aload_n 0, 1) := dk_42 (dk_at dksX5_law_5 6 rfl rfl)
theorem dX5_law_125 : decode cX5_law 125 = .ok (.getfield 210, 3) := dk_180 0 210 (dk_at dksX5_law_5 7 rfl rfl)
theorem dX5_law_128 : decode cX5_law 128 = .ok (.if_icmp .ge 57, 3) := dk_162 0 57 (dk_at dksX5_law_5 10 rfl rfl)
theorem dX5_law_131 : decode cX5_law 131 = .ok (.aload_n 0, 1) := dk_42 (dk_at dksX5_law_5 13 rfl rfl)
theorem dX5_law_132 : decode cX5_law 132 = .ok (.getfield 45, 3) := dk_180 0 45 (dk_at dksX5_law_5 14 rfl rfl)
theorem dX5_law_135 : decode cX5_law 135 = .ok (.iload_n 3, 1) := dk_29 (dk_at dksX5_law_5 17 rfl rfl)
theorem dX5_law_136 : decode cX5_law 136 = .ok (.aload_n 0, 1) := dk_42 (dk_at dksX5_law_5 18 rfl rfl)
theorem dX5_law_137 : decode cX5_law 137 = .ok (.getfield 30, 3) := dk_180 0 30 (dk_at dksX5_law_5 19 rfl rfl)
theorem dX5_law_140 : decode cX5_law 140 = .ok (.iload_n 3, 1) := dk_29 (dk_at dksX5_law_5 22 rfl rfl)
theorem dX5_law_141 : decode cX5_law 141 = .ok (.iaload, 1) := dk_46 (dk_at dksX5_law_5 23 rfl rfl)
theorem dX5_law_142 : decode cX5_law 142 = .ok (.iastore, 1) := dk_79 (dk_at dksX5_law_6 0 rfl rfl)
theorem dX5_law_143 : decode cX5_law 143 = .ok (.aload_n 0, 1) := dk_42 (dk_at dksX5_law_6 1 rfl rfl)
theorem dX5_law_144 : decode cX5_law 144 = .ok (.getfield 48, 3) := dk_180 0 48 (dk_at dksX5_law_6 2 rfl rfl)
theorem dX5_law_147 : decode cX5_law 147 = .ok (.iload_n 3, 1) := dk_29 (dk_at dksX5_law_6 5 rfl rfl)
theorem dX5_law_148 : decode cX5_law 148 = .ok (.aload_n 0, 1) := dk_42 (dk_at dksX5_law_6 6 rfl rfl)
theorem dX5_law_149 : decode cX5_law 149 = .ok (.getfield 33, 3) := dk_180 0 33 (dk_at dksX5_law_6 7 rfl rfl)
theorem dX5_law_152 : decode cX5_law 152 = .ok (.iload_n 3, 1) := dk_29 (dk_at dksX5_law_6 10 rfl rfl)
theorem dX5_law_153 : decode cX5_law 153 = .ok (.iaload, 1) := dk_46 (dk_at dksX5_law_6 11 rfl rfl)
theorem dX5_law_154 : decode cX5_law 154 = .ok (.iastore, 1) := dk_79 (dk_at dksX5_law_6 12 rfl rfl)
theorem dX5_law_155 : decode cX5_law 155 = .ok (.aload_n 0, 1) := dk_42 (dk_at dksX5_law_6 13 rfl rfl)
theorem dX5_law_156 : decode cX5_law 156 = .ok (.getfield 51, 3) := dk_180 0 51 (dk_at dksX5_law_6 14 rfl rfl)
theorem dX5_law_159 : decode cX5_law 159 = .ok (.iload_n 3, 1) := dk_29 (dk_at dksX5_law_6 17 rfl rfl)
theorem dX5_law_160 : decode cX5_law 160 = .ok (.aload_n 0, 1) := dk_42 (dk_at dksX5_law_6 18 rfl rfl)
theorem dX5_law_161 : decode cX5_law 161 = .ok (.getfield 36, 3) := dk_180 0 36 (dk_at dksX5_law_6 19 rfl rfl)
theorem dX5_law_164 : decode cX5_law 164 = .ok (.iload_n 3, 1) := dk_29 (dk_at dksX5_law_6 22 rfl rfl)
theorem dX5_law_165 : decode cX5_law 165 = .ok (.iaload, 1) := dk_46 (dk_at dksX5_law_6 23 rfl rfl)
theorem dX5_law_166 : decode cX5_law 166 = .ok (.iastore, 1) := dk_79 (dk_at dksX5_law_7 0 rfl rfl)
theorem dX5_law_167 : decode cX5_law 167 = .ok (.aload_n 0, 1) := dk_42 (dk_at dksX5_law_7 1 rfl rfl)
theorem dX5_law_168 : decode cX5_law 168 = .ok (.getfield 54, 3) := dk_180 0 54 (dk_at dksX5_law_7 2 rfl rfl)
theorem dX5_law_171 : decode cX5_law 171 = .ok (.iload_n 3, 1) := dk_29 (dk_at dksX5_law_7 5 rfl rfl)
theorem dX5_law_172 : decode cX5_law 172 = .ok (.aload_n 0, 1) := dk_42 (dk_at dksX5_law_7 6 rfl rfl)
theorem dX5_law_173 : decode cX5_law 173 = .ok (.getfield 39, 3) := dk_180 0 39 (dk_at dksX5_law_7 7 rfl rfl)
theorem dX5_law_176 : decode cX5_law 176 = .ok (.iload_n 3, 1) := dk_29 (dk_at dksX5_law_7 10 rfl rfl)
theorem dX5_law_177 : decode cX5_law 177 = .ok (.iaload, 1) := dk_46 (dk_at dksX5_law_7 11 rfl rfl)
theorem dX5_law_178 : decode cX5_law 178 = .ok (.iastore, 1) := dk_79 (dk_at dksX5_law_7 12 rfl rfl)
theorem dX5_law_179 : decode cX5_law 179 = .ok (.iinc 3 1, 3) := dk_132 3 1 (dk_at dksX5_law_7 13 rfl rfl)
theorem dX5_law_182 : decode cX5_law 182 = .ok (.goto (-59), 3) := dk_167 255 197 (dk_at dksX5_law_7 16 rfl rfl)
theorem dX5_law_185 : decode cX5_law 185 = .ok (.aload_n 0, 1) := dk_42 (dk_at dksX5_law_7 19 rfl rfl)
theorem dX5_law_186 : decode cX5_law 186 = .ok (.getfield 210, 3) := dk_180 0 210 (dk_at dksX5_law_7 20 rfl rfl)
theorem dX5_law_189 : decode cX5_law 189 = .ok (.ireturn, 1) := dk_172 (dk_at dksX5_law_7 23 rfl rfl)
abbrev cX5_beginsText : ByteArray := prog_19_method_38_code
def yX5_beginsText : MethodName := ⟨RX5, "beginsText", "(I)V"⟩
def dkwX5_beginsText_0 : List UInt8 := [42, 3, 181, 0, 131, 42, 27, 181, 0, 134, 42, 3, 181, 0, 155, 42, 3, 181, 0, 210, 177]
abbrev dktX5_beginsText_0 : List UInt8 := dkwX5_beginsText_0 ++ []
theorem dksX5_beginsText_0 : cX5_beginsText.data.toList.drop 0 = dktX5_beginsText_0 := by decide +kernel
theorem dX5_beginsText_0 : decode cX5_beginsText 0 = .ok (.aload_n 0, 1) := dk_42 (dk_at dksX5_beginsText_0 0 rfl rfl)
theorem dX5_beginsText_1 : decode cX5_beginsText 1 = .ok (.iconst 0, 1) := dk_3 (dk_at dksX5_beginsText_0 1 rfl rfl)
theorem dX5_beginsText_2 : decode cX5_beginsText 2 = .ok (.putfield 131, 3) := dk_181 0 131 (dk_at dksX5_beginsText_0 2 rfl rfl)
theorem dX5_beginsText_5 : decode cX5_beginsText 5 = .ok (.aload_n 0, 1) := dk_42 (dk_at dksX5_beginsText_0 5 rfl rfl)
theorem dX5_beginsText_6 : decode cX5_beginsText 6 = .ok (.iload_n 1, 1) := dk_27 (dk_at dksX5_beginsText_0 6 rfl rfl)
theorem dX5_beginsText_7 : decode cX5_beginsText 7 = .ok (.putfield 134, 3) := dk_181 0 134 (dk_at dksX5_beginsText_0 7 rfl rfl)
theorem dX5_beginsText_10 : decode cX5_beginsText 10 = .ok (.aload_n 0, 1) := dk_42 (dk_at dksX5_beginsText_0 10 rfl rfl)
theorem dX5_beginsText_11 : decode cX5_beginsText 11 = .ok (.iconst 0, 1) := dk_3 (dk_at dksX5_beginsText_0 11 rfl rfl)
theorem dX5_beginsText_12 : decode cX5_beginsText 12 = .ok (.putfield 155, 3) := dk_181 0 155 (dk_at dksX5_beginsText_0 12 rfl rfl)
theorem dX5_beginsText_15 : decode cX5_beginsText 15 = .ok (.aload_n 0, 1) := dk_42 (dk_at dksX5_beginsText_0 15 rfl rfl)
theorem dX5_beginsText_16 : decode cX5_beginsText 16 = .ok (.iconst 0, 1) := dk_3 (dk_at dksX5_beginsText_0 16 rfl rfl)
theorem dX5_beginsText_17 : decode cX5_beginsText 17 = .ok (.putfield 210, 3) := dk_181 0 210 (dk_at dksX5_beginsText_0 17 rfl rfl)
theorem dX5_beginsText_20 : decode cX5_beginsText 20 = .ok (.return_, 1) := dk_177 (dk_at dksX5_beginsText_0 20 rfl rfl)
abbrev cX5_readsRule : ByteArray := prog_19_method_37_code
def yX5_readsRule : MethodName := ⟨RX5, "readsRule", "()Z"⟩
def dkwX5_readsRule_6 : List UInt8 := [180, 0, 155, 79, 42, 42, 180, 0, 210, 4, 96, 181, 0, 210, 4, 172]
abbrev dktX5_readsRule_6 : List UInt8 := dkwX5_readsRule_6 ++ []
def dkwX5_readsRule_5 : List UInt8 := [180, 0, 155, 79, 42, 182, 0, 213, 154, 0, 5, 3, 172, 42, 180, 0, 39, 42, 180, 0, 210, 42]
abbrev dktX5_readsRule_5 : List UInt8 := dkwX5_readsRule_5 ++ dktX5_readsRule_6
def dkwX5_readsRule_4 : List UInt8 := [16, 120, 159, 0, 12, 42, 182, 0, 195, 154, 0, 5, 3, 172, 42, 180, 0, 36, 42, 180, 0, 210, 42]
abbrev dktX5_readsRule_4 : List UInt8 := dkwX5_readsRule_4 ++ dktX5_readsRule_5
def dkwX5_readsRule_3 : List UInt8 := [42, 180, 0, 33, 42, 180, 0, 210, 42, 180, 0, 155, 79, 42, 3, 181, 0, 159, 42, 3, 181, 0, 162, 27]
abbrev dktX5_readsRule_3 : List UInt8 := dkwX5_readsRule_3 ++ dktX5_readsRule_4
def dkwX5_readsRule_2 : List UInt8 := [182, 0, 144, 172, 42, 180, 0, 30, 42, 180, 0, 210, 27, 79, 42, 42, 180, 0, 131, 4, 96, 181, 0, 131]
abbrev dktX5_readsRule_2 : List UInt8 := dkwX5_readsRule_2 ++ dktX5_readsRule_3
def dkwX5_readsRule_1 : List UInt8 := [4, 42, 180, 0, 131, 182, 0, 144, 172, 42, 180, 0, 210, 16, 16, 160, 0, 13, 42, 7, 42, 180, 0, 131]
abbrev dktX5_readsRule_1 : List UInt8 := dkwX5_readsRule_1 ++ dktX5_readsRule_2
def dkwX5_readsRule_0 : List UInt8 := [42, 182, 0, 137, 60, 27, 16, 118, 159, 0, 25, 27, 16, 121, 159, 0, 19, 27, 16, 120, 159, 0, 13, 42]
abbrev dktX5_readsRule_0 : List UInt8 := dkwX5_readsRule_0 ++ dktX5_readsRule_1
theorem dksX5_readsRule_0 : cX5_readsRule.data.toList.drop 0 = dktX5_readsRule_0 := by decide +kernel
theorem dksX5_readsRule_1 : cX5_readsRule.data.toList.drop 24 = dktX5_readsRule_1 := dk_seg dksX5_readsRule_0 24 rfl rfl
theorem dksX5_readsRule_2 : cX5_readsRule.data.toList.drop 48 = dktX5_readsRule_2 := dk_seg dksX5_readsRule_1 24 rfl rfl
theorem dksX5_readsRule_3 : cX5_readsRule.data.toList.drop 72 = dktX5_readsRule_3 := dk_seg dksX5_readsRule_2 24 rfl rfl
theorem dksX5_readsRule_4 : cX5_readsRule.data.toList.drop 96 = dktX5_readsRule_4 := dk_seg dksX5_readsRule_3 24 rfl rfl
theorem dksX5_readsRule_5 : cX5_readsRule.data.toList.drop 119 = dktX5_readsRule_5 := dk_seg dksX5_readsRule_4 23 rfl rfl
theorem dksX5_readsRule_6 : cX5_readsRule.data.toList.drop 141 = dktX5_readsRule_6 := dk_seg dksX5_readsRule_5 22 rfl rfl
theorem dX5_readsRule_0 : decode cX5_readsRule 0 = .ok (.aload_n 0, 1) := dk_42 (dk_at dksX5_readsRule_0 0 rfl rfl)
theorem dX5_readsRule_1 : decode cX5_readsRule 1 = .ok (.invokevirtual 137, 3) := dk_182 0 137 (dk_at dksX5_readsRule_0 1 rfl rfl)
theorem dX5_readsRule_4 : decode cX5_readsRule 4 = .ok (.istore_n 1, 1) := dk_60 (dk_at dksX5_readsRule_0 4 rfl rfl)
theorem dX5_readsRule_5 : decode cX5_readsRule 5 = .ok (.iload_n 1, 1) := dk_27 (dk_at dksX5_readsRule_0 5 rfl rfl)
theorem dX5_readsRule_6 : decode cX5_readsRule 6 = .ok (.bipush 118, 2) := dk_16 118 (dk_at dksX5_readsRule_0 6 rfl rfl)
theorem dX5_readsRule_8 : decode cX5_readsRule 8 = .ok (.if_icmp .eq 25, 3) := dk_159 0 25 (dk_at dksX5_readsRule_0 8 rfl rfl)
theorem dX5_readsRule_11 : decode cX5_readsRule 11 = .ok (.iload_n 1, 1) := dk_27 (dk_at dksX5_readsRule_0 11 rfl rfl)
theorem dX5_readsRule_12 : decode cX5_readsRule 12 = .ok (.bipush 121, 2) := dk_16 121 (dk_at dksX5_readsRule_0 12 rfl rfl)
theorem dX5_readsRule_14 : decode cX5_readsRule 14 = .ok (.if_icmp .eq 19, 3) := dk_159 0 19 (dk_at dksX5_readsRule_0 14 rfl rfl)
theorem dX5_readsRule_17 : decode cX5_readsRule 17 = .ok (.iload_n 1, 1) := dk_27 (dk_at dksX5_readsRule_0 17 rfl rfl)
theorem dX5_readsRule_18 : decode cX5_readsRule 18 = .ok (.bipush 120, 2) := dk_16 120 (dk_at dksX5_readsRule_0 18 rfl rfl)
theorem dX5_readsRule_20 : decode cX5_readsRule 20 = .ok (.if_icmp .eq 13, 3) := dk_159 0 13 (dk_at dksX5_readsRule_0 20 rfl rfl)
theorem dX5_readsRule_23 : decode cX5_readsRule 23 = .ok (.aload_n 0, 1) := dk_42 (dk_at dksX5_readsRule_0 23 rfl rfl)
theorem dX5_readsRule_24 : decode cX5_readsRule 24 = .ok (.iconst 1, 1) := dk_4 (dk_at dksX5_readsRule_1 0 rfl rfl)
theorem dX5_readsRule_25 : decode cX5_readsRule 25 = .ok (.aload_n 0, 1) := dk_42 (dk_at dksX5_readsRule_1 1 rfl rfl)
theorem dX5_readsRule_26 : decode cX5_readsRule 26 = .ok (.getfield 131, 3) := dk_180 0 131 (dk_at dksX5_readsRule_1 2 rfl rfl)
theorem dX5_readsRule_29 : decode cX5_readsRule 29 = .ok (.invokevirtual 144, 3) := dk_182 0 144 (dk_at dksX5_readsRule_1 5 rfl rfl)
theorem dX5_readsRule_32 : decode cX5_readsRule 32 = .ok (.ireturn, 1) := dk_172 (dk_at dksX5_readsRule_1 8 rfl rfl)
theorem dX5_readsRule_33 : decode cX5_readsRule 33 = .ok (.aload_n 0, 1) := dk_42 (dk_at dksX5_readsRule_1 9 rfl rfl)
theorem dX5_readsRule_34 : decode cX5_readsRule 34 = .ok (.getfield 210, 3) := dk_180 0 210 (dk_at dksX5_readsRule_1 10 rfl rfl)
theorem dX5_readsRule_37 : decode cX5_readsRule 37 = .ok (.bipush 16, 2) := dk_16 16 (dk_at dksX5_readsRule_1 13 rfl rfl)
theorem dX5_readsRule_39 : decode cX5_readsRule 39 = .ok (.if_icmp .ne 13, 3) := dk_160 0 13 (dk_at dksX5_readsRule_1 15 rfl rfl)
theorem dX5_readsRule_42 : decode cX5_readsRule 42 = .ok (.aload_n 0, 1) := dk_42 (dk_at dksX5_readsRule_1 18 rfl rfl)
theorem dX5_readsRule_43 : decode cX5_readsRule 43 = .ok (.iconst 4, 1) := dk_7 (dk_at dksX5_readsRule_1 19 rfl rfl)
theorem dX5_readsRule_44 : decode cX5_readsRule 44 = .ok (.aload_n 0, 1) := dk_42 (dk_at dksX5_readsRule_1 20 rfl rfl)
theorem dX5_readsRule_45 : decode cX5_readsRule 45 = .ok (.getfield 131, 3) := dk_180 0 131 (dk_at dksX5_readsRule_1 21 rfl rfl)
theorem dX5_readsRule_48 : decode cX5_readsRule 48 = .ok (.invokevirtual 144, 3) := dk_182 0 144 (dk_at dksX5_readsRule_2 0 rfl rfl)
theorem dX5_readsRule_51 : decode cX5_readsRule 51 = .ok (.ireturn, 1) := dk_172 (dk_at dksX5_readsRule_2 3 rfl rfl)
theorem dX5_readsRule_52 : decode cX5_readsRule 52 = .ok (.aload_n 0, 1) := dk_42 (dk_at dksX5_readsRule_2 4 rfl rfl)
theorem dX5_readsRule_53 : decode cX5_readsRule 53 = .ok (.getfield 30, 3) := dk_180 0 30 (dk_at dksX5_readsRule_2 5 rfl rfl)
theorem dX5_readsRule_56 : decode cX5_readsRule 56 = .ok (.aload_n 0, 1) := dk_42 (dk_at dksX5_readsRule_2 8 rfl rfl)
theorem dX5_readsRule_57 : decode cX5_readsRule 57 = .ok (.getfield 210, 3) := dk_180 0 210 (dk_at dksX5_readsRule_2 9 rfl rfl)
theorem dX5_readsRule_60 : decode cX5_readsRule 60 = .ok (.iload_n 1, 1) := dk_27 (dk_at dksX5_readsRule_2 12 rfl rfl)
theorem dX5_readsRule_61 : decode cX5_readsRule 61 = .ok (.iastore, 1) := dk_79 (dk_at dksX5_readsRule_2 13 rfl rfl)
theorem dX5_readsRule_62 : decode cX5_readsRule 62 = .ok (.aload_n 0, 1) := dk_42 (dk_at dksX5_readsRule_2 14 rfl rfl)
theorem dX5_readsRule_63 : decode cX5_readsRule 63 = .ok (.aload_n 0, 1) := dk_42 (dk_at dksX5_readsRule_2 15 rfl rfl)
theorem dX5_readsRule_64 : decode cX5_readsRule 64 = .ok (.getfield 131, 3) := dk_180 0 131 (dk_at dksX5_readsRule_2 16 rfl rfl)
theorem dX5_readsRule_67 : decode cX5_readsRule 67 = .ok (.iconst 1, 1) := dk_4 (dk_at dksX5_readsRule_2 19 rfl rfl)
theorem dX5_readsRule_68 : decode cX5_readsRule 68 = .ok (.iadd, 1) := dk_96 (dk_at dksX5_readsRule_2 20 rfl rfl)
theorem dX5_readsRule_69 : decode cX5_readsRule 69 = .ok (.putfield 131, 3) := dk_181 0 131 (dk_at dksX5_readsRule_2 21 rfl rfl)
theorem dX5_readsRule_72 : decode cX5_readsRule 72 = .ok (.aload_n 0, 1) := dk_42 (dk_at dksX5_readsRule_3 0 rfl rfl)
theorem dX5_readsRule_73 : decode cX5_readsRule 73 = .ok (.getfield 33, 3) := dk_180 0 33 (dk_at dksX5_readsRule_3 1 rfl rfl)
theorem dX5_readsRule_76 : decode cX5_readsRule 76 = .ok (.aload_n 0, 1) := dk_42 (dk_at dksX5_readsRule_3 4 rfl rfl)
theorem dX5_readsRule_77 : decode cX5_readsRule 77 = .ok (.getfield 210, 3) := dk_180 0 210 (dk_at dksX5_readsRule_3 5 rfl rfl)
theorem dX5_readsRule_80 : decode cX5_readsRule 80 = .ok (.aload_n 0, 1) := dk_42 (dk_at dksX5_readsRule_3 8 rfl rfl)
theorem dX5_readsRule_81 : decode cX5_readsRule 81 = .ok (.getfield 155, 3) := dk_180 0 155 (dk_at dksX5_readsRule_3 9 rfl rfl)
theorem dX5_readsRule_84 : decode cX5_readsRule 84 = .ok (.iastore, 1) := dk_79 (dk_at dksX5_readsRule_3 12 rfl rfl)
theorem dX5_readsRule_85 : decode cX5_readsRule 85 = .ok (.aload_n 0, 1) := dk_42 (dk_at dksX5_readsRule_3 13 rfl rfl)
theorem dX5_readsRule_86 : decode cX5_readsRule 86 = .ok (.iconst 0, 1) := dk_3 (dk_at dksX5_readsRule_3 14 rfl rfl)
theorem dX5_readsRule_87 : decode cX5_readsRule 87 = .ok (.putfield 159, 3) := dk_181 0 159 (dk_at dksX5_readsRule_3 15 rfl rfl)
theorem dX5_readsRule_90 : decode cX5_readsRule 90 = .ok (.aload_n 0, 1) := dk_42 (dk_at dksX5_readsRule_3 18 rfl rfl)
theorem dX5_readsRule_91 : decode cX5_readsRule 91 = .ok (.iconst 0, 1) := dk_3 (dk_at dksX5_readsRule_3 19 rfl rfl)
theorem dX5_readsRule_92 : decode cX5_readsRule 92 = .ok (.putfield 162, 3) := dk_181 0 162 (dk_at dksX5_readsRule_3 20 rfl rfl)
theorem dX5_readsRule_95 : decode cX5_readsRule 95 = .ok (.iload_n 1, 1) := dk_27 (dk_at dksX5_readsRule_3 23 rfl rfl)
theorem dX5_readsRule_96 : decode cX5_readsRule 96 = .ok (.bipush 120, 2) := dk_16 120 (dk_at dksX5_readsRule_4 0 rfl rfl)
theorem dX5_readsRule_98 : decode cX5_readsRule 98 = .ok (.if_icmp .eq 12, 3) := dk_159 0 12 (dk_at dksX5_readsRule_4 2 rfl rfl)
theorem dX5_readsRule_101 : decode cX5_readsRule 101 = .ok (.aload_n 0, 1) := dk_42 (dk_at dksX5_readsRule_4 5 rfl rfl)
theorem dX5_readsRule_102 : decode cX5_readsRule 102 = .ok (.invokevirtual 195, 3) := dk_182 0 195 (dk_at dksX5_readsRule_4 6 rfl rfl)
theorem dX5_readsRule_105 : decode cX5_readsRule 105 = .ok (.ifCond .ne 5, 3) := dk_154 0 5 (dk_at dksX5_readsRule_4 9 rfl rfl)
theorem dX5_readsRule_108 : decode cX5_readsRule 108 = .ok (.iconst 0, 1) := dk_3 (dk_at dksX5_readsRule_4 12 rfl rfl)
theorem dX5_readsRule_109 : decode cX5_readsRule 109 = .ok (.ireturn, 1) := dk_172 (dk_at dksX5_readsRule_4 13 rfl rfl)
theorem dX5_readsRule_110 : decode cX5_readsRule 110 = .ok (.aload_n 0, 1) := dk_42 (dk_at dksX5_readsRule_4 14 rfl rfl)
theorem dX5_readsRule_111 : decode cX5_readsRule 111 = .ok (.getfield 36, 3) := dk_180 0 36 (dk_at dksX5_readsRule_4 15 rfl rfl)
theorem dX5_readsRule_114 : decode cX5_readsRule 114 = .ok (.aload_n 0, 1) := dk_42 (dk_at dksX5_readsRule_4 18 rfl rfl)
theorem dX5_readsRule_115 : decode cX5_readsRule 115 = .ok (.getfield 210, 3) := dk_180 0 210 (dk_at dksX5_readsRule_4 19 rfl rfl)
theorem dX5_readsRule_118 : decode cX5_readsRule 118 = .ok (.aload_n 0, 1) := dk_42 (dk_at dksX5_readsRule_4 22 rfl rfl)
theorem dX5_readsRule_119 : decode cX5_readsRule 119 = .ok (.getfield 155, 3) := dk_180 0 155 (dk_at dksX5_readsRule_5 0 rfl rfl)
theorem dX5_readsRule_122 : decode cX5_readsRule 122 = .ok (.iastore, 1) := dk_79 (dk_at dksX5_readsRule_5 3 rfl rfl)
theorem dX5_readsRule_123 : decode cX5_readsRule 123 = .ok (.aload_n 0, 1) := dk_42 (dk_at dksX5_readsRule_5 4 rfl rfl)
theorem dX5_readsRule_124 : decode cX5_readsRule 124 = .ok (.invokevirtual 213, 3) := dk_182 0 213 (dk_at dksX5_readsRule_5 5 rfl rfl)
theorem dX5_readsRule_127 : decode cX5_readsRule 127 = .ok (.ifCond .ne 5, 3) := dk_154 0 5 (dk_at dksX5_readsRule_5 8 rfl rfl)
theorem dX5_readsRule_130 : decode cX5_readsRule 130 = .ok (.iconst 0, 1) := dk_3 (dk_at dksX5_readsRule_5 11 rfl rfl)
theorem dX5_readsRule_131 : decode cX5_readsRule 131 = .ok (.ireturn, 1) := dk_172 (dk_at dksX5_readsRule_5 12 rfl rfl)
theorem dX5_readsRule_132 : decode cX5_readsRule 132 = .ok (.aload_n 0, 1) := dk_42 (dk_at dksX5_readsRule_5 13 rfl rfl)
theorem dX5_readsRule_133 : decode cX5_readsRule 133 = .ok (.getfield 39, 3) := dk_180 0 39 (dk_at dksX5_readsRule_5 14 rfl rfl)
theorem dX5_readsRule_136 : decode cX5_readsRule 136 = .ok (.aload_n 0, 1) := dk_42 (dk_at dksX5_readsRule_5 17 rfl rfl)
theorem dX5_readsRule_137 : decode cX5_readsRule 137 = .ok (.getfield 210, 3) := dk_180 0 210 (dk_at dksX5_readsRule_5 18 rfl rfl)
theorem dX5_readsRule_140 : decode cX5_readsRule 140 = .ok (.aload_n 0, 1) := dk_42 (dk_at dksX5_readsRule_5 21 rfl rfl)
theorem dX5_readsRule_141 : decode cX5_readsRule 141 = .ok (.getfield 155, 3) := dk_180 0 155 (dk_at dksX5_readsRule_6 0 rfl rfl)
theorem dX5_readsRule_144 : decode cX5_readsRule 144 = .ok (.iastore, 1) := dk_79 (dk_at dksX5_readsRule_6 3 rfl rfl)
theorem dX5_readsRule_145 : decode cX5_readsRule 145 = .ok (.aload_n 0, 1) := dk_42 (dk_at dksX5_readsRule_6 4 rfl rfl)
theorem dX5_readsRule_146 : decode cX5_readsRule 146 = .ok (.aload_n 0, 1) := dk_42 (dk_at dksX5_readsRule_6 5 rfl rfl)
theorem dX5_readsRule_147 : decode cX5_readsRule 147 = .ok (.getfield 210, 3) := dk_180 0 210 (dk_at dksX5_readsRule_6 6 rfl rfl)
theorem dX5_readsRule_150 : decode cX5_readsRule 150 = .ok (.iconst 1, 1) := dk_4 (dk_at dksX5_readsRule_6 9 rfl rfl)
theorem dX5_readsRule_151 : decode cX5_readsRule 151 = .ok (.iadd, 1) := dk_96 (dk_at dksX5_readsRule_6 10 rfl rfl)
theorem dX5_readsRule_152 : decode cX5_readsRule 152 = .ok (.putfield 210, 3) := dk_181 0 210 (dk_at dksX5_readsRule_6 11 rfl rfl)
theorem dX5_readsRule_155 : decode cX5_readsRule 155 = .ok (.iconst 1, 1) := dk_4 (dk_at dksX5_readsRule_6 14 rfl rfl)
theorem dX5_readsRule_156 : decode cX5_readsRule 156 = .ok (.ireturn, 1) := dk_172 (dk_at dksX5_readsRule_6 15 rfl rfl)
abbrev cX5_here : ByteArray := prog_19_method_18_code
def yX5_here : MethodName := ⟨RX5, "here", "()I"⟩
def dkwX5_here_1 : List UInt8 := [167, 0, 4, 2, 172]
abbrev dktX5_here_1 : List UInt8 := dkwX5_here_1 ++ []
def dkwX5_here_0 : List UInt8 := [42, 180, 0, 131, 42, 180, 0, 134, 162, 0, 19, 42, 180, 0, 20, 42, 180, 0, 131, 51, 17, 0, 255, 126]
abbrev dktX5_here_0 : List UInt8 := dkwX5_here_0 ++ dktX5_here_1
theorem dksX5_here_0 : cX5_here.data.toList.drop 0 = dktX5_here_0 := by decide +kernel
theorem dksX5_here_1 : cX5_here.data.toList.drop 24 = dktX5_here_1 := dk_seg dksX5_here_0 24 rfl rfl
theorem dX5_here_0 : decode cX5_here 0 = .ok (.aload_n 0, 1) := dk_42 (dk_at dksX5_here_0 0 rfl rfl)
theorem dX5_here_1 : decode cX5_here 1 = .ok (.getfield 131, 3) := dk_180 0 131 (dk_at dksX5_here_0 1 rfl rfl)
theorem dX5_here_4 : decode cX5_here 4 = .ok (.aload_n 0, 1) := dk_42 (dk_at dksX5_here_0 4 rfl rfl)
theorem dX5_here_5 : decode cX5_here 5 = .ok (.getfield 134, 3) := dk_180 0 134 (dk_at dksX5_here_0 5 rfl rfl)
theorem dX5_here_8 : decode cX5_here 8 = .ok (.if_icmp .ge 19, 3) := dk_162 0 19 (dk_at dksX5_here_0 8 rfl rfl)
theorem dX5_here_11 : decode cX5_here 11 = .ok (.aload_n 0, 1) := dk_42 (dk_at dksX5_here_0 11 rfl rfl)
theorem dX5_here_12 : decode cX5_here 12 = .ok (.getfield 20, 3) := dk_180 0 20 (dk_at dksX5_here_0 12 rfl rfl)
theorem dX5_here_15 : decode cX5_here 15 = .ok (.aload_n 0, 1) := dk_42 (dk_at dksX5_here_0 15 rfl rfl)
theorem dX5_here_16 : decode cX5_here 16 = .ok (.getfield 131, 3) := dk_180 0 131 (dk_at dksX5_here_0 16 rfl rfl)
theorem dX5_here_19 : decode cX5_here 19 = .ok (.baload, 1) := dk_51 (dk_at dksX5_here_0 19 rfl rfl)
theorem dX5_here_20 : decode cX5_here 20 = .ok (.sipush 255, 3) := dk_17 0 255 (dk_at dksX5_here_0 20 rfl rfl)
theorem dX5_here_23 : decode cX5_here 23 = .ok (.iand, 1) := dk_126 (dk_at dksX5_here_0 23 rfl rfl)
theorem dX5_here_24 : decode cX5_here 24 = .ok (.goto 4, 3) := dk_167 0 4 (dk_at dksX5_here_1 0 rfl rfl)
theorem dX5_here_27 : decode cX5_here 27 = .ok (.iconst (-1), 1) := dk_2 (dk_at dksX5_here_1 3 rfl rfl)
theorem dX5_here_28 : decode cX5_here 28 = .ok (.ireturn, 1) := dk_172 (dk_at dksX5_here_1 4 rfl rfl)
abbrev cX5_wrongAt : ByteArray := prog_19_method_20_code
def yX5_wrongAt : MethodName := ⟨RX5, "wrongAt", "(II)Z"⟩
def dkwX5_wrongAt_0 : List UInt8 := [42, 17, 252, 24, 27, 104, 28, 100, 181, 0, 141, 3, 172]
abbrev dktX5_wrongAt_0 : List UInt8 := dkwX5_wrongAt_0 ++ []
theorem dksX5_wrongAt_0 : cX5_wrongAt.data.toList.drop 0 = dktX5_wrongAt_0 := by decide +kernel
theorem dX5_wrongAt_0 : decode cX5_wrongAt 0 = .ok (.aload_n 0, 1) := dk_42 (dk_at dksX5_wrongAt_0 0 rfl rfl)
theorem dX5_wrongAt_1 : decode cX5_wrongAt 1 = .ok (.sipush (-1000), 3) := dk_17 252 24 (dk_at dksX5_wrongAt_0 1 rfl rfl)
theorem dX5_wrongAt_4 : decode cX5_wrongAt 4 = .ok (.iload_n 1, 1) := dk_27 (dk_at dksX5_wrongAt_0 4 rfl rfl)
theorem dX5_wrongAt_5 : decode cX5_wrongAt 5 = .ok (.imul, 1) := dk_104 (dk_at dksX5_wrongAt_0 5 rfl rfl)
theorem dX5_wrongAt_6 : decode cX5_wrongAt 6 = .ok (.iload_n 2, 1) := dk_28 (dk_at dksX5_wrongAt_0 6 rfl rfl)
theorem dX5_wrongAt_7 : decode cX5_wrongAt 7 = .ok (.isub, 1) := dk_100 (dk_at dksX5_wrongAt_0 7 rfl rfl)
theorem dX5_wrongAt_8 : decode cX5_wrongAt 8 = .ok (.putfield 141, 3) := dk_181 0 141 (dk_at dksX5_wrongAt_0 8 rfl rfl)
theorem dX5_wrongAt_11 : decode cX5_wrongAt 11 = .ok (.iconst 0, 1) := dk_3 (dk_at dksX5_wrongAt_0 11 rfl rfl)
theorem dX5_wrongAt_12 : decode cX5_wrongAt 12 = .ok (.ireturn, 1) := dk_172 (dk_at dksX5_wrongAt_0 12 rfl rfl)
abbrev cX5_readsSum : ByteArray := prog_19_method_31_code
def yX5_readsSum : MethodName := ⟨RX5, "readsSum", "()Z"⟩
def dkwX5_readsSum_7 : List UInt8 := [167, 255, 107]
abbrev dktX5_readsSum_7 : List UInt8 := dkwX5_readsSum_7 ++ []
def dkwX5_readsSum_6 : List UInt8 := [182, 0, 192, 153, 0, 13, 42, 4, 42, 180, 0, 131, 182, 0, 144, 172, 42, 4, 182, 0, 188, 4, 172]
abbrev dktX5_readsSum_6 : List UInt8 := dkwX5_readsSum_6 ++ dktX5_readsSum_7
def dkwX5_readsSum_5 : List UInt8 := [180, 0, 159, 4, 100, 181, 0, 159, 42, 42, 180, 0, 131, 4, 96, 181, 0, 131, 167, 0, 28, 42, 27]
abbrev dktX5_readsSum_5 : List UInt8 := dkwX5_readsSum_5 ++ dktX5_readsSum_6
def dkwX5_readsSum_4 : List UInt8 := [182, 0, 192, 153, 0, 41, 42, 4, 182, 0, 188, 42, 42, 180, 0, 162, 4, 100, 181, 0, 162, 42, 42]
abbrev dktX5_readsSum_4 : List UInt8 := dkwX5_readsSum_4 ++ dktX5_readsSum_5
def dkwX5_readsSum_3 : List UInt8 := [96, 181, 0, 131, 42, 182, 0, 182, 154, 0, 85, 3, 172, 42, 182, 0, 137, 16, 93, 160, 0, 49, 42, 27]
abbrev dktX5_readsSum_3 : List UInt8 := dkwX5_readsSum_3 ++ dktX5_readsSum_4
def dkwX5_readsSum_2 : List UInt8 := [180, 0, 162, 18, 158, 28, 104, 79, 42, 42, 180, 0, 162, 4, 96, 181, 0, 162, 42, 42, 180, 0, 131, 4]
abbrev dktX5_readsSum_2 : List UInt8 := dkwX5_readsSum_2 ++ dktX5_readsSum_3
def dkwX5_readsSum_1 : List UInt8 := [159, 0, 59, 42, 28, 7, 162, 0, 7, 4, 167, 0, 4, 3, 182, 0, 188, 42, 180, 0, 27, 42]
abbrev dktX5_readsSum_1 : List UInt8 := dkwX5_readsSum_1 ++ dktX5_readsSum_2
def dkwX5_readsSum_0 : List UInt8 := [42, 180, 0, 162, 60, 42, 182, 0, 182, 154, 0, 5, 3, 172, 42, 182, 0, 137, 184, 0, 185, 61, 28, 2]
abbrev dktX5_readsSum_0 : List UInt8 := dkwX5_readsSum_0 ++ dktX5_readsSum_1
theorem dksX5_readsSum_0 : cX5_readsSum.data.toList.drop 0 = dktX5_readsSum_0 := by decide +kernel
theorem dksX5_readsSum_1 : cX5_readsSum.data.toList.drop 24 = dktX5_readsSum_1 := dk_seg dksX5_readsSum_0 24 rfl rfl
theorem dksX5_readsSum_2 : cX5_readsSum.data.toList.drop 46 = dktX5_readsSum_2 := dk_seg dksX5_readsSum_1 22 rfl rfl
theorem dksX5_readsSum_3 : cX5_readsSum.data.toList.drop 70 = dktX5_readsSum_3 := dk_seg dksX5_readsSum_2 24 rfl rfl
theorem dksX5_readsSum_4 : cX5_readsSum.data.toList.drop 94 = dktX5_readsSum_4 := dk_seg dksX5_readsSum_3 24 rfl rfl
theorem dksX5_readsSum_5 : cX5_readsSum.data.toList.drop 117 = dktX5_readsSum_5 := dk_seg dksX5_readsSum_4 23 rfl rfl
theorem dksX5_readsSum_6 : cX5_readsSum.data.toList.drop 140 = dktX5_readsSum_6 := dk_seg dksX5_readsSum_5 23 rfl rfl
theorem dksX5_readsSum_7 : cX5_readsSum.data.toList.drop 163 = dktX5_readsSum_7 := dk_seg dksX5_readsSum_6 23 rfl rfl
theorem dX5_readsSum_0 : decode cX5_readsSum 0 = .ok (.aload_n 0, 1) := dk_42 (dk_at dksX5_readsSum_0 0 rfl rfl)
theorem dX5_readsSum_1 : decode cX5_readsSum 1 = .ok (.getfield 162, 3) := dk_180 0 162 (dk_at dksX5_readsSum_0 1 rfl rfl)
theorem dX5_readsSum_4 : decode cX5_readsSum 4 = .ok (.istore_n 1, 1) := dk_60 (dk_at dksX5_readsSum_0 4 rfl rfl)
theorem dX5_readsSum_5 : decode cX5_readsSum 5 = .ok (.aload_n 0, 1) := dk_42 (dk_at dksX5_readsSum_0 5 rfl rfl)
theorem dX5_readsSum_6 : decode cX5_readsSum 6 = .ok (.invokevirtual 182, 3) := dk_182 0 182 (dk_at dksX5_readsSum_0 6 rfl rfl)
theorem dX5_readsSum_9 : decode cX5_readsSum 9 = .ok (.ifCond .ne 5, 3) := dk_154 0 5 (dk_at dksX5_readsSum_0 9 rfl rfl)
theorem dX5_readsSum_12 : decode cX5_readsSum 12 = .ok (.iconst 0, 1) := dk_3 (dk_at dksX5_readsSum_0 12 rfl rfl)
theorem dX5_readsSum_13 : decode cX5_readsSum 13 = .ok (.ireturn, 1) := dk_172 (dk_at dksX5_readsSum_0 13 rfl rfl)
theorem dX5_readsSum_14 : decode cX5_readsSum 14 = .ok (.aload_n 0, 1) := dk_42 (dk_at dksX5_readsSum_0 14 rfl rfl)
theorem dX5_readsSum_15 : decode cX5_readsSum 15 = .ok (.invokevirtual 137, 3) := dk_182 0 137 (dk_at dksX5_readsSum_0 15 rfl rfl)
theorem dX5_readsSum_18 : decode cX5_readsSum 18 = .ok (.invokestatic 185, 3) := dk_184 0 185 (dk_at dksX5_readsSum_0 18 rfl rfl)
theorem dX5_readsSum_21 : decode cX5_readsSum 21 = .ok (.istore_n 2, 1) := dk_61 (dk_at dksX5_readsSum_0 21 rfl rfl)
theorem dX5_readsSum_22 : decode cX5_readsSum 22 = .ok (.iload_n 2, 1) := dk_28 (dk_at dksX5_readsSum_0 22 rfl rfl)
theorem dX5_readsSum_23 : decode cX5_readsSum 23 = .ok (.iconst (-1), 1) := dk_2 (dk_at dksX5_readsSum_0 23 rfl rfl)
theorem dX5_readsSum_24 : decode cX5_readsSum 24 = .ok (.if_icmp .eq 59, 3) := dk_159 0 59 (dk_at dksX5_readsSum_1 0 rfl rfl)
theorem dX5_readsSum_27 : decode cX5_readsSum 27 = .ok (.aload_n 0, 1) := dk_42 (dk_at dksX5_readsSum_1 3 rfl rfl)
theorem dX5_readsSum_28 : decode cX5_readsSum 28 = .ok (.iload_n 2, 1) := dk_28 (dk_at dksX5_readsSum_1 4 rfl rfl)
theorem dX5_readsSum_29 : decode cX5_readsSum 29 = .ok (.iconst 4, 1) := dk_7 (dk_at dksX5_readsSum_1 5 rfl rfl)
theorem dX5_readsSum_30 : decode cX5_readsSum 30 = .ok (.if_icmp .ge 7, 3) := dk_162 0 7 (dk_at dksX5_readsSum_1 6 rfl rfl)
theorem dX5_readsSum_33 : decode cX5_readsSum 33 = .ok (.iconst 1, 1) := dk_4 (dk_at dksX5_readsSum_1 9 rfl rfl)
theorem dX5_readsSum_34 : decode cX5_readsSum 34 = .ok (.goto 4, 3) := dk_167 0 4 (dk_at dksX5_readsSum_1 10 rfl rfl)
theorem dX5_readsSum_37 : decode cX5_readsSum 37 = .ok (.iconst 0, 1) := dk_3 (dk_at dksX5_readsSum_1 13 rfl rfl)
theorem dX5_readsSum_38 : decode cX5_readsSum 38 = .ok (.invokevirtual 188, 3) := dk_182 0 188 (dk_at dksX5_readsSum_1 14 rfl rfl)
theorem dX5_readsSum_41 : decode cX5_readsSum 41 = .ok (.aload_n 0, 1) := dk_42 (dk_at dksX5_readsSum_1 17 rfl rfl)
theorem dX5_readsSum_42 : decode cX5_readsSum 42 = .ok (.getfield 27, 3) := dk_180 0 27 (dk_at dksX5_readsSum_1 18 rfl rfl)
theorem dX5_readsSum_45 : decode cX5_readsSum 45 = .ok (.aload_n 0, 1) := dk_42 (dk_at dksX5_readsSum_1 21 rfl rfl)
theorem dX5_readsSum_46 : decode cX5_readsSum 46 = .ok (.getfield 162, 3) := dk_180 0 162 (dk_at dksX5_readsSum_2 0 rfl rfl)
theorem dX5_readsSum_49 : decode cX5_readsSum 49 = .ok (.ldc 158, 2) := dk_18 158 (dk_at dksX5_readsSum_2 3 rfl rfl)
theorem dX5_readsSum_51 : decode cX5_readsSum 51 = .ok (.iload_n 2, 1) := dk_28 (dk_at dksX5_readsSum_2 5 rfl rfl)
theorem dX5_readsSum_52 : decode cX5_readsSum 52 = .ok (.imul, 1) := dk_104 (dk_at dksX5_readsSum_2 6 rfl rfl)
theorem dX5_readsSum_53 : decode cX5_readsSum 53 = .ok (.iastore, 1) := dk_79 (dk_at dksX5_readsSum_2 7 rfl rfl)
theorem dX5_readsSum_54 : decode cX5_readsSum 54 = .ok (.aload_n 0, 1) := dk_42 (dk_at dksX5_readsSum_2 8 rfl rfl)
theorem dX5_readsSum_55 : decode cX5_readsSum 55 = .ok (.aload_n 0, 1) := dk_42 (dk_at dksX5_readsSum_2 9 rfl rfl)
theorem dX5_readsSum_56 : decode cX5_readsSum 56 = .ok (.getfield 162, 3) := dk_180 0 162 (dk_at dksX5_readsSum_2 10 rfl rfl)
theorem dX5_readsSum_59 : decode cX5_readsSum 59 = .ok (.iconst 1, 1) := dk_4 (dk_at dksX5_readsSum_2 13 rfl rfl)
theorem dX5_readsSum_60 : decode cX5_readsSum 60 = .ok (.iadd, 1) := dk_96 (dk_at dksX5_readsSum_2 14 rfl rfl)
theorem dX5_readsSum_61 : decode cX5_readsSum 61 = .ok (.putfield 162, 3) := dk_181 0 162 (dk_at dksX5_readsSum_2 15 rfl rfl)
theorem dX5_readsSum_64 : decode cX5_readsSum 64 = .ok (.aload_n 0, 1) := dk_42 (dk_at dksX5_readsSum_2 18 rfl rfl)
theorem dX5_readsSum_65 : decode cX5_readsSum 65 = .ok (.aload_n 0, 1) := dk_42 (dk_at dksX5_readsSum_2 19 rfl rfl)
theorem dX5_readsSum_66 : decode cX5_readsSum 66 = .ok (.getfield 131, 3) := dk_180 0 131 (dk_at dksX5_readsSum_2 20 rfl rfl)
theorem dX5_readsSum_69 : decode cX5_readsSum 69 = .ok (.iconst 1, 1) := dk_4 (dk_at dksX5_readsSum_2 23 rfl rfl)
theorem dX5_readsSum_70 : decode cX5_readsSum 70 = .ok (.iadd, 1) := dk_96 (dk_at dksX5_readsSum_3 0 rfl rfl)
theorem dX5_readsSum_71 : decode cX5_readsSum 71 = .ok (.putfield 131, 3) := dk_181 0 131 (dk_at dksX5_readsSum_3 1 rfl rfl)
theorem dX5_readsSum_74 : decode cX5_readsSum 74 = .ok (.aload_n 0, 1) := dk_42 (dk_at dksX5_readsSum_3 4 rfl rfl)
theorem dX5_readsSum_75 : decode cX5_readsSum 75 = .ok (.invokevirtual 182, 3) := dk_182 0 182 (dk_at dksX5_readsSum_3 5 rfl rfl)
theorem dX5_readsSum_78 : decode cX5_readsSum 78 = .ok (.ifCond .ne 85, 3) := dk_154 0 85 (dk_at dksX5_readsSum_3 8 rfl rfl)
theorem dX5_readsSum_81 : decode cX5_readsSum 81 = .ok (.iconst 0, 1) := dk_3 (dk_at dksX5_readsSum_3 11 rfl rfl)
theorem dX5_readsSum_82 : decode cX5_readsSum 82 = .ok (.ireturn, 1) := dk_172 (dk_at dksX5_readsSum_3 12 rfl rfl)
theorem dX5_readsSum_83 : decode cX5_readsSum 83 = .ok (.aload_n 0, 1) := dk_42 (dk_at dksX5_readsSum_3 13 rfl rfl)
theorem dX5_readsSum_84 : decode cX5_readsSum 84 = .ok (.invokevirtual 137, 3) := dk_182 0 137 (dk_at dksX5_readsSum_3 14 rfl rfl)
theorem dX5_readsSum_87 : decode cX5_readsSum 87 = .ok (.bipush 93, 2) := dk_16 93 (dk_at dksX5_readsSum_3 17 rfl rfl)
theorem dX5_readsSum_89 : decode cX5_readsSum 89 = .ok (.if_icmp .ne 49, 3) := dk_160 0 49 (dk_at dksX5_readsSum_3 19 rfl rfl)
theorem dX5_readsSum_92 : decode cX5_readsSum 92 = .ok (.aload_n 0, 1) := dk_42 (dk_at dksX5_readsSum_3 22 rfl rfl)
theorem dX5_readsSum_93 : decode cX5_readsSum 93 = .ok (.iload_n 1, 1) := dk_27 (dk_at dksX5_readsSum_3 23 rfl rfl)
theorem dX5_readsSum_94 : decode cX5_readsSum 94 = .ok (.invokevirtual 192, 3) := dk_182 0 192 (dk_at dksX5_readsSum_4 0 rfl rfl)
theorem dX5_readsSum_97 : decode cX5_readsSum 97 = .ok (.ifCond .eq 41, 3) := dk_153 0 41 (dk_at dksX5_readsSum_4 3 rfl rfl)
theorem dX5_readsSum_100 : decode cX5_readsSum 100 = .ok (.aload_n 0, 1) := dk_42 (dk_at dksX5_readsSum_4 6 rfl rfl)
theorem dX5_readsSum_101 : decode cX5_readsSum 101 = .ok (.iconst 1, 1) := dk_4 (dk_at dksX5_readsSum_4 7 rfl rfl)
theorem dX5_readsSum_102 : decode cX5_readsSum 102 = .ok (.invokevirtual 188, 3) := dk_182 0 188 (dk_at dksX5_readsSum_4 8 rfl rfl)
theorem dX5_readsSum_105 : decode cX5_readsSum 105 = .ok (.aload_n 0, 1) := dk_42 (dk_at dksX5_readsSum_4 11 rfl rfl)
theorem dX5_readsSum_106 : decode cX5_readsSum 106 = .ok (.aload_n 0, 1) := dk_42 (dk_at dksX5_readsSum_4 12 rfl rfl)
theorem dX5_readsSum_107 : decode cX5_readsSum 107 = .ok (.getfield 162, 3) := dk_180 0 162 (dk_at dksX5_readsSum_4 13 rfl rfl)
theorem dX5_readsSum_110 : decode cX5_readsSum 110 = .ok (.iconst 1, 1) := dk_4 (dk_at dksX5_readsSum_4 16 rfl rfl)
theorem dX5_readsSum_111 : decode cX5_readsSum 111 = .ok (.isub, 1) := dk_100 (dk_at dksX5_readsSum_4 17 rfl rfl)
theorem dX5_readsSum_112 : decode cX5_readsSum 112 = .ok (.putfield 162, 3) := dk_181 0 162 (dk_at dksX5_readsSum_4 18 rfl rfl)
theorem dX5_readsSum_115 : decode cX5_readsSum 115 = .ok (.aload_n 0, 1) := dk_42 (dk_at dksX5_readsSum_4 21 rfl rfl)
theorem dX5_readsSum_116 : decode cX5_readsSum 116 = .ok (.aload_n 0, 1) := dk_42 (dk_at dksX5_readsSum_4 22 rfl rfl)
theorem dX5_readsSum_117 : decode cX5_readsSum 117 = .ok (.getfield 159, 3) := dk_180 0 159 (dk_at dksX5_readsSum_5 0 rfl rfl)
theorem dX5_readsSum_120 : decode cX5_readsSum 120 = .ok (.iconst 1, 1) := dk_4 (dk_at dksX5_readsSum_5 3 rfl rfl)
theorem dX5_readsSum_121 : decode cX5_readsSum 121 = .ok (.isub, 1) := dk_100 (dk_at dksX5_readsSum_5 4 rfl rfl)
theorem dX5_readsSum_122 : decode cX5_readsSum 122 = .ok (.putfield 159, 3) := dk_181 0 159 (dk_at dksX5_readsSum_5 5 rfl rfl)
theorem dX5_readsSum_125 : decode cX5_readsSum 125 = .ok (.aload_n 0, 1) := dk_42 (dk_at dksX5_readsSum_5 8 rfl rfl)
theorem dX5_readsSum_126 : decode cX5_readsSum 126 = .ok (.aload_n 0, 1) := dk_42 (dk_at dksX5_readsSum_5 9 rfl rfl)
theorem dX5_readsSum_127 : decode cX5_readsSum 127 = .ok (.getfield 131, 3) := dk_180 0 131 (dk_at dksX5_readsSum_5 10 rfl rfl)
theorem dX5_readsSum_130 : decode cX5_readsSum 130 = .ok (.iconst 1, 1) := dk_4 (dk_at dksX5_readsSum_5 13 rfl rfl)
theorem dX5_readsSum_131 : decode cX5_readsSum 131 = .ok (.iadd, 1) := dk_96 (dk_at dksX5_readsSum_5 14 rfl rfl)
theorem dX5_readsSum_132 : decode cX5_readsSum 132 = .ok (.putfield 131, 3) := dk_181 0 131 (dk_at dksX5_readsSum_5 15 rfl rfl)
theorem dX5_readsSum_135 : decode cX5_readsSum 135 = .ok (.goto 28, 3) := dk_167 0 28 (dk_at dksX5_readsSum_5 18 rfl rfl)
theorem dX5_readsSum_138 : decode cX5_readsSum 138 = .ok (.aload_n 0, 1) := dk_42 (dk_at dksX5_readsSum_5 21 rfl rfl)
theorem dX5_readsSum_139 : decode cX5_readsSum 139 = .ok (.iload_n 1, 1) := dk_27 (dk_at dksX5_readsSum_5 22 rfl rfl)
theorem dX5_readsSum_140 : decode cX5_readsSum 140 = .ok (.invokevirtual 192, 3) := dk_182 0 192 (dk_at dksX5_readsSum_6 0 rfl rfl)
theorem dX5_readsSum_143 : decode cX5_readsSum 143 = .ok (.ifCond .eq 13, 3) := dk_153 0 13 (dk_at dksX5_readsSum_6 3 rfl rfl)
theorem dX5_readsSum_146 : decode cX5_readsSum 146 = .ok (.aload_n 0, 1) := dk_42 (dk_at dksX5_readsSum_6 6 rfl rfl)
theorem dX5_readsSum_147 : decode cX5_readsSum 147 = .ok (.iconst 1, 1) := dk_4 (dk_at dksX5_readsSum_6 7 rfl rfl)
theorem dX5_readsSum_148 : decode cX5_readsSum 148 = .ok (.aload_n 0, 1) := dk_42 (dk_at dksX5_readsSum_6 8 rfl rfl)
theorem dX5_readsSum_149 : decode cX5_readsSum 149 = .ok (.getfield 131, 3) := dk_180 0 131 (dk_at dksX5_readsSum_6 9 rfl rfl)
theorem dX5_readsSum_152 : decode cX5_readsSum 152 = .ok (.invokevirtual 144, 3) := dk_182 0 144 (dk_at dksX5_readsSum_6 12 rfl rfl)
theorem dX5_readsSum_155 : decode cX5_readsSum 155 = .ok (.ireturn, 1) := dk_172 (dk_at dksX5_readsSum_6 15 rfl rfl)
theorem dX5_readsSum_156 : decode cX5_readsSum 156 = .ok (.aload_n 0, 1) := dk_42 (dk_at dksX5_readsSum_6 16 rfl rfl)
theorem dX5_readsSum_157 : decode cX5_readsSum 157 = .ok (.iconst 1, 1) := dk_4 (dk_at dksX5_readsSum_6 17 rfl rfl)
theorem dX5_readsSum_158 : decode cX5_readsSum 158 = .ok (.invokevirtual 188, 3) := dk_182 0 188 (dk_at dksX5_readsSum_6 18 rfl rfl)
theorem dX5_readsSum_161 : decode cX5_readsSum 161 = .ok (.iconst 1, 1) := dk_4 (dk_at dksX5_readsSum_6 21 rfl rfl)
theorem dX5_readsSum_162 : decode cX5_readsSum 162 = .ok (.ireturn, 1) := dk_172 (dk_at dksX5_readsSum_6 22 rfl rfl)
theorem dX5_readsSum_163 : decode cX5_readsSum 163 = .ok (.goto (-149), 3) := dk_167 255 107 (dk_at dksX5_readsSum_7 0 rfl rfl)
abbrev cX5_readsFactor : ByteArray := prog_19_method_29_code
def yX5_readsFactor : MethodName := ⟨RX5, "readsFactor", "()Z"⟩
def dkwX5_readsFactor_3 : List UInt8 := [27, 182, 0, 168, 42, 42, 180, 0, 131, 4, 96, 181, 0, 131, 4, 172]
abbrev dktX5_readsFactor_3 : List UInt8 := dkwX5_readsFactor_3 ++ []
def dkwX5_readsFactor_2 : List UInt8 := [182, 0, 137, 184, 0, 178, 60, 27, 2, 160, 0, 13, 42, 4, 42, 180, 0, 131, 182, 0, 144, 172, 42, 4]
abbrev dktX5_readsFactor_2 : List UInt8 := dkwX5_readsFactor_2 ++ dktX5_readsFactor_3
def dkwX5_readsFactor_1 : List UInt8 := [153, 0, 23, 42, 182, 0, 175, 154, 0, 5, 3, 172, 42, 3, 42, 180, 0, 148, 182, 0, 168, 4, 172, 42]
abbrev dktX5_readsFactor_1 : List UInt8 := dkwX5_readsFactor_1 ++ dktX5_readsFactor_2
def dkwX5_readsFactor_0 : List UInt8 := [42, 182, 0, 137, 16, 91, 160, 0, 14, 42, 16, 14, 182, 0, 172, 154, 255, 241, 3, 172, 42, 182, 0, 151]
abbrev dktX5_readsFactor_0 : List UInt8 := dkwX5_readsFactor_0 ++ dktX5_readsFactor_1
theorem dksX5_readsFactor_0 : cX5_readsFactor.data.toList.drop 0 = dktX5_readsFactor_0 := by decide +kernel
theorem dksX5_readsFactor_1 : cX5_readsFactor.data.toList.drop 24 = dktX5_readsFactor_1 := dk_seg dksX5_readsFactor_0 24 rfl rfl
theorem dksX5_readsFactor_2 : cX5_readsFactor.data.toList.drop 48 = dktX5_readsFactor_2 := dk_seg dksX5_readsFactor_1 24 rfl rfl
theorem dksX5_readsFactor_3 : cX5_readsFactor.data.toList.drop 72 = dktX5_readsFactor_3 := dk_seg dksX5_readsFactor_2 24 rfl rfl
theorem dX5_readsFactor_0 : decode cX5_readsFactor 0 = .ok (.aload_n 0, 1) := dk_42 (dk_at dksX5_readsFactor_0 0 rfl rfl)
theorem dX5_readsFactor_1 : decode cX5_readsFactor 1 = .ok (.invokevirtual 137, 3) := dk_182 0 137 (dk_at dksX5_readsFactor_0 1 rfl rfl)
theorem dX5_readsFactor_4 : decode cX5_readsFactor 4 = .ok (.bipush 91, 2) := dk_16 91 (dk_at dksX5_readsFactor_0 4 rfl rfl)
theorem dX5_readsFactor_6 : decode cX5_readsFactor 6 = .ok (.if_icmp .ne 14, 3) := dk_160 0 14 (dk_at dksX5_readsFactor_0 6 rfl rfl)
theorem dX5_readsFactor_9 : decode cX5_readsFactor 9 = .ok (.aload_n 0, 1) := dk_42 (dk_at dksX5_readsFactor_0 9 rfl rfl)
theorem dX5_readsFactor_10 : decode cX5_readsFactor 10 = .ok (.bipush 14, 2) := dk_16 14 (dk_at dksX5_readsFactor_0 10 rfl rfl)
theorem dX5_readsFactor_12 : decode cX5_readsFactor 12 = .ok (.invokevirtual 172, 3) := dk_182 0 172 (dk_at dksX5_readsFactor_0 12 rfl rfl)
theorem dX5_readsFactor_15 : decode cX5_readsFactor 15 = .ok (.ifCond .ne (-15), 3) := dk_154 255 241 (dk_at dksX5_readsFactor_0 15 rfl rfl)
theorem dX5_readsFactor_18 : decode cX5_readsFactor 18 = .ok (.iconst 0, 1) := dk_3 (dk_at dksX5_readsFactor_0 18 rfl rfl)
theorem dX5_readsFactor_19 : decode cX5_readsFactor 19 = .ok (.ireturn, 1) := dk_172 (dk_at dksX5_readsFactor_0 19 rfl rfl)
theorem dX5_readsFactor_20 : decode cX5_readsFactor 20 = .ok (.aload_n 0, 1) := dk_42 (dk_at dksX5_readsFactor_0 20 rfl rfl)
theorem dX5_readsFactor_21 : decode cX5_readsFactor 21 = .ok (.invokevirtual 151, 3) := dk_182 0 151 (dk_at dksX5_readsFactor_0 21 rfl rfl)
theorem dX5_readsFactor_24 : decode cX5_readsFactor 24 = .ok (.ifCond .eq 23, 3) := dk_153 0 23 (dk_at dksX5_readsFactor_1 0 rfl rfl)
theorem dX5_readsFactor_27 : decode cX5_readsFactor 27 = .ok (.aload_n 0, 1) := dk_42 (dk_at dksX5_readsFactor_1 3 rfl rfl)
theorem dX5_readsFactor_28 : decode cX5_readsFactor 28 = .ok (.invokevirtual 175, 3) := dk_182 0 175 (dk_at dksX5_readsFactor_1 4 rfl rfl)
theorem dX5_readsFactor_31 : decode cX5_readsFactor 31 = .ok (.ifCond .ne 5, 3) := dk_154 0 5 (dk_at dksX5_readsFactor_1 7 rfl rfl)
theorem dX5_readsFactor_34 : decode cX5_readsFactor 34 = .ok (.iconst 0, 1) := dk_3 (dk_at dksX5_readsFactor_1 10 rfl rfl)
theorem dX5_readsFactor_35 : decode cX5_readsFactor 35 = .ok (.ireturn, 1) := dk_172 (dk_at dksX5_readsFactor_1 11 rfl rfl)
theorem dX5_readsFactor_36 : decode cX5_readsFactor 36 = .ok (.aload_n 0, 1) := dk_42 (dk_at dksX5_readsFactor_1 12 rfl rfl)
theorem dX5_readsFactor_37 : decode cX5_readsFactor 37 = .ok (.iconst 0, 1) := dk_3 (dk_at dksX5_readsFactor_1 13 rfl rfl)
theorem dX5_readsFactor_38 : decode cX5_readsFactor 38 = .ok (.aload_n 0, 1) := dk_42 (dk_at dksX5_readsFactor_1 14 rfl rfl)
theorem dX5_readsFactor_39 : decode cX5_readsFactor 39 = .ok (.getfield 148, 3) := dk_180 0 148 (dk_at dksX5_readsFactor_1 15 rfl rfl)
theorem dX5_readsFactor_42 : decode cX5_readsFactor 42 = .ok (.invokevirtual 168, 3) := dk_182 0 168 (dk_at dksX5_readsFactor_1 18 rfl rfl)
theorem dX5_readsFactor_45 : decode cX5_readsFactor 45 = .ok (.iconst 1, 1) := dk_4 (dk_at dksX5_readsFactor_1 21 rfl rfl)
theorem dX5_readsFactor_46 : decode cX5_readsFactor 46 = .ok (.ireturn, 1) := dk_172 (dk_at dksX5_readsFactor_1 22 rfl rfl)
theorem dX5_readsFactor_47 : decode cX5_readsFactor 47 = .ok (.aload_n 0, 1) := dk_42 (dk_at dksX5_readsFactor_1 23 rfl rfl)
theorem dX5_readsFactor_48 : decode cX5_readsFactor 48 = .ok (.invokevirtual 137, 3) := dk_182 0 137 (dk_at dksX5_readsFactor_2 0 rfl rfl)
theorem dX5_readsFactor_51 : decode cX5_readsFactor 51 = .ok (.invokestatic 178, 3) := dk_184 0 178 (dk_at dksX5_readsFactor_2 3 rfl rfl)
theorem dX5_readsFactor_54 : decode cX5_readsFactor 54 = .ok (.istore_n 1, 1) := dk_60 (dk_at dksX5_readsFactor_2 6 rfl rfl)
theorem dX5_readsFactor_55 : decode cX5_readsFactor 55 = .ok (.iload_n 1, 1) := dk_27 (dk_at dksX5_readsFactor_2 7 rfl rfl)
theorem dX5_readsFactor_56 : decode cX5_readsFactor 56 = .ok (.iconst (-1), 1) := dk_2 (dk_at dksX5_readsFactor_2 8 rfl rfl)
theorem dX5_readsFactor_57 : decode cX5_readsFactor 57 = .ok (.if_icmp .ne 13, 3) := dk_160 0 13 (dk_at dksX5_readsFactor_2 9 rfl rfl)
theorem dX5_readsFactor_60 : decode cX5_readsFactor 60 = .ok (.aload_n 0, 1) := dk_42 (dk_at dksX5_readsFactor_2 12 rfl rfl)
theorem dX5_readsFactor_61 : decode cX5_readsFactor 61 = .ok (.iconst 1, 1) := dk_4 (dk_at dksX5_readsFactor_2 13 rfl rfl)
theorem dX5_readsFactor_62 : decode cX5_readsFactor 62 = .ok (.aload_n 0, 1) := dk_42 (dk_at dksX5_readsFactor_2 14 rfl rfl)
theorem dX5_readsFactor_63 : decode cX5_readsFactor 63 = .ok (.getfield 131, 3) := dk_180 0 131 (dk_at dksX5_readsFactor_2 15 rfl rfl)
theorem dX5_readsFactor_66 : decode cX5_readsFactor 66 = .ok (.invokevirtual 144, 3) := dk_182 0 144 (dk_at dksX5_readsFactor_2 18 rfl rfl)
theorem dX5_readsFactor_69 : decode cX5_readsFactor 69 = .ok (.ireturn, 1) := dk_172 (dk_at dksX5_readsFactor_2 21 rfl rfl)
theorem dX5_readsFactor_70 : decode cX5_readsFactor 70 = .ok (.aload_n 0, 1) := dk_42 (dk_at dksX5_readsFactor_2 22 rfl rfl)
theorem dX5_readsFactor_71 : decode cX5_readsFactor 71 = .ok (.iconst 1, 1) := dk_4 (dk_at dksX5_readsFactor_2 23 rfl rfl)
theorem dX5_readsFactor_72 : decode cX5_readsFactor 72 = .ok (.iload_n 1, 1) := dk_27 (dk_at dksX5_readsFactor_3 0 rfl rfl)
theorem dX5_readsFactor_73 : decode cX5_readsFactor 73 = .ok (.invokevirtual 168, 3) := dk_182 0 168 (dk_at dksX5_readsFactor_3 1 rfl rfl)
theorem dX5_readsFactor_76 : decode cX5_readsFactor 76 = .ok (.aload_n 0, 1) := dk_42 (dk_at dksX5_readsFactor_3 4 rfl rfl)
theorem dX5_readsFactor_77 : decode cX5_readsFactor 77 = .ok (.aload_n 0, 1) := dk_42 (dk_at dksX5_readsFactor_3 5 rfl rfl)
theorem dX5_readsFactor_78 : decode cX5_readsFactor 78 = .ok (.getfield 131, 3) := dk_180 0 131 (dk_at dksX5_readsFactor_3 6 rfl rfl)
theorem dX5_readsFactor_81 : decode cX5_readsFactor 81 = .ok (.iconst 1, 1) := dk_4 (dk_at dksX5_readsFactor_3 9 rfl rfl)
theorem dX5_readsFactor_82 : decode cX5_readsFactor 82 = .ok (.iadd, 1) := dk_96 (dk_at dksX5_readsFactor_3 10 rfl rfl)
theorem dX5_readsFactor_83 : decode cX5_readsFactor 83 = .ok (.putfield 131, 3) := dk_181 0 131 (dk_at dksX5_readsFactor_3 11 rfl rfl)
theorem dX5_readsFactor_86 : decode cX5_readsFactor 86 = .ok (.iconst 1, 1) := dk_4 (dk_at dksX5_readsFactor_3 14 rfl rfl)
theorem dX5_readsFactor_87 : decode cX5_readsFactor 87 = .ok (.ireturn, 1) := dk_172 (dk_at dksX5_readsFactor_3 15 rfl rfl)
abbrev cX5_opens : ByteArray := prog_19_method_24_code
def yX5_opens : MethodName := ⟨RX5, "opens", "(I)Z"⟩
def dkwX5_opens_2 : List UInt8 := [96, 181, 0, 162, 42, 42, 180, 0, 131, 4, 96, 181, 0, 131, 4, 172]
abbrev dktX5_opens_2 : List UInt8 := dkwX5_opens_2 ++ []
def dkwX5_opens_1 : List UInt8 := [4, 96, 181, 0, 159, 42, 180, 0, 27, 42, 180, 0, 162, 18, 158, 27, 104, 79, 42, 42, 180, 0, 162, 4]
abbrev dktX5_opens_1 : List UInt8 := dkwX5_opens_1 ++ dktX5_opens_2
def dkwX5_opens_0 : List UInt8 := [42, 180, 0, 159, 16, 6, 160, 0, 13, 42, 8, 42, 180, 0, 131, 182, 0, 144, 172, 42, 42, 180, 0, 159]
abbrev dktX5_opens_0 : List UInt8 := dkwX5_opens_0 ++ dktX5_opens_1
theorem dksX5_opens_0 : cX5_opens.data.toList.drop 0 = dktX5_opens_0 := by decide +kernel
theorem dksX5_opens_1 : cX5_opens.data.toList.drop 24 = dktX5_opens_1 := dk_seg dksX5_opens_0 24 rfl rfl
theorem dksX5_opens_2 : cX5_opens.data.toList.drop 48 = dktX5_opens_2 := dk_seg dksX5_opens_1 24 rfl rfl
theorem dX5_opens_0 : decode cX5_opens 0 = .ok (.aload_n 0, 1) := dk_42 (dk_at dksX5_opens_0 0 rfl rfl)
theorem dX5_opens_1 : decode cX5_opens 1 = .ok (.getfield 159, 3) := dk_180 0 159 (dk_at dksX5_opens_0 1 rfl rfl)
theorem dX5_opens_4 : decode cX5_opens 4 = .ok (.bipush 6, 2) := dk_16 6 (dk_at dksX5_opens_0 4 rfl rfl)
theorem dX5_opens_6 : decode cX5_opens 6 = .ok (.if_icmp .ne 13, 3) := dk_160 0 13 (dk_at dksX5_opens_0 6 rfl rfl)
theorem dX5_opens_9 : decode cX5_opens 9 = .ok (.aload_n 0, 1) := dk_42 (dk_at dksX5_opens_0 9 rfl rfl)
theorem dX5_opens_10 : decode cX5_opens 10 = .ok (.iconst 5, 1) := dk_8 (dk_at dksX5_opens_0 10 rfl rfl)
theorem dX5_opens_11 : decode cX5_opens 11 = .ok (.aload_n 0, 1) := dk_42 (dk_at dksX5_opens_0 11 rfl rfl)
theorem dX5_opens_12 : decode cX5_opens 12 = .ok (.getfield 131, 3) := dk_180 0 131 (dk_at dksX5_opens_0 12 rfl rfl)
theorem dX5_opens_15 : decode cX5_opens 15 = .ok (.invokevirtual 144, 3) := dk_182 0 144 (dk_at dksX5_opens_0 15 rfl rfl)
theorem dX5_opens_18 : decode cX5_opens 18 = .ok (.ireturn, 1) := dk_172 (dk_at dksX5_opens_0 18 rfl rfl)
theorem dX5_opens_19 : decode cX5_opens 19 = .ok (.aload_n 0, 1) := dk_42 (dk_at dksX5_opens_0 19 rfl rfl)
theorem dX5_opens_20 : decode cX5_opens 20 = .ok (.aload_n 0, 1) := dk_42 (dk_at dksX5_opens_0 20 rfl rfl)
theorem dX5_opens_21 : decode cX5_opens 21 = .ok (.getfield 159, 3) := dk_180 0 159 (dk_at dksX5_opens_0 21 rfl rfl)
theorem dX5_opens_24 : decode cX5_opens 24 = .ok (.iconst 1, 1) := dk_4 (dk_at dksX5_opens_1 0 rfl rfl)
theorem dX5_opens_25 : decode cX5_opens 25 = .ok (.iadd, 1) := dk_96 (dk_at dksX5_opens_1 1 rfl rfl)
theorem dX5_opens_26 : decode cX5_opens 26 = .ok (.putfield 159, 3) := dk_181 0 159 (dk_at dksX5_opens_1 2 rfl rfl)
theorem dX5_opens_29 : decode cX5_opens 29 = .ok (.aload_n 0, 1) := dk_42 (dk_at dksX5_opens_1 5 rfl rfl)
theorem dX5_opens_30 : decode cX5_opens 30 = .ok (.getfield 27, 3) := dk_180 0 27 (dk_at dksX5_opens_1 6 rfl rfl)
theorem dX5_opens_33 : decode cX5_opens 33 = .ok (.aload_n 0, 1) := dk_42 (dk_at dksX5_opens_1 9 rfl rfl)
theorem dX5_opens_34 : decode cX5_opens 34 = .ok (.getfield 162, 3) := dk_180 0 162 (dk_at dksX5_opens_1 10 rfl rfl)
theorem dX5_opens_37 : decode cX5_opens 37 = .ok (.ldc 158, 2) := dk_18 158 (dk_at dksX5_opens_1 13 rfl rfl)
theorem dX5_opens_39 : decode cX5_opens 39 = .ok (.iload_n 1, 1) := dk_27 (dk_at dksX5_opens_1 15 rfl rfl)
theorem dX5_opens_40 : decode cX5_opens 40 = .ok (.imul, 1) := dk_104 (dk_at dksX5_opens_1 16 rfl rfl)
theorem dX5_opens_41 : decode cX5_opens 41 = .ok (.iastore, 1) := dk_79 (dk_at dksX5_opens_1 17 rfl rfl)
theorem dX5_opens_42 : decode cX5_opens 42 = .ok (.aload_n 0, 1) := dk_42 (dk_at dksX5_opens_1 18 rfl rfl)
theorem dX5_opens_43 : decode cX5_opens 43 = .ok (.aload_n 0, 1) := dk_42 (dk_at dksX5_opens_1 19 rfl rfl)
theorem dX5_opens_44 : decode cX5_opens 44 = .ok (.getfield 162, 3) := dk_180 0 162 (dk_at dksX5_opens_1 20 rfl rfl)
theorem dX5_opens_47 : decode cX5_opens 47 = .ok (.iconst 1, 1) := dk_4 (dk_at dksX5_opens_1 23 rfl rfl)
theorem dX5_opens_48 : decode cX5_opens 48 = .ok (.iadd, 1) := dk_96 (dk_at dksX5_opens_2 0 rfl rfl)
theorem dX5_opens_49 : decode cX5_opens 49 = .ok (.putfield 162, 3) := dk_181 0 162 (dk_at dksX5_opens_2 1 rfl rfl)
theorem dX5_opens_52 : decode cX5_opens 52 = .ok (.aload_n 0, 1) := dk_42 (dk_at dksX5_opens_2 4 rfl rfl)
theorem dX5_opens_53 : decode cX5_opens 53 = .ok (.aload_n 0, 1) := dk_42 (dk_at dksX5_opens_2 5 rfl rfl)
theorem dX5_opens_54 : decode cX5_opens 54 = .ok (.getfield 131, 3) := dk_180 0 131 (dk_at dksX5_opens_2 6 rfl rfl)
theorem dX5_opens_57 : decode cX5_opens 57 = .ok (.iconst 1, 1) := dk_4 (dk_at dksX5_opens_2 9 rfl rfl)
theorem dX5_opens_58 : decode cX5_opens 58 = .ok (.iadd, 1) := dk_96 (dk_at dksX5_opens_2 10 rfl rfl)
theorem dX5_opens_59 : decode cX5_opens 59 = .ok (.putfield 131, 3) := dk_181 0 131 (dk_at dksX5_opens_2 11 rfl rfl)
theorem dX5_opens_62 : decode cX5_opens 62 = .ok (.iconst 1, 1) := dk_4 (dk_at dksX5_opens_2 14 rfl rfl)
theorem dX5_opens_63 : decode cX5_opens 63 = .ok (.ireturn, 1) := dk_172 (dk_at dksX5_opens_2 15 rfl rfl)
abbrev cX5_isDigit : ByteArray := prog_19_method_19_code
def yX5_isDigit : MethodName := ⟨RX5, "isDigit", "()Z"⟩
def dkwX5_isDigit_0 : List UInt8 := [42, 182, 0, 137, 16, 48, 161, 0, 16, 42, 182, 0, 137, 16, 57, 163, 0, 7, 4, 167, 0, 4, 3, 172]
abbrev dktX5_isDigit_0 : List UInt8 := dkwX5_isDigit_0 ++ []
theorem dksX5_isDigit_0 : cX5_isDigit.data.toList.drop 0 = dktX5_isDigit_0 := by decide +kernel
theorem dX5_isDigit_0 : decode cX5_isDigit 0 = .ok (.aload_n 0, 1) := dk_42 (dk_at dksX5_isDigit_0 0 rfl rfl)
theorem dX5_isDigit_1 : decode cX5_isDigit 1 = .ok (.invokevirtual 137, 3) := dk_182 0 137 (dk_at dksX5_isDigit_0 1 rfl rfl)
theorem dX5_isDigit_4 : decode cX5_isDigit 4 = .ok (.bipush 48, 2) := dk_16 48 (dk_at dksX5_isDigit_0 4 rfl rfl)
theorem dX5_isDigit_6 : decode cX5_isDigit 6 = .ok (.if_icmp .lt 16, 3) := dk_161 0 16 (dk_at dksX5_isDigit_0 6 rfl rfl)
theorem dX5_isDigit_9 : decode cX5_isDigit 9 = .ok (.aload_n 0, 1) := dk_42 (dk_at dksX5_isDigit_0 9 rfl rfl)
theorem dX5_isDigit_10 : decode cX5_isDigit 10 = .ok (.invokevirtual 137, 3) := dk_182 0 137 (dk_at dksX5_isDigit_0 10 rfl rfl)
theorem dX5_isDigit_13 : decode cX5_isDigit 13 = .ok (.bipush 57, 2) := dk_16 57 (dk_at dksX5_isDigit_0 13 rfl rfl)
theorem dX5_isDigit_15 : decode cX5_isDigit 15 = .ok (.if_icmp .gt 7, 3) := dk_163 0 7 (dk_at dksX5_isDigit_0 15 rfl rfl)
theorem dX5_isDigit_18 : decode cX5_isDigit 18 = .ok (.iconst 1, 1) := dk_4 (dk_at dksX5_isDigit_0 18 rfl rfl)
theorem dX5_isDigit_19 : decode cX5_isDigit 19 = .ok (.goto 4, 3) := dk_167 0 4 (dk_at dksX5_isDigit_0 19 rfl rfl)
theorem dX5_isDigit_22 : decode cX5_isDigit 22 = .ok (.iconst 0, 1) := dk_3 (dk_at dksX5_isDigit_0 22 rfl rfl)
theorem dX5_isDigit_23 : decode cX5_isDigit 23 = .ok (.ireturn, 1) := dk_172 (dk_at dksX5_isDigit_0 23 rfl rfl)
abbrev cX5_readsNumber : ByteArray := prog_19_method_22_code
def yX5_readsNumber : MethodName := ⟨RX5, "readsNumber", "()Z"⟩
def dkwX5_readsNumber_3 : List UInt8 := [172]
abbrev dktX5_readsNumber_3 : List UInt8 := dkwX5_readsNumber_3 ++ []
def dkwX5_readsNumber_2 : List UInt8 := [182, 0, 137, 96, 16, 48, 100, 181, 0, 148, 42, 42, 180, 0, 131, 4, 96, 181, 0, 131, 167, 255, 200, 4]
abbrev dktX5_readsNumber_2 : List UInt8 := dkwX5_readsNumber_2 ++ dktX5_readsNumber_3
def dkwX5_readsNumber_1 : List UInt8 := [160, 0, 13, 42, 5, 42, 180, 0, 131, 182, 0, 144, 172, 42, 16, 10, 42, 180, 0, 148, 104, 42]
abbrev dktX5_readsNumber_1 : List UInt8 := dkwX5_readsNumber_1 ++ dktX5_readsNumber_2
def dkwX5_readsNumber_0 : List UInt8 := [42, 180, 0, 131, 60, 42, 3, 181, 0, 148, 42, 182, 0, 151, 153, 0, 55, 42, 180, 0, 131, 27, 8, 96]
abbrev dktX5_readsNumber_0 : List UInt8 := dkwX5_readsNumber_0 ++ dktX5_readsNumber_1
theorem dksX5_readsNumber_0 : cX5_readsNumber.data.toList.drop 0 = dktX5_readsNumber_0 := by decide +kernel
theorem dksX5_readsNumber_1 : cX5_readsNumber.data.toList.drop 24 = dktX5_readsNumber_1 := dk_seg dksX5_readsNumber_0 24 rfl rfl
theorem dksX5_readsNumber_2 : cX5_readsNumber.data.toList.drop 46 = dktX5_readsNumber_2 := dk_seg dksX5_readsNumber_1 22 rfl rfl
theorem dksX5_readsNumber_3 : cX5_readsNumber.data.toList.drop 70 = dktX5_readsNumber_3 := dk_seg dksX5_readsNumber_2 24 rfl rfl
theorem dX5_readsNumber_0 : decode cX5_readsNumber 0 = .ok (.aload_n 0, 1) := dk_42 (dk_at dksX5_readsNumber_0 0 rfl rfl)
theorem dX5_readsNumber_1 : decode cX5_readsNumber 1 = .ok (.getfield 131, 3) := dk_180 0 131 (dk_at dksX5_readsNumber_0 1 rfl rfl)
theorem dX5_readsNumber_4 : decode cX5_readsNumber 4 = .ok (.istore_n 1, 1) := dk_60 (dk_at dksX5_readsNumber_0 4 rfl rfl)
theorem dX5_readsNumber_5 : decode cX5_readsNumber 5 = .ok (.aload_n 0, 1) := dk_42 (dk_at dksX5_readsNumber_0 5 rfl rfl)
theorem dX5_readsNumber_6 : decode cX5_readsNumber 6 = .ok (.iconst 0, 1) := dk_3 (dk_at dksX5_readsNumber_0 6 rfl rfl)
theorem dX5_readsNumber_7 : decode cX5_readsNumber 7 = .ok (.putfield 148, 3) := dk_181 0 148 (dk_at dksX5_readsNumber_0 7 rfl rfl)
theorem dX5_readsNumber_10 : decode cX5_readsNumber 10 = .ok (.aload_n 0, 1) := dk_42 (dk_at dksX5_readsNumber_0 10 rfl rfl)
theorem dX5_readsNumber_11 : decode cX5_readsNumber 11 = .ok (.invokevirtual 151, 3) := dk_182 0 151 (dk_at dksX5_readsNumber_0 11 rfl rfl)
theorem dX5_readsNumber_14 : decode cX5_readsNumber 14 = .ok (.ifCond .eq 55, 3) := dk_153 0 55 (dk_at dksX5_readsNumber_0 14 rfl rfl)
theorem dX5_readsNumber_17 : decode cX5_readsNumber 17 = .ok (.aload_n 0, 1) := dk_42 (dk_at dksX5_readsNumber_0 17 rfl rfl)
theorem dX5_readsNumber_18 : decode cX5_readsNumber 18 = .ok (.getfield 131, 3) := dk_180 0 131 (dk_at dksX5_readsNumber_0 18 rfl rfl)
theorem dX5_readsNumber_21 : decode cX5_readsNumber 21 = .ok (.iload_n 1, 1) := dk_27 (dk_at dksX5_readsNumber_0 21 rfl rfl)
theorem dX5_readsNumber_22 : decode cX5_readsNumber 22 = .ok (.iconst 5, 1) := dk_8 (dk_at dksX5_readsNumber_0 22 rfl rfl)
theorem dX5_readsNumber_23 : decode cX5_readsNumber 23 = .ok (.iadd, 1) := dk_96 (dk_at dksX5_readsNumber_0 23 rfl rfl)
theorem dX5_readsNumber_24 : decode cX5_readsNumber 24 = .ok (.if_icmp .ne 13, 3) := dk_160 0 13 (dk_at dksX5_readsNumber_1 0 rfl rfl)
theorem dX5_readsNumber_27 : decode cX5_readsNumber 27 = .ok (.aload_n 0, 1) := dk_42 (dk_at dksX5_readsNumber_1 3 rfl rfl)
theorem dX5_readsNumber_28 : decode cX5_readsNumber 28 = .ok (.iconst 2, 1) := dk_5 (dk_at dksX5_readsNumber_1 4 rfl rfl)
theorem dX5_readsNumber_29 : decode cX5_readsNumber 29 = .ok (.aload_n 0, 1) := dk_42 (dk_at dksX5_readsNumber_1 5 rfl rfl)
theorem dX5_readsNumber_30 : decode cX5_readsNumber 30 = .ok (.getfield 131, 3) := dk_180 0 131 (dk_at dksX5_readsNumber_1 6 rfl rfl)
theorem dX5_readsNumber_33 : decode cX5_readsNumber 33 = .ok (.invokevirtual 144, 3) := dk_182 0 144 (dk_at dksX5_readsNumber_1 9 rfl rfl)
theorem dX5_readsNumber_36 : decode cX5_readsNumber 36 = .ok (.ireturn, 1) := dk_172 (dk_at dksX5_readsNumber_1 12 rfl rfl)
theorem dX5_readsNumber_37 : decode cX5_readsNumber 37 = .ok (.aload_n 0, 1) := dk_42 (dk_at dksX5_readsNumber_1 13 rfl rfl)
theorem dX5_readsNumber_38 : decode cX5_readsNumber 38 = .ok (.bipush 10, 2) := dk_16 10 (dk_at dksX5_readsNumber_1 14 rfl rfl)
theorem dX5_readsNumber_40 : decode cX5_readsNumber 40 = .ok (.aload_n 0, 1) := dk_42 (dk_at dksX5_readsNumber_1 16 rfl rfl)
theorem dX5_readsNumber_41 : decode cX5_readsNumber 41 = .ok (.getfield 148, 3) := dk_180 0 148 (dk_at dksX5_readsNumber_1 17 rfl rfl)
theorem dX5_readsNumber_44 : decode cX5_readsNumber 44 = .ok (.imul, 1) := dk_104 (dk_at dksX5_readsNumber_1 20 rfl rfl)
theorem dX5_readsNumber_45 : decode cX5_readsNumber 45 = .ok (.aload_n 0, 1) := dk_42 (dk_at dksX5_readsNumber_1 21 rfl rfl)
theorem dX5_readsNumber_46 : decode cX5_readsNumber 46 = .ok (.invokevirtual 137, 3) := dk_182 0 137 (dk_at dksX5_readsNumber_2 0 rfl rfl)
theorem dX5_readsNumber_49 : decode cX5_readsNumber 49 = .ok (.iadd, 1) := dk_96 (dk_at dksX5_readsNumber_2 3 rfl rfl)
theorem dX5_readsNumber_50 : decode cX5_readsNumber 50 = .ok (.bipush 48, 2) := dk_16 48 (dk_at dksX5_readsNumber_2 4 rfl rfl)
theorem dX5_readsNumber_52 : decode cX5_readsNumber 52 = .ok (.isub, 1) := dk_100 (dk_at dksX5_readsNumber_2 6 rfl rfl)
theorem dX5_readsNumber_53 : decode cX5_readsNumber 53 = .ok (.putfield 148, 3) := dk_181 0 148 (dk_at dksX5_readsNumber_2 7 rfl rfl)
theorem dX5_readsNumber_56 : decode cX5_readsNumber 56 = .ok (.aload_n 0, 1) := dk_42 (dk_at dksX5_readsNumber_2 10 rfl rfl)
theorem dX5_readsNumber_57 : decode cX5_readsNumber 57 = .ok (.aload_n 0, 1) := dk_42 (dk_at dksX5_readsNumber_2 11 rfl rfl)
theorem dX5_readsNumber_58 : decode cX5_readsNumber 58 = .ok (.getfield 131, 3) := dk_180 0 131 (dk_at dksX5_readsNumber_2 12 rfl rfl)
theorem dX5_readsNumber_61 : decode cX5_readsNumber 61 = .ok (.iconst 1, 1) := dk_4 (dk_at dksX5_readsNumber_2 15 rfl rfl)
theorem dX5_readsNumber_62 : decode cX5_readsNumber 62 = .ok (.iadd, 1) := dk_96 (dk_at dksX5_readsNumber_2 16 rfl rfl)
theorem dX5_readsNumber_63 : decode cX5_readsNumber 63 = .ok (.putfield 131, 3) := dk_181 0 131 (dk_at dksX5_readsNumber_2 17 rfl rfl)
theorem dX5_readsNumber_66 : decode cX5_readsNumber 66 = .ok (.goto (-56), 3) := dk_167 255 200 (dk_at dksX5_readsNumber_2 20 rfl rfl)
theorem dX5_readsNumber_69 : decode cX5_readsNumber 69 = .ok (.iconst 1, 1) := dk_4 (dk_at dksX5_readsNumber_2 23 rfl rfl)
theorem dX5_readsNumber_70 : decode cX5_readsNumber 70 = .ok (.ireturn, 1) := dk_172 (dk_at dksX5_readsNumber_3 0 rfl rfl)
abbrev cX5_notes : ByteArray := prog_19_method_23_code
def yX5_notes : MethodName := ⟨RX5, "notes", "(II)V"⟩
def dkwX5_notes_1 : List UInt8 := [181, 0, 155, 177]
abbrev dktX5_notes_1 : List UInt8 := dkwX5_notes_1 ++ []
def dkwX5_notes_0 : List UInt8 := [42, 180, 0, 24, 42, 180, 0, 155, 18, 158, 27, 104, 28, 96, 79, 42, 42, 180, 0, 155, 4, 96]
abbrev dktX5_notes_0 : List UInt8 := dkwX5_notes_0 ++ dktX5_notes_1
theorem dksX5_notes_0 : cX5_notes.data.toList.drop 0 = dktX5_notes_0 := by decide +kernel
theorem dksX5_notes_1 : cX5_notes.data.toList.drop 22 = dktX5_notes_1 := dk_seg dksX5_notes_0 22 rfl rfl
theorem dX5_notes_0 : decode cX5_notes 0 = .ok (.aload_n 0, 1) := dk_42 (dk_at dksX5_notes_0 0 rfl rfl)
theorem dX5_notes_1 : decode cX5_notes 1 = .ok (.getfield 24, 3) := dk_180 0 24 (dk_at dksX5_notes_0 1 rfl rfl)
theorem dX5_notes_4 : decode cX5_notes 4 = .ok (.aload_n 0, 1) := dk_42 (dk_at dksX5_notes_0 4 rfl rfl)
theorem dX5_notes_5 : decode cX5_notes 5 = .ok (.getfield 155, 3) := dk_180 0 155 (dk_at dksX5_notes_0 5 rfl rfl)
theorem dX5_notes_8 : decode cX5_notes 8 = .ok (.ldc 158, 2) := dk_18 158 (dk_at dksX5_notes_0 8 rfl rfl)
theorem dX5_notes_10 : decode cX5_notes 10 = .ok (.iload_n 1, 1) := dk_27 (dk_at dksX5_notes_0 10 rfl rfl)
theorem dX5_notes_11 : decode cX5_notes 11 = .ok (.imul, 1) := dk_104 (dk_at dksX5_notes_0 11 rfl rfl)
theorem dX5_notes_12 : decode cX5_notes 12 = .ok (.iload_n 2, 1) := dk_28 (dk_at dksX5_notes_0 12 rfl rfl)
theorem dX5_notes_13 : decode cX5_notes 13 = .ok (.iadd, 1) := dk_96 (dk_at dksX5_notes_0 13 rfl rfl)
theorem dX5_notes_14 : decode cX5_notes 14 = .ok (.iastore, 1) := dk_79 (dk_at dksX5_notes_0 14 rfl rfl)
theorem dX5_notes_15 : decode cX5_notes 15 = .ok (.aload_n 0, 1) := dk_42 (dk_at dksX5_notes_0 15 rfl rfl)
theorem dX5_notes_16 : decode cX5_notes 16 = .ok (.aload_n 0, 1) := dk_42 (dk_at dksX5_notes_0 16 rfl rfl)
theorem dX5_notes_17 : decode cX5_notes 17 = .ok (.getfield 155, 3) := dk_180 0 155 (dk_at dksX5_notes_0 17 rfl rfl)
theorem dX5_notes_20 : decode cX5_notes 20 = .ok (.iconst 1, 1) := dk_4 (dk_at dksX5_notes_0 20 rfl rfl)
theorem dX5_notes_21 : decode cX5_notes 21 = .ok (.iadd, 1) := dk_96 (dk_at dksX5_notes_0 21 rfl rfl)
theorem dX5_notes_22 : decode cX5_notes 22 = .ok (.putfield 155, 3) := dk_181 0 155 (dk_at dksX5_notes_1 0 rfl rfl)
theorem dX5_notes_25 : decode cX5_notes 25 = .ok (.return_, 1) := dk_177 (dk_at dksX5_notes_1 3 rfl rfl)
abbrev cX5_factOf : ByteArray := prog_19_method_26_code
def yX5_factOf : MethodName := ⟨RX5, "factOf", "(I)I"⟩
def dkwX5_factOf_3 : List UInt8 := [2, 172]
abbrev dktX5_factOf_3 : List UInt8 := dkwX5_factOf_3 ++ []
def dkwX5_factOf_2 : List UInt8 := [3, 172, 4, 172, 5, 172, 6, 172, 7, 172, 8, 172, 16, 6, 172, 16, 7, 172, 16, 8, 172, 16, 9, 172]
abbrev dktX5_factOf_2 : List UInt8 := dkwX5_factOf_2 ++ dktX5_factOf_3
def dkwX5_factOf_1 : List UInt8 := [170, 0, 0, 0, 0, 0, 131, 0, 0, 0, 97, 0, 0, 0, 119, 0, 0, 0, 115, 0, 0, 0, 117, 0, 0, 0, 111, 0, 0, 0, 131, 0, 0, 0, 113, 0, 0, 0, 131, 0, 0, 0, 131, 0, 0, 0, 119, 0, 0, 0, 131, 0, 0, 0, 131, 0, 0, 0, 122, 0, 0, 0, 109, 0, 0, 0, 131, 0, 0, 0, 131, 0, 0, 0, 131, 0, 0, 0, 131, 0, 0, 0, 131, 0, 0, 0, 131, 0, 0, 0, 131, 0, 0, 0, 125, 0, 0, 0, 107, 0, 0, 0, 131, 0, 0, 0, 128]
abbrev dktX5_factOf_1 : List UInt8 := dkwX5_factOf_1 ++ dktX5_factOf_2
def dkwX5_factOf_0 : List UInt8 := [26]
abbrev dktX5_factOf_0 : List UInt8 := dkwX5_factOf_0 ++ dktX5_factOf_1
theorem dksX5_factOf_0 : cX5_factOf.data.toList.drop 0 = dktX5_factOf_0 := by decide +kernel
theorem dksX5_factOf_1 : cX5_factOf.data.toList.drop 1 = dktX5_factOf_1 := dk_seg dksX5_factOf_0 1 rfl rfl
theorem dksX5_factOf_2 : cX5_factOf.data.toList.drop 108 = dktX5_factOf_2 := dk_seg dksX5_factOf_1 107 rfl rfl
theorem dksX5_factOf_3 : cX5_factOf.data.toList.drop 132 = dktX5_factOf_3 := dk_seg dksX5_factOf_2 24 rfl rfl
theorem dX5_factOf_0 : decode cX5_factOf 0 = .ok (.iload_n 0, 1) := dk_26 (dk_at dksX5_factOf_0 0 rfl rfl)
theorem dX5_factOf_1 : decode cX5_factOf 1 = .ok (.tableswitch 131 97 119 #[115, 117, 111, 131, 113, 131, 131, 119, 131, 131, 122, 109, 131, 131, 131, 131, 131, 131, 131, 125, 107, 131, 128], 107) := by decide +kernel
theorem dX5_factOf_108 : decode cX5_factOf 108 = .ok (.iconst 0, 1) := dk_3 (dk_at dksX5_factOf_2 0 rfl rfl)
theorem dX5_factOf_109 : decode cX5_factOf 109 = .ok (.ireturn, 1) := dk_172 (dk_at dksX5_factOf_2 1 rfl rfl)
theorem dX5_factOf_110 : decode cX5_factOf 110 = .ok (.iconst 1, 1) := dk_4 (dk_at dksX5_factOf_2 2 rfl rfl)
theorem dX5_factOf_111 : decode cX5_factOf 111 = .ok (.ireturn, 1) := dk_172 (dk_at dksX5_factOf_2 3 rfl rfl)
theorem dX5_factOf_112 : decode cX5_factOf 112 = .ok (.iconst 2, 1) := dk_5 (dk_at dksX5_factOf_2 4 rfl rfl)
theorem dX5_factOf_113 : decode cX5_factOf 113 = .ok (.ireturn, 1) := dk_172 (dk_at dksX5_factOf_2 5 rfl rfl)
theorem dX5_factOf_114 : decode cX5_factOf 114 = .ok (.iconst 3, 1) := dk_6 (dk_at dksX5_factOf_2 6 rfl rfl)
theorem dX5_factOf_115 : decode cX5_factOf 115 = .ok (.ireturn, 1) := dk_172 (dk_at dksX5_factOf_2 7 rfl rfl)
theorem dX5_factOf_116 : decode cX5_factOf 116 = .ok (.iconst 4, 1) := dk_7 (dk_at dksX5_factOf_2 8 rfl rfl)
theorem dX5_factOf_117 : decode cX5_factOf 117 = .ok (.ireturn, 1) := dk_172 (dk_at dksX5_factOf_2 9 rfl rfl)
theorem dX5_factOf_118 : decode cX5_factOf 118 = .ok (.iconst 5, 1) := dk_8 (dk_at dksX5_factOf_2 10 rfl rfl)
theorem dX5_factOf_119 : decode cX5_factOf 119 = .ok (.ireturn, 1) := dk_172 (dk_at dksX5_factOf_2 11 rfl rfl)
theorem dX5_factOf_120 : decode cX5_factOf 120 = .ok (.bipush 6, 2) := dk_16 6 (dk_at dksX5_factOf_2 12 rfl rfl)
theorem dX5_factOf_122 : decode cX5_factOf 122 = .ok (.ireturn, 1) := dk_172 (dk_at dksX5_factOf_2 14 rfl rfl)
theorem dX5_factOf_123 : decode cX5_factOf 123 = .ok (.bipush 7, 2) := dk_16 7 (dk_at dksX5_factOf_2 15 rfl rfl)
theorem dX5_factOf_125 : decode cX5_factOf 125 = .ok (.ireturn, 1) := dk_172 (dk_at dksX5_factOf_2 17 rfl rfl)
theorem dX5_factOf_126 : decode cX5_factOf 126 = .ok (.bipush 8, 2) := dk_16 8 (dk_at dksX5_factOf_2 18 rfl rfl)
theorem dX5_factOf_128 : decode cX5_factOf 128 = .ok (.ireturn, 1) := dk_172 (dk_at dksX5_factOf_2 20 rfl rfl)
theorem dX5_factOf_129 : decode cX5_factOf 129 = .ok (.bipush 9, 2) := dk_16 9 (dk_at dksX5_factOf_2 21 rfl rfl)
theorem dX5_factOf_131 : decode cX5_factOf 131 = .ok (.ireturn, 1) := dk_172 (dk_at dksX5_factOf_2 23 rfl rfl)
theorem dX5_factOf_132 : decode cX5_factOf 132 = .ok (.iconst (-1), 1) := dk_2 (dk_at dksX5_factOf_3 0 rfl rfl)
theorem dX5_factOf_133 : decode cX5_factOf 133 = .ok (.ireturn, 1) := dk_172 (dk_at dksX5_factOf_3 1 rfl rfl)
abbrev cX5_sumSign : ByteArray := prog_19_method_27_code
def yX5_sumSign : MethodName := ⟨RX5, "sumSign", "(I)I"⟩
def dkwX5_sumSign_2 : List UInt8 := [16, 6, 167, 0, 4, 2, 172]
abbrev dktX5_sumSign_2 : List UInt8 := dkwX5_sumSign_2 ++ []
def dkwX5_sumSign_1 : List UInt8 := [160, 0, 7, 7, 167, 0, 25, 26, 16, 47, 160, 0, 7, 8, 167, 0, 15, 26, 16, 37, 160, 0, 8]
abbrev dktX5_sumSign_1 : List UInt8 := dkwX5_sumSign_1 ++ dktX5_sumSign_2
def dkwX5_sumSign_0 : List UInt8 := [26, 16, 43, 160, 0, 7, 5, 167, 0, 45, 26, 16, 45, 160, 0, 7, 6, 167, 0, 35, 26, 16, 42]
abbrev dktX5_sumSign_0 : List UInt8 := dkwX5_sumSign_0 ++ dktX5_sumSign_1
theorem dksX5_sumSign_0 : cX5_sumSign.data.toList.drop 0 = dktX5_sumSign_0 := by decide +kernel
theorem dksX5_sumSign_1 : cX5_sumSign.data.toList.drop 23 = dktX5_sumSign_1 := dk_seg dksX5_sumSign_0 23 rfl rfl
theorem dksX5_sumSign_2 : cX5_sumSign.data.toList.drop 46 = dktX5_sumSign_2 := dk_seg dksX5_sumSign_1 23 rfl rfl
theorem dX5_sumSign_0 : decode cX5_sumSign 0 = .ok (.iload_n 0, 1) := dk_26 (dk_at dksX5_sumSign_0 0 rfl rfl)
theorem dX5_sumSign_1 : decode cX5_sumSign 1 = .ok (.bipush 43, 2) := dk_16 43 (dk_at dksX5_sumSign_0 1 rfl rfl)
theorem dX5_sumSign_3 : decode cX5_sumSign 3 = .ok (.if_icmp .ne 7, 3) := dk_160 0 7 (dk_at dksX5_sumSign_0 3 rfl rfl)
theorem dX5_sumSign_6 : decode cX5_sumSign 6 = .ok (.iconst 2, 1) := dk_5 (dk_at dksX5_sumSign_0 6 rfl rfl)
theorem dX5_sumSign_7 : decode cX5_sumSign 7 = .ok (.goto 45, 3) := dk_167 0 45 (dk_at dksX5_sumSign_0 7 rfl rfl)
theorem dX5_sumSign_10 : decode cX5_sumSign 10 = .ok (.iload_n 0, 1) := dk_26 (dk_at dksX5_sumSign_0 10 rfl rfl)
theorem dX5_sumSign_11 : decode cX5_sumSign 11 = .ok (.bipush 45, 2) := dk_16 45 (dk_at dksX5_sumSign_0 11 rfl rfl)
theorem dX5_sumSign_13 : decode cX5_sumSign 13 = .ok (.if_icmp .ne 7, 3) := dk_160 0 7 (dk_at dksX5_sumSign_0 13 rfl rfl)
theorem dX5_sumSign_16 : decode cX5_sumSign 16 = .ok (.iconst 3, 1) := dk_6 (dk_at dksX5_sumSign_0 16 rfl rfl)
theorem dX5_sumSign_17 : decode cX5_sumSign 17 = .ok (.goto 35, 3) := dk_167 0 35 (dk_at dksX5_sumSign_0 17 rfl rfl)
theorem dX5_sumSign_20 : decode cX5_sumSign 20 = .ok (.iload_n 0, 1) := dk_26 (dk_at dksX5_sumSign_0 20 rfl rfl)
theorem dX5_sumSign_21 : decode cX5_sumSign 21 = .ok (.bipush 42, 2) := dk_16 42 (dk_at dksX5_sumSign_0 21 rfl rfl)
theorem dX5_sumSign_23 : decode cX5_sumSign 23 = .ok (.if_icmp .ne 7, 3) := dk_160 0 7 (dk_at dksX5_sumSign_1 0 rfl rfl)
theorem dX5_sumSign_26 : decode cX5_sumSign 26 = .ok (.iconst 4, 1) := dk_7 (dk_at dksX5_sumSign_1 3 rfl rfl)
theorem dX5_sumSign_27 : decode cX5_sumSign 27 = .ok (.goto 25, 3) := dk_167 0 25 (dk_at dksX5_sumSign_1 4 rfl rfl)
theorem dX5_sumSign_30 : decode cX5_sumSign 30 = .ok (.iload_n 0, 1) := dk_26 (dk_at dksX5_sumSign_1 7 rfl rfl)
theorem dX5_sumSign_31 : decode cX5_sumSign 31 = .ok (.bipush 47, 2) := dk_16 47 (dk_at dksX5_sumSign_1 8 rfl rfl)
theorem dX5_sumSign_33 : decode cX5_sumSign 33 = .ok (.if_icmp .ne 7, 3) := dk_160 0 7 (dk_at dksX5_sumSign_1 10 rfl rfl)
theorem dX5_sumSign_36 : decode cX5_sumSign 36 = .ok (.iconst 5, 1) := dk_8 (dk_at dksX5_sumSign_1 13 rfl rfl)
theorem dX5_sumSign_37 : decode cX5_sumSign 37 = .ok (.goto 15, 3) := dk_167 0 15 (dk_at dksX5_sumSign_1 14 rfl rfl)
theorem dX5_sumSign_40 : decode cX5_sumSign 40 = .ok (.iload_n 0, 1) := dk_26 (dk_at dksX5_sumSign_1 17 rfl rfl)
theorem dX5_sumSign_41 : decode cX5_sumSign 41 = .ok (.bipush 37, 2) := dk_16 37 (dk_at dksX5_sumSign_1 18 rfl rfl)
theorem dX5_sumSign_43 : decode cX5_sumSign 43 = .ok (.if_icmp .ne 8, 3) := dk_160 0 8 (dk_at dksX5_sumSign_1 20 rfl rfl)
theorem dX5_sumSign_46 : decode cX5_sumSign 46 = .ok (.bipush 6, 2) := dk_16 6 (dk_at dksX5_sumSign_2 0 rfl rfl)
theorem dX5_sumSign_48 : decode cX5_sumSign 48 = .ok (.goto 4, 3) := dk_167 0 4 (dk_at dksX5_sumSign_2 2 rfl rfl)
theorem dX5_sumSign_51 : decode cX5_sumSign 51 = .ok (.iconst (-1), 1) := dk_2 (dk_at dksX5_sumSign_2 5 rfl rfl)
theorem dX5_sumSign_52 : decode cX5_sumSign 52 = .ok (.ireturn, 1) := dk_172 (dk_at dksX5_sumSign_2 6 rfl rfl)
abbrev cX5_closesSums : ByteArray := prog_19_method_28_code
def yX5_closesSums : MethodName := ⟨RX5, "closesSums", "(Z)V"⟩
def dkwX5_closesSums_2 : List UInt8 := [42, 42, 180, 0, 162, 4, 100, 181, 0, 162, 167, 255, 200, 177]
abbrev dktX5_closesSums_2 : List UInt8 := dkwX5_closesSums_2 ++ []
def dkwX5_closesSums_1 : List UInt8 := [182, 0, 165, 5, 159, 0, 11, 42, 182, 0, 165, 6, 160, 0, 25, 42, 42, 182, 0, 165, 3, 182, 0, 168]
abbrev dktX5_closesSums_1 : List UInt8 := dkwX5_closesSums_1 ++ dktX5_closesSums_2
def dkwX5_closesSums_0 : List UInt8 := [42, 182, 0, 165, 7, 161, 0, 12, 42, 182, 0, 165, 16, 6, 164, 0, 23, 27, 153, 0, 41, 42]
abbrev dktX5_closesSums_0 : List UInt8 := dkwX5_closesSums_0 ++ dktX5_closesSums_1
theorem dksX5_closesSums_0 : cX5_closesSums.data.toList.drop 0 = dktX5_closesSums_0 := by decide +kernel
theorem dksX5_closesSums_1 : cX5_closesSums.data.toList.drop 22 = dktX5_closesSums_1 := dk_seg dksX5_closesSums_0 22 rfl rfl
theorem dksX5_closesSums_2 : cX5_closesSums.data.toList.drop 46 = dktX5_closesSums_2 := dk_seg dksX5_closesSums_1 24 rfl rfl
theorem dX5_closesSums_0 : decode cX5_closesSums 0 = .ok (.aload_n 0, 1) := dk_42 (dk_at dksX5_closesSums_0 0 rfl rfl)
theorem dX5_closesSums_1 : decode cX5_closesSums 1 = .ok (.invokevirtual 165, 3) := dk_182 0 165 (dk_at dksX5_closesSums_0 1 rfl rfl)
theorem dX5_closesSums_4 : decode cX5_closesSums 4 = .ok (.iconst 4, 1) := dk_7 (dk_at dksX5_closesSums_0 4 rfl rfl)
theorem dX5_closesSums_5 : decode cX5_closesSums 5 = .ok (.if_icmp .lt 12, 3) := dk_161 0 12 (dk_at dksX5_closesSums_0 5 rfl rfl)
theorem dX5_closesSums_8 : decode cX5_closesSums 8 = .ok (.aload_n 0, 1) := dk_42 (dk_at dksX5_closesSums_0 8 rfl rfl)
theorem dX5_closesSums_9 : decode cX5_closesSums 9 = .ok (.invokevirtual 165, 3) := dk_182 0 165 (dk_at dksX5_closesSums_0 9 rfl rfl)
theorem dX5_closesSums_12 : decode cX5_closesSums 12 = .ok (.bipush 6, 2) := dk_16 6 (dk_at dksX5_closesSums_0 12 rfl rfl)
theorem dX5_closesSums_14 : decode cX5_closesSums 14 = .ok (.if_icmp .le 23, 3) := dk_164 0 23 (dk_at dksX5_closesSums_0 14 rfl rfl)
theorem dX5_closesSums_17 : decode cX5_closesSums 17 = .ok (.iload_n 1, 1) := dk_27 (dk_at dksX5_closesSums_0 17 rfl rfl)
theorem dX5_closesSums_18 : decode cX5_closesSums 18 = .ok (.ifCond .eq 41, 3) := dk_153 0 41 (dk_at dksX5_closesSums_0 18 rfl rfl)
theorem dX5_closesSums_21 : decode cX5_closesSums 21 = .ok (.aload_n 0, 1) := dk_42 (dk_at dksX5_closesSums_0 21 rfl rfl)
theorem dX5_closesSums_22 : decode cX5_closesSums 22 = .ok (.invokevirtual 165, 3) := dk_182 0 165 (dk_at dksX5_closesSums_1 0 rfl rfl)
theorem dX5_closesSums_25 : decode cX5_closesSums 25 = .ok (.iconst 2, 1) := dk_5 (dk_at dksX5_closesSums_1 3 rfl rfl)
theorem dX5_closesSums_26 : decode cX5_closesSums 26 = .ok (.if_icmp .eq 11, 3) := dk_159 0 11 (dk_at dksX5_closesSums_1 4 rfl rfl)
theorem dX5_closesSums_29 : decode cX5_closesSums 29 = .ok (.aload_n 0, 1) := dk_42 (dk_at dksX5_closesSums_1 7 rfl rfl)
theorem dX5_closesSums_30 : decode cX5_closesSums 30 = .ok (.invokevirtual 165, 3) := dk_182 0 165 (dk_at dksX5_closesSums_1 8 rfl rfl)
theorem dX5_closesSums_33 : decode cX5_closesSums 33 = .ok (.iconst 3, 1) := dk_6 (dk_at dksX5_closesSums_1 11 rfl rfl)
theorem dX5_closesSums_34 : decode cX5_closesSums 34 = .ok (.if_icmp .ne 25, 3) := dk_160 0 25 (dk_at dksX5_closesSums_1 12 rfl rfl)
theorem dX5_closesSums_37 : decode cX5_closesSums 37 = .ok (.aload_n 0, 1) := dk_42 (dk_at dksX5_closesSums_1 15 rfl rfl)
theorem dX5_closesSums_38 : decode cX5_closesSums 38 = .ok (.aload_n 0, 1) := dk_42 (dk_at dksX5_closesSums_1 16 rfl rfl)
theorem dX5_closesSums_39 : decode cX5_closesSums 39 = .ok (.invokevirtual 165, 3) := dk_182 0 165 (dk_at dksX5_closesSums_1 17 rfl rfl)
theorem dX5_closesSums_42 : decode cX5_closesSums 42 = .ok (.iconst 0, 1) := dk_3 (dk_at dksX5_closesSums_1 20 rfl rfl)
theorem dX5_closesSums_43 : decode cX5_closesSums 43 = .ok (.invokevirtual 168, 3) := dk_182 0 168 (dk_at dksX5_closesSums_1 21 rfl rfl)
theorem dX5_closesSums_46 : decode cX5_closesSums 46 = .ok (.aload_n 0, 1) := dk_42 (dk_at dksX5_closesSums_2 0 rfl rfl)
theorem dX5_closesSums_47 : decode cX5_closesSums 47 = .ok (.aload_n 0, 1) := dk_42 (dk_at dksX5_closesSums_2 1 rfl rfl)
theorem dX5_closesSums_48 : decode cX5_closesSums 48 = .ok (.getfield 162, 3) := dk_180 0 162 (dk_at dksX5_closesSums_2 2 rfl rfl)
theorem dX5_closesSums_51 : decode cX5_closesSums 51 = .ok (.iconst 1, 1) := dk_4 (dk_at dksX5_closesSums_2 5 rfl rfl)
theorem dX5_closesSums_52 : decode cX5_closesSums 52 = .ok (.isub, 1) := dk_100 (dk_at dksX5_closesSums_2 6 rfl rfl)
theorem dX5_closesSums_53 : decode cX5_closesSums 53 = .ok (.putfield 162, 3) := dk_181 0 162 (dk_at dksX5_closesSums_2 7 rfl rfl)
theorem dX5_closesSums_56 : decode cX5_closesSums 56 = .ok (.goto (-56), 3) := dk_167 255 200 (dk_at dksX5_closesSums_2 10 rfl rfl)
theorem dX5_closesSums_59 : decode cX5_closesSums 59 = .ok (.return_, 1) := dk_177 (dk_at dksX5_closesSums_2 13 rfl rfl)
abbrev cX5_waitTop : ByteArray := prog_19_method_25_code
def yX5_waitTop : MethodName := ⟨RX5, "waitTop", "()I"⟩
def dkwX5_waitTop_1 : List UInt8 := [108, 172]
abbrev dktX5_waitTop_1 : List UInt8 := dkwX5_waitTop_1 ++ []
def dkwX5_waitTop_0 : List UInt8 := [42, 180, 0, 162, 154, 0, 7, 2, 167, 0, 17, 42, 180, 0, 27, 42, 180, 0, 162, 4, 100, 46, 18, 158]
abbrev dktX5_waitTop_0 : List UInt8 := dkwX5_waitTop_0 ++ dktX5_waitTop_1
theorem dksX5_waitTop_0 : cX5_waitTop.data.toList.drop 0 = dktX5_waitTop_0 := by decide +kernel
theorem dksX5_waitTop_1 : cX5_waitTop.data.toList.drop 24 = dktX5_waitTop_1 := dk_seg dksX5_waitTop_0 24 rfl rfl
theorem dX5_waitTop_0 : decode cX5_waitTop 0 = .ok (.aload_n 0, 1) := dk_42 (dk_at dksX5_waitTop_0 0 rfl rfl)
theorem dX5_waitTop_1 : decode cX5_waitTop 1 = .ok (.getfield 162, 3) := dk_180 0 162 (dk_at dksX5_waitTop_0 1 rfl rfl)
theorem dX5_waitTop_4 : decode cX5_waitTop 4 = .ok (.ifCond .ne 7, 3) := dk_154 0 7 (dk_at dksX5_waitTop_0 4 rfl rfl)
theorem dX5_waitTop_7 : decode cX5_waitTop 7 = .ok (.iconst (-1), 1) := dk_2 (dk_at dksX5_waitTop_0 7 rfl rfl)
theorem dX5_waitTop_8 : decode cX5_waitTop 8 = .ok (.goto 17, 3) := dk_167 0 17 (dk_at dksX5_waitTop_0 8 rfl rfl)
theorem dX5_waitTop_11 : decode cX5_waitTop 11 = .ok (.aload_n 0, 1) := dk_42 (dk_at dksX5_waitTop_0 11 rfl rfl)
theorem dX5_waitTop_12 : decode cX5_waitTop 12 = .ok (.getfield 27, 3) := dk_180 0 27 (dk_at dksX5_waitTop_0 12 rfl rfl)
theorem dX5_waitTop_15 : decode cX5_waitTop 15 = .ok (.aload_n 0, 1) := dk_42 (dk_at dksX5_waitTop_0 15 rfl rfl)
theorem dX5_waitTop_16 : decode cX5_waitTop 16 = .ok (.getfield 162, 3) := dk_180 0 162 (dk_at dksX5_waitTop_0 16 rfl rfl)
theorem dX5_waitTop_19 : decode cX5_waitTop 19 = .ok (.iconst 1, 1) := dk_4 (dk_at dksX5_waitTop_0 19 rfl rfl)
theorem dX5_waitTop_20 : decode cX5_waitTop 20 = .ok (.isub, 1) := dk_100 (dk_at dksX5_waitTop_0 20 rfl rfl)
theorem dX5_waitTop_21 : decode cX5_waitTop 21 = .ok (.iaload, 1) := dk_46 (dk_at dksX5_waitTop_0 21 rfl rfl)
theorem dX5_waitTop_22 : decode cX5_waitTop 22 = .ok (.ldc 158, 2) := dk_18 158 (dk_at dksX5_waitTop_0 22 rfl rfl)
theorem dX5_waitTop_24 : decode cX5_waitTop 24 = .ok (.idiv, 1) := dk_108 (dk_at dksX5_waitTop_1 0 rfl rfl)
theorem dX5_waitTop_25 : decode cX5_waitTop 25 = .ok (.ireturn, 1) := dk_172 (dk_at dksX5_waitTop_1 1 rfl rfl)
abbrev cX5_hasOpenSum : ByteArray := prog_19_method_30_code
def yX5_hasOpenSum : MethodName := ⟨RX5, "hasOpenSum", "(I)Z"⟩
def dkwX5_hasOpenSum_1 : List UInt8 := [4, 172, 132, 2, 1, 167, 255, 229, 3, 172]
abbrev dktX5_hasOpenSum_1 : List UInt8 := dkwX5_hasOpenSum_1 ++ []
def dkwX5_hasOpenSum_0 : List UInt8 := [27, 61, 28, 42, 180, 0, 162, 162, 0, 25, 42, 180, 0, 27, 28, 46, 18, 158, 108, 16, 14, 160, 0, 5]
abbrev dktX5_hasOpenSum_0 : List UInt8 := dkwX5_hasOpenSum_0 ++ dktX5_hasOpenSum_1
theorem dksX5_hasOpenSum_0 : cX5_hasOpenSum.data.toList.drop 0 = dktX5_hasOpenSum_0 := by decide +kernel
theorem dksX5_hasOpenSum_1 : cX5_hasOpenSum.data.toList.drop 24 = dktX5_hasOpenSum_1 := dk_seg dksX5_hasOpenSum_0 24 rfl rfl
theorem dX5_hasOpenSum_0 : decode cX5_hasOpenSum 0 = .ok (.iload_n 1, 1) := dk_27 (dk_at dksX5_hasOpenSum_0 0 rfl rfl)
theorem dX5_hasOpenSum_1 : decode cX5_hasOpenSum 1 = .ok (.istore_n 2, 1) := dk_61 (dk_at dksX5_hasOpenSum_0 1 rfl rfl)
theorem dX5_hasOpenSum_2 : decode cX5_hasOpenSum 2 = .ok (.iload_n 2, 1) := dk_28 (dk_at dksX5_hasOpenSum_0 2 rfl rfl)
theorem dX5_hasOpenSum_3 : decode cX5_hasOpenSum 3 = .ok (.aload_n 0, 1) := dk_42 (dk_at dksX5_hasOpenSum_0 3 rfl rfl)
theorem dX5_hasOpenSum_4 : decode cX5_hasOpenSum 4 = .ok (.getfield 162, 3) := dk_180 0 162 (dk_at dksX5_hasOpenSum_0 4 rfl rfl)
theorem dX5_hasOpenSum_7 : decode cX5_hasOpenSum 7 = .ok (.if_icmp .ge 25, 3) := dk_162 0 25 (dk_at dksX5_hasOpenSum_0 7 rfl rfl)
theorem dX5_hasOpenSum_10 : decode cX5_hasOpenSum 10 = .ok (.aload_n 0, 1) := dk_42 (dk_at dksX5_hasOpenSum_0 10 rfl rfl)
theorem dX5_hasOpenSum_11 : decode cX5_hasOpenSum 11 = .ok (.getfield 27, 3) := dk_180 0 27 (dk_at dksX5_hasOpenSum_0 11 rfl rfl)
theorem dX5_hasOpenSum_14 : decode cX5_hasOpenSum 14 = .ok (.iload_n 2, 1) := dk_28 (dk_at dksX5_hasOpenSum_0 14 rfl rfl)
theorem dX5_hasOpenSum_15 : decode cX5_hasOpenSum 15 = .ok (.iaload, 1) := dk_46 (dk_at dksX5_hasOpenSum_0 15 rfl rfl)
theorem dX5_hasOpenSum_16 : decode cX5_hasOpenSum 16 = .ok (.ldc 158, 2) := dk_18 158 (dk_at dksX5_hasOpenSum_0 16 rfl rfl)
theorem dX5_hasOpenSum_18 : decode cX5_hasOpenSum 18 = .ok (.idiv, 1) := dk_108 (dk_at dksX5_hasOpenSum_0 18 rfl rfl)
theorem dX5_hasOpenSum_19 : decode cX5_hasOpenSum 19 = .ok (.bipush 14, 2) := dk_16 14 (dk_at dksX5_hasOpenSum_0 19 rfl rfl)
theorem dX5_hasOpenSum_21 : decode cX5_hasOpenSum 21 = .ok (.if_icmp .ne 5, 3) := dk_160 0 5 (dk_at dksX5_hasOpenSum_0 21 rfl rfl)
theorem dX5_hasOpenSum_24 : decode cX5_hasOpenSum 24 = .ok (.iconst 1, 1) := dk_4 (dk_at dksX5_hasOpenSum_1 0 rfl rfl)
theorem dX5_hasOpenSum_25 : decode cX5_hasOpenSum 25 = .ok (.ireturn, 1) := dk_172 (dk_at dksX5_hasOpenSum_1 1 rfl rfl)
theorem dX5_hasOpenSum_26 : decode cX5_hasOpenSum 26 = .ok (.iinc 2 1, 3) := dk_132 2 1 (dk_at dksX5_hasOpenSum_1 2 rfl rfl)
theorem dX5_hasOpenSum_29 : decode cX5_hasOpenSum 29 = .ok (.goto (-27), 3) := dk_167 255 229 (dk_at dksX5_hasOpenSum_1 5 rfl rfl)
theorem dX5_hasOpenSum_32 : decode cX5_hasOpenSum 32 = .ok (.iconst 0, 1) := dk_3 (dk_at dksX5_hasOpenSum_1 8 rfl rfl)
theorem dX5_hasOpenSum_33 : decode cX5_hasOpenSum 33 = .ok (.ireturn, 1) := dk_172 (dk_at dksX5_hasOpenSum_1 9 rfl rfl)
abbrev cX5_readsCondition : ByteArray := prog_19_method_36_code
def yX5_readsCondition : MethodName := ⟨RX5, "readsCondition", "()Z"⟩
def dkwX5_readsCondition_9 : List UInt8 := [16, 11, 167, 0, 5, 16, 12, 182, 0, 207, 167, 255, 78]
abbrev dktX5_readsCondition_9 : List UInt8 := dkwX5_readsCondition_9 ++ []
def dkwX5_readsCondition_8 : List UInt8 := [16, 124, 160, 0, 7, 4, 167, 0, 4, 3, 182, 0, 204, 42, 42, 182, 0, 137, 16, 38, 160, 0, 8]
abbrev dktX5_readsCondition_8 : List UInt8 := dkwX5_readsCondition_8 ++ dktX5_readsCondition_9
def dkwX5_readsCondition_7 : List UInt8 := [182, 0, 137, 16, 124, 159, 0, 13, 42, 4, 42, 180, 0, 131, 182, 0, 144, 172, 42, 42, 182, 0, 137]
abbrev dktX5_readsCondition_7 : List UInt8 := dkwX5_readsCondition_7 ++ dktX5_readsCondition_8
def dkwX5_readsCondition_6 : List UInt8 := [154, 0, 5, 4, 172, 42, 182, 0, 198, 167, 255, 199, 42, 182, 0, 137, 16, 38, 159, 0, 22, 42]
abbrev dktX5_readsCondition_6 : List UInt8 := dkwX5_readsCondition_6 ++ dktX5_readsCondition_7
def dkwX5_readsCondition_5 : List UInt8 := [42, 180, 0, 159, 4, 100, 181, 0, 159, 42, 42, 180, 0, 131, 4, 96, 181, 0, 131, 42, 180, 0, 162]
abbrev dktX5_readsCondition_5 : List UInt8 := dkwX5_readsCondition_5 ++ dktX5_readsCondition_6
def dkwX5_readsCondition_4 : List UInt8 := [182, 0, 137, 16, 41, 160, 0, 54, 42, 4, 182, 0, 204, 42, 42, 180, 0, 162, 4, 100, 181, 0, 162, 42]
abbrev dktX5_readsCondition_4 : List UInt8 := dkwX5_readsCondition_4 ++ dktX5_readsCondition_5
def dkwX5_readsCondition_3 : List UInt8 := [167, 0, 5, 16, 13, 182, 0, 172, 154, 255, 218, 3, 172, 42, 182, 0, 201, 154, 0, 5, 3, 172, 42]
abbrev dktX5_readsCondition_3 : List UInt8 := dkwX5_readsCondition_3 ++ dktX5_readsCondition_4
def dkwX5_readsCondition_2 : List UInt8 := [159, 0, 12, 42, 182, 0, 137, 16, 40, 160, 0, 28, 42, 42, 182, 0, 137, 16, 33, 160, 0, 8, 16, 10]
abbrev dktX5_readsCondition_2 : List UInt8 := dkwX5_readsCondition_2 ++ dktX5_readsCondition_3
def dkwX5_readsCondition_1 : List UInt8 := [42, 3, 181, 0, 162, 42, 16, 13, 182, 0, 172, 154, 0, 5, 3, 172, 42, 182, 0, 137, 16, 33]
abbrev dktX5_readsCondition_1 : List UInt8 := dkwX5_readsCondition_1 ++ dktX5_readsCondition_2
def dkwX5_readsCondition_0 : List UInt8 := [42, 182, 0, 137, 16, 40, 159, 0, 13, 42, 4, 42, 180, 0, 131, 182, 0, 144, 172, 42, 3, 181, 0, 159]
abbrev dktX5_readsCondition_0 : List UInt8 := dkwX5_readsCondition_0 ++ dktX5_readsCondition_1
theorem dksX5_readsCondition_0 : cX5_readsCondition.data.toList.drop 0 = dktX5_readsCondition_0 := by decide +kernel
theorem dksX5_readsCondition_1 : cX5_readsCondition.data.toList.drop 24 = dktX5_readsCondition_1 := dk_seg dksX5_readsCondition_0 24 rfl rfl
theorem dksX5_readsCondition_2 : cX5_readsCondition.data.toList.drop 46 = dktX5_readsCondition_2 := dk_seg dksX5_readsCondition_1 22 rfl rfl
theorem dksX5_readsCondition_3 : cX5_readsCondition.data.toList.drop 70 = dktX5_readsCondition_3 := dk_seg dksX5_readsCondition_2 24 rfl rfl
theorem dksX5_readsCondition_4 : cX5_readsCondition.data.toList.drop 93 = dktX5_readsCondition_4 := dk_seg dksX5_readsCondition_3 23 rfl rfl
theorem dksX5_readsCondition_5 : cX5_readsCondition.data.toList.drop 117 = dktX5_readsCondition_5 := dk_seg dksX5_readsCondition_4 24 rfl rfl
theorem dksX5_readsCondition_6 : cX5_readsCondition.data.toList.drop 140 = dktX5_readsCondition_6 := dk_seg dksX5_readsCondition_5 23 rfl rfl
theorem dksX5_readsCondition_7 : cX5_readsCondition.data.toList.drop 162 = dktX5_readsCondition_7 := dk_seg dksX5_readsCondition_6 22 rfl rfl
theorem dksX5_readsCondition_8 : cX5_readsCondition.data.toList.drop 185 = dktX5_readsCondition_8 := dk_seg dksX5_readsCondition_7 23 rfl rfl
theorem dksX5_readsCondition_9 : cX5_readsCondition.data.toList.drop 208 = dktX5_readsCondition_9 := dk_seg dksX5_readsCondition_8 23 rfl rfl
theorem dX5_readsCondition_0 : decode cX5_readsCondition 0 = .ok (.aload_n 0, 1) := dk_42 (dk_at dksX5_readsCondition_0 0 rfl rfl)
theorem dX5_readsCondition_1 : decode cX5_readsCondition 1 = .ok (.invokevirtual 137, 3) := dk_182 0 137 (dk_at dksX5_readsCondition_0 1 rfl rfl)
theorem dX5_readsCondition_4 : decode cX5_readsCondition 4 = .ok (.bipush 40, 2) := dk_16 40 (dk_at dksX5_readsCondition_0 4 rfl rfl)
theorem dX5_readsCondition_6 : decode cX5_readsCondition 6 = .ok (.if_icmp .eq 13, 3) := dk_159 0 13 (dk_at dksX5_readsCondition_0 6 rfl rfl)
theorem dX5_readsCondition_9 : decode cX5_readsCondition 9 = .ok (.aload_n 0, 1) := dk_42 (dk_at dksX5_readsCondition_0 9 rfl rfl)
theorem dX5_readsCondition_10 : decode cX5_readsCondition 10 = .ok (.iconst 1, 1) := dk_4 (dk_at dksX5_readsCondition_0 10 rfl rfl)
theorem dX5_readsCondition_11 : decode cX5_readsCondition 11 = .ok (.aload_n 0, 1) := dk_42 (dk_at dksX5_readsCondition_0 11 rfl rfl)
theorem dX5_readsCondition_12 : decode cX5_readsCondition 12 = .ok (.getfield 131, 3) := dk_180 0 131 (dk_at dksX5_readsCondition_0 12 rfl rfl)
theorem dX5_readsCondition_15 : decode cX5_readsCondition 15 = .ok (.invokevirtual 144, 3) := dk_182 0 144 (dk_at dksX5_readsCondition_0 15 rfl rfl)
theorem dX5_readsCondition_18 : decode cX5_readsCondition 18 = .ok (.ireturn, 1) := dk_172 (dk_at dksX5_readsCondition_0 18 rfl rfl)
theorem dX5_readsCondition_19 : decode cX5_readsCondition 19 = .ok (.aload_n 0, 1) := dk_42 (dk_at dksX5_readsCondition_0 19 rfl rfl)
theorem dX5_readsCondition_20 : decode cX5_readsCondition 20 = .ok (.iconst 0, 1) := dk_3 (dk_at dksX5_readsCondition_0 20 rfl rfl)
theorem dX5_readsCondition_21 : decode cX5_readsCondition 21 = .ok (.putfield 159, 3) := dk_181 0 159 (dk_at dksX5_readsCondition_0 21 rfl rfl)
theorem dX5_readsCondition_24 : decode cX5_readsCondition 24 = .ok (.aload_n 0, 1) := dk_42 (dk_at dksX5_readsCondition_1 0 rfl rfl)
theorem dX5_readsCondition_25 : decode cX5_readsCondition 25 = .ok (.iconst 0, 1) := dk_3 (dk_at dksX5_readsCondition_1 1 rfl rfl)
theorem dX5_readsCondition_26 : decode cX5_readsCondition 26 = .ok (.putfield 162, 3) := dk_181 0 162 (dk_at dksX5_readsCondition_1 2 rfl rfl)
theorem dX5_readsCondition_29 : decode cX5_readsCondition 29 = .ok (.aload_n 0, 1) := dk_42 (dk_at dksX5_readsCondition_1 5 rfl rfl)
theorem dX5_readsCondition_30 : decode cX5_readsCondition 30 = .ok (.bipush 13, 2) := dk_16 13 (dk_at dksX5_readsCondition_1 6 rfl rfl)
theorem dX5_readsCondition_32 : decode cX5_readsCondition 32 = .ok (.invokevirtual 172, 3) := dk_182 0 172 (dk_at dksX5_readsCondition_1 8 rfl rfl)
theorem dX5_readsCondition_35 : decode cX5_readsCondition 35 = .ok (.ifCond .ne 5, 3) := dk_154 0 5 (dk_at dksX5_readsCondition_1 11 rfl rfl)
theorem dX5_readsCondition_38 : decode cX5_readsCondition 38 = .ok (.iconst 0, 1) := dk_3 (dk_at dksX5_readsCondition_1 14 rfl rfl)
theorem dX5_readsCondition_39 : decode cX5_readsCondition 39 = .ok (.ireturn, 1) := dk_172 (dk_at dksX5_readsCondition_1 15 rfl rfl)
theorem dX5_readsCondition_40 : decode cX5_readsCondition 40 = .ok (.aload_n 0, 1) := dk_42 (dk_at dksX5_readsCondition_1 16 rfl rfl)
theorem dX5_readsCondition_41 : decode cX5_readsCondition 41 = .ok (.invokevirtual 137, 3) := dk_182 0 137 (dk_at dksX5_readsCondition_1 17 rfl rfl)
theorem dX5_readsCondition_44 : decode cX5_readsCondition 44 = .ok (.bipush 33, 2) := dk_16 33 (dk_at dksX5_readsCondition_1 20 rfl rfl)
theorem dX5_readsCondition_46 : decode cX5_readsCondition 46 = .ok (.if_icmp .eq 12, 3) := dk_159 0 12 (dk_at dksX5_readsCondition_2 0 rfl rfl)
theorem dX5_readsCondition_49 : decode cX5_readsCondition 49 = .ok (.aload_n 0, 1) := dk_42 (dk_at dksX5_readsCondition_2 3 rfl rfl)
theorem dX5_readsCondition_50 : decode cX5_readsCondition 50 = .ok (.invokevirtual 137, 3) := dk_182 0 137 (dk_at dksX5_readsCondition_2 4 rfl rfl)
theorem dX5_readsCondition_53 : decode cX5_readsCondition 53 = .ok (.bipush 40, 2) := dk_16 40 (dk_at dksX5_readsCondition_2 7 rfl rfl)
theorem dX5_readsCondition_55 : decode cX5_readsCondition 55 = .ok (.if_icmp .ne 28, 3) := dk_160 0 28 (dk_at dksX5_readsCondition_2 9 rfl rfl)
theorem dX5_readsCondition_58 : decode cX5_readsCondition 58 = .ok (.aload_n 0, 1) := dk_42 (dk_at dksX5_readsCondition_2 12 rfl rfl)
theorem dX5_readsCondition_59 : decode cX5_readsCondition 59 = .ok (.aload_n 0, 1) := dk_42 (dk_at dksX5_readsCondition_2 13 rfl rfl)
theorem dX5_readsCondition_60 : decode cX5_readsCondition 60 = .ok (.invokevirtual 137, 3) := dk_182 0 137 (dk_at dksX5_readsCondition_2 14 rfl rfl)
theorem dX5_readsCondition_63 : decode cX5_readsCondition 63 = .ok (.bipush 33, 2) := dk_16 33 (dk_at dksX5_readsCondition_2 17 rfl rfl)
theorem dX5_readsCondition_65 : decode cX5_readsCondition 65 = .ok (.if_icmp .ne 8, 3) := dk_160 0 8 (dk_at dksX5_readsCondition_2 19 rfl rfl)
theorem dX5_readsCondition_68 : decode cX5_readsCondition 68 = .ok (.bipush 10, 2) := dk_16 10 (dk_at dksX5_readsCondition_2 22 rfl rfl)
theorem dX5_readsCondition_70 : decode cX5_readsCondition 70 = .ok (.goto 5, 3) := dk_167 0 5 (dk_at dksX5_readsCondition_3 0 rfl rfl)
theorem dX5_readsCondition_73 : decode cX5_readsCondition 73 = .ok (.bipush 13, 2) := dk_16 13 (dk_at dksX5_readsCondition_3 3 rfl rfl)
theorem dX5_readsCondition_75 : decode cX5_readsCondition 75 = .ok (.invokevirtual 172, 3) := dk_182 0 172 (dk_at dksX5_readsCondition_3 5 rfl rfl)
theorem dX5_readsCondition_78 : decode cX5_readsCondition 78 = .ok (.ifCond .ne (-38), 3) := dk_154 255 218 (dk_at dksX5_readsCondition_3 8 rfl rfl)
theorem dX5_readsCondition_81 : decode cX5_readsCondition 81 = .ok (.iconst 0, 1) := dk_3 (dk_at dksX5_readsCondition_3 11 rfl rfl)
theorem dX5_readsCondition_82 : decode cX5_readsCondition 82 = .ok (.ireturn, 1) := dk_172 (dk_at dksX5_readsCondition_3 12 rfl rfl)
theorem dX5_readsCondition_83 : decode cX5_readsCondition 83 = .ok (.aload_n 0, 1) := dk_42 (dk_at dksX5_readsCondition_3 13 rfl rfl)
theorem dX5_readsCondition_84 : decode cX5_readsCondition 84 = .ok (.invokevirtual 201, 3) := dk_182 0 201 (dk_at dksX5_readsCondition_3 14 rfl rfl)
theorem dX5_readsCondition_87 : decode cX5_readsCondition 87 = .ok (.ifCond .ne 5, 3) := dk_154 0 5 (dk_at dksX5_readsCondition_3 17 rfl rfl)
theorem dX5_readsCondition_90 : decode cX5_readsCondition 90 = .ok (.iconst 0, 1) := dk_3 (dk_at dksX5_readsCondition_3 20 rfl rfl)
theorem dX5_readsCondition_91 : decode cX5_readsCondition 91 = .ok (.ireturn, 1) := dk_172 (dk_at dksX5_readsCondition_3 21 rfl rfl)
theorem dX5_readsCondition_92 : decode cX5_readsCondition 92 = .ok (.aload_n 0, 1) := dk_42 (dk_at dksX5_readsCondition_3 22 rfl rfl)
theorem dX5_readsCondition_93 : decode cX5_readsCondition 93 = .ok (.invokevirtual 137, 3) := dk_182 0 137 (dk_at dksX5_readsCondition_4 0 rfl rfl)
theorem dX5_readsCondition_96 : decode cX5_readsCondition 96 = .ok (.bipush 41, 2) := dk_16 41 (dk_at dksX5_readsCondition_4 3 rfl rfl)
theorem dX5_readsCondition_98 : decode cX5_readsCondition 98 = .ok (.if_icmp .ne 54, 3) := dk_160 0 54 (dk_at dksX5_readsCondition_4 5 rfl rfl)
theorem dX5_readsCondition_101 : decode cX5_readsCondition 101 = .ok (.aload_n 0, 1) := dk_42 (dk_at dksX5_readsCondition_4 8 rfl rfl)
theorem dX5_readsCondition_102 : decode cX5_readsCondition 102 = .ok (.iconst 1, 1) := dk_4 (dk_at dksX5_readsCondition_4 9 rfl rfl)
theorem dX5_readsCondition_103 : decode cX5_readsCondition 103 = .ok (.invokevirtual 204, 3) := dk_182 0 204 (dk_at dksX5_readsCondition_4 10 rfl rfl)
theorem dX5_readsCondition_106 : decode cX5_readsCondition 106 = .ok (.aload_n 0, 1) := dk_42 (dk_at dksX5_readsCondition_4 13 rfl rfl)
theorem dX5_readsCondition_107 : decode cX5_readsCondition 107 = .ok (.aload_n 0, 1) := dk_42 (dk_at dksX5_readsCondition_4 14 rfl rfl)
theorem dX5_readsCondition_108 : decode cX5_readsCondition 108 = .ok (.getfield 162, 3) := dk_180 0 162 (dk_at dksX5_readsCondition_4 15 rfl rfl)
theorem dX5_readsCondition_111 : decode cX5_readsCondition 111 = .ok (.iconst 1, 1) := dk_4 (dk_at dksX5_readsCondition_4 18 rfl rfl)
theorem dX5_readsCondition_112 : decode cX5_readsCondition 112 = .ok (.isub, 1) := dk_100 (dk_at dksX5_readsCondition_4 19 rfl rfl)
theorem dX5_readsCondition_113 : decode cX5_readsCondition 113 = .ok (.putfield 162, 3) := dk_181 0 162 (dk_at dksX5_readsCondition_4 20 rfl rfl)
theorem dX5_readsCondition_116 : decode cX5_readsCondition 116 = .ok (.aload_n 0, 1) := dk_42 (dk_at dksX5_readsCondition_4 23 rfl rfl)
theorem dX5_readsCondition_117 : decode cX5_readsCondition 117 = .ok (.aload_n 0, 1) := dk_42 (dk_at dksX5_readsCondition_5 0 rfl rfl)
theorem dX5_readsCondition_118 : decode cX5_readsCondition 118 = .ok (.getfield 159, 3) := dk_180 0 159 (dk_at dksX5_readsCondition_5 1 rfl rfl)
theorem dX5_readsCondition_121 : decode cX5_readsCondition 121 = .ok (.iconst 1, 1) := dk_4 (dk_at dksX5_readsCondition_5 4 rfl rfl)
theorem dX5_readsCondition_122 : decode cX5_readsCondition 122 = .ok (.isub, 1) := dk_100 (dk_at dksX5_readsCondition_5 5 rfl rfl)
theorem dX5_readsCondition_123 : decode cX5_readsCondition 123 = .ok (.putfield 159, 3) := dk_181 0 159 (dk_at dksX5_readsCondition_5 6 rfl rfl)
theorem dX5_readsCondition_126 : decode cX5_readsCondition 126 = .ok (.aload_n 0, 1) := dk_42 (dk_at dksX5_readsCondition_5 9 rfl rfl)
theorem dX5_readsCondition_127 : decode cX5_readsCondition 127 = .ok (.aload_n 0, 1) := dk_42 (dk_at dksX5_readsCondition_5 10 rfl rfl)
theorem dX5_readsCondition_128 : decode cX5_readsCondition 128 = .ok (.getfield 131, 3) := dk_180 0 131 (dk_at dksX5_readsCondition_5 11 rfl rfl)
theorem dX5_readsCondition_131 : decode cX5_readsCondition 131 = .ok (.iconst 1, 1) := dk_4 (dk_at dksX5_readsCondition_5 14 rfl rfl)
theorem dX5_readsCondition_132 : decode cX5_readsCondition 132 = .ok (.iadd, 1) := dk_96 (dk_at dksX5_readsCondition_5 15 rfl rfl)
theorem dX5_readsCondition_133 : decode cX5_readsCondition 133 = .ok (.putfield 131, 3) := dk_181 0 131 (dk_at dksX5_readsCondition_5 16 rfl rfl)
theorem dX5_readsCondition_136 : decode cX5_readsCondition 136 = .ok (.aload_n 0, 1) := dk_42 (dk_at dksX5_readsCondition_5 19 rfl rfl)
theorem dX5_readsCondition_137 : decode cX5_readsCondition 137 = .ok (.getfield 162, 3) := dk_180 0 162 (dk_at dksX5_readsCondition_5 20 rfl rfl)
theorem dX5_readsCondition_140 : decode cX5_readsCondition 140 = .ok (.ifCond .ne 5, 3) := dk_154 0 5 (dk_at dksX5_readsCondition_6 0 rfl rfl)
theorem dX5_readsCondition_143 : decode cX5_readsCondition 143 = .ok (.iconst 1, 1) := dk_4 (dk_at dksX5_readsCondition_6 3 rfl rfl)
theorem dX5_readsCondition_144 : decode cX5_readsCondition 144 = .ok (.ireturn, 1) := dk_172 (dk_at dksX5_readsCondition_6 4 rfl rfl)
theorem dX5_readsCondition_145 : decode cX5_readsCondition 145 = .ok (.aload_n 0, 1) := dk_42 (dk_at dksX5_readsCondition_6 5 rfl rfl)
theorem dX5_readsCondition_146 : decode cX5_readsCondition 146 = .ok (.invokevirtual 198, 3) := dk_182 0 198 (dk_at dksX5_readsCondition_6 6 rfl rfl)
theorem dX5_readsCondition_149 : decode cX5_readsCondition 149 = .ok (.goto (-57), 3) := dk_167 255 199 (dk_at dksX5_readsCondition_6 9 rfl rfl)
theorem dX5_readsCondition_152 : decode cX5_readsCondition 152 = .ok (.aload_n 0, 1) := dk_42 (dk_at dksX5_readsCondition_6 12 rfl rfl)
theorem dX5_readsCondition_153 : decode cX5_readsCondition 153 = .ok (.invokevirtual 137, 3) := dk_182 0 137 (dk_at dksX5_readsCondition_6 13 rfl rfl)
theorem dX5_readsCondition_156 : decode cX5_readsCondition 156 = .ok (.bipush 38, 2) := dk_16 38 (dk_at dksX5_readsCondition_6 16 rfl rfl)
theorem dX5_readsCondition_158 : decode cX5_readsCondition 158 = .ok (.if_icmp .eq 22, 3) := dk_159 0 22 (dk_at dksX5_readsCondition_6 18 rfl rfl)
theorem dX5_readsCondition_161 : decode cX5_readsCondition 161 = .ok (.aload_n 0, 1) := dk_42 (dk_at dksX5_readsCondition_6 21 rfl rfl)
theorem dX5_readsCondition_162 : decode cX5_readsCondition 162 = .ok (.invokevirtual 137, 3) := dk_182 0 137 (dk_at dksX5_readsCondition_7 0 rfl rfl)
theorem dX5_readsCondition_165 : decode cX5_readsCondition 165 = .ok (.bipush 124, 2) := dk_16 124 (dk_at dksX5_readsCondition_7 3 rfl rfl)
theorem dX5_readsCondition_167 : decode cX5_readsCondition 167 = .ok (.if_icmp .eq 13, 3) := dk_159 0 13 (dk_at dksX5_readsCondition_7 5 rfl rfl)
theorem dX5_readsCondition_170 : decode cX5_readsCondition 170 = .ok (.aload_n 0, 1) := dk_42 (dk_at dksX5_readsCondition_7 8 rfl rfl)
theorem dX5_readsCondition_171 : decode cX5_readsCondition 171 = .ok (.iconst 1, 1) := dk_4 (dk_at dksX5_readsCondition_7 9 rfl rfl)
theorem dX5_readsCondition_172 : decode cX5_readsCondition 172 = .ok (.aload_n 0, 1) := dk_42 (dk_at dksX5_readsCondition_7 10 rfl rfl)
theorem dX5_readsCondition_173 : decode cX5_readsCondition 173 = .ok (.getfield 131, 3) := dk_180 0 131 (dk_at dksX5_readsCondition_7 11 rfl rfl)
theorem dX5_readsCondition_176 : decode cX5_readsCondition 176 = .ok (.invokevirtual 144, 3) := dk_182 0 144 (dk_at dksX5_readsCondition_7 14 rfl rfl)
theorem dX5_readsCondition_179 : decode cX5_readsCondition 179 = .ok (.ireturn, 1) := dk_172 (dk_at dksX5_readsCondition_7 17 rfl rfl)
theorem dX5_readsCondition_180 : decode cX5_readsCondition 180 = .ok (.aload_n 0, 1) := dk_42 (dk_at dksX5_readsCondition_7 18 rfl rfl)
theorem dX5_readsCondition_181 : decode cX5_readsCondition 181 = .ok (.aload_n 0, 1) := dk_42 (dk_at dksX5_readsCondition_7 19 rfl rfl)
theorem dX5_readsCondition_182 : decode cX5_readsCondition 182 = .ok (.invokevirtual 137, 3) := dk_182 0 137 (dk_at dksX5_readsCondition_7 20 rfl rfl)
theorem dX5_readsCondition_185 : decode cX5_readsCondition 185 = .ok (.bipush 124, 2) := dk_16 124 (dk_at dksX5_readsCondition_8 0 rfl rfl)
theorem dX5_readsCondition_187 : decode cX5_readsCondition 187 = .ok (.if_icmp .ne 7, 3) := dk_160 0 7 (dk_at dksX5_readsCondition_8 2 rfl rfl)
theorem dX5_readsCondition_190 : decode cX5_readsCondition 190 = .ok (.iconst 1, 1) := dk_4 (dk_at dksX5_readsCondition_8 5 rfl rfl)
theorem dX5_readsCondition_191 : decode cX5_readsCondition 191 = .ok (.goto 4, 3) := dk_167 0 4 (dk_at dksX5_readsCondition_8 6 rfl rfl)
theorem dX5_readsCondition_194 : decode cX5_readsCondition 194 = .ok (.iconst 0, 1) := dk_3 (dk_at dksX5_readsCondition_8 9 rfl rfl)
theorem dX5_readsCondition_195 : decode cX5_readsCondition 195 = .ok (.invokevirtual 204, 3) := dk_182 0 204 (dk_at dksX5_readsCondition_8 10 rfl rfl)
theorem dX5_readsCondition_198 : decode cX5_readsCondition 198 = .ok (.aload_n 0, 1) := dk_42 (dk_at dksX5_readsCondition_8 13 rfl rfl)
theorem dX5_readsCondition_199 : decode cX5_readsCondition 199 = .ok (.aload_n 0, 1) := dk_42 (dk_at dksX5_readsCondition_8 14 rfl rfl)
theorem dX5_readsCondition_200 : decode cX5_readsCondition 200 = .ok (.invokevirtual 137, 3) := dk_182 0 137 (dk_at dksX5_readsCondition_8 15 rfl rfl)
theorem dX5_readsCondition_203 : decode cX5_readsCondition 203 = .ok (.bipush 38, 2) := dk_16 38 (dk_at dksX5_readsCondition_8 18 rfl rfl)
theorem dX5_readsCondition_205 : decode cX5_readsCondition 205 = .ok (.if_icmp .ne 8, 3) := dk_160 0 8 (dk_at dksX5_readsCondition_8 20 rfl rfl)
theorem dX5_readsCondition_208 : decode cX5_readsCondition 208 = .ok (.bipush 11, 2) := dk_16 11 (dk_at dksX5_readsCondition_9 0 rfl rfl)
theorem dX5_readsCondition_210 : decode cX5_readsCondition 210 = .ok (.goto 5, 3) := dk_167 0 5 (dk_at dksX5_readsCondition_9 2 rfl rfl)
theorem dX5_readsCondition_213 : decode cX5_readsCondition 213 = .ok (.bipush 12, 2) := dk_16 12 (dk_at dksX5_readsCondition_9 5 rfl rfl)
theorem dX5_readsCondition_215 : decode cX5_readsCondition 215 = .ok (.invokevirtual 207, 3) := dk_182 0 207 (dk_at dksX5_readsCondition_9 7 rfl rfl)
theorem dX5_readsCondition_218 : decode cX5_readsCondition 218 = .ok (.goto (-178), 3) := dk_167 255 78 (dk_at dksX5_readsCondition_9 10 rfl rfl)
abbrev cX5_readsCompared : ByteArray := prog_19_method_35_code
def yX5_readsCompared : MethodName := ⟨RX5, "readsCompared", "()Z"⟩
def dkwX5_readsCompared_4 : List UInt8 := [182, 0, 198, 4, 172]
abbrev dktX5_readsCompared_4 : List UInt8 := dkwX5_readsCompared_4 ++ []
def dkwX5_readsCompared_3 : List UInt8 := [180, 0, 131, 4, 96, 181, 0, 131, 42, 182, 0, 195, 154, 0, 5, 3, 172, 42, 27, 3, 182, 0, 168, 42]
abbrev dktX5_readsCompared_3 : List UInt8 := dkwX5_readsCompared_3 ++ dktX5_readsCompared_4
def dkwX5_readsCompared_2 : List UInt8 := [167, 0, 4, 2, 60, 27, 2, 160, 0, 13, 42, 4, 42, 180, 0, 131, 182, 0, 144, 172, 42, 42]
abbrev dktX5_readsCompared_2 : List UInt8 := dkwX5_readsCompared_2 ++ dktX5_readsCompared_3
def dkwX5_readsCompared_1 : List UInt8 := [182, 0, 137, 16, 62, 160, 0, 8, 16, 8, 167, 0, 18, 42, 182, 0, 137, 16, 61, 160, 0, 8, 16, 9]
abbrev dktX5_readsCompared_1 : List UInt8 := dkwX5_readsCompared_1 ++ dktX5_readsCompared_2
def dkwX5_readsCompared_0 : List UInt8 := [42, 182, 0, 195, 154, 0, 5, 3, 172, 42, 182, 0, 137, 16, 60, 160, 0, 8, 16, 7, 167, 0, 32, 42]
abbrev dktX5_readsCompared_0 : List UInt8 := dkwX5_readsCompared_0 ++ dktX5_readsCompared_1
theorem dksX5_readsCompared_0 : cX5_readsCompared.data.toList.drop 0 = dktX5_readsCompared_0 := by decide +kernel
theorem dksX5_readsCompared_1 : cX5_readsCompared.data.toList.drop 24 = dktX5_readsCompared_1 := dk_seg dksX5_readsCompared_0 24 rfl rfl
theorem dksX5_readsCompared_2 : cX5_readsCompared.data.toList.drop 48 = dktX5_readsCompared_2 := dk_seg dksX5_readsCompared_1 24 rfl rfl
theorem dksX5_readsCompared_3 : cX5_readsCompared.data.toList.drop 70 = dktX5_readsCompared_3 := dk_seg dksX5_readsCompared_2 22 rfl rfl
theorem dksX5_readsCompared_4 : cX5_readsCompared.data.toList.drop 94 = dktX5_readsCompared_4 := dk_seg dksX5_readsCompared_3 24 rfl rfl
theorem dX5_readsCompared_0 : decode cX5_readsCompared 0 = .ok (.aload_n 0, 1) := dk_42 (dk_at dksX5_readsCompared_0 0 rfl rfl)
theorem dX5_readsCompared_1 : decode cX5_readsCompared 1 = .ok (.invokevirtual 195, 3) := dk_182 0 195 (dk_at dksX5_readsCompared_0 1 rfl rfl)
theorem dX5_readsCompared_4 : decode cX5_readsCompared 4 = .ok (.ifCond .ne 5, 3) := dk_154 0 5 (dk_at dksX5_readsCompared_0 4 rfl rfl)
theorem dX5_readsCompared_7 : decode cX5_readsCompared 7 = .ok (.iconst 0, 1) := dk_3 (dk_at dksX5_readsCompared_0 7 rfl rfl)
theorem dX5_readsCompared_8 : decode cX5_readsCompared 8 = .ok (.ireturn, 1) := dk_172 (dk_at dksX5_readsCompared_0 8 rfl rfl)
theorem dX5_readsCompared_9 : decode cX5_readsCompared 9 = .ok (.aload_n 0, 1) := dk_42 (dk_at dksX5_readsCompared_0 9 rfl rfl)
theorem dX5_readsCompared_10 : decode cX5_readsCompared 10 = .ok (.invokevirtual 137, 3) := dk_182 0 137 (dk_at dksX5_readsCompared_0 10 rfl rfl)
theorem dX5_readsCompared_13 : decode cX5_readsCompared 13 = .ok (.bipush 60, 2) := dk_16 60 (dk_at dksX5_readsCompared_0 13 rfl rfl)
theorem dX5_readsCompared_15 : decode cX5_readsCompared 15 = .ok (.if_icmp .ne 8, 3) := dk_160 0 8 (dk_at dksX5_readsCompared_0 15 rfl rfl)
theorem dX5_readsCompared_18 : decode cX5_readsCompared 18 = .ok (.bipush 7, 2) := dk_16 7 (dk_at dksX5_readsCompared_0 18 rfl rfl)
theorem dX5_readsCompared_20 : decode cX5_readsCompared 20 = .ok (.goto 32, 3) := dk_167 0 32 (dk_at dksX5_readsCompared_0 20 rfl rfl)
theorem dX5_readsCompared_23 : decode cX5_readsCompared 23 = .ok (.aload_n 0, 1) := dk_42 (dk_at dksX5_readsCompared_0 23 rfl rfl)
theorem dX5_readsCompared_24 : decode cX5_readsCompared 24 = .ok (.invokevirtual 137, 3) := dk_182 0 137 (dk_at dksX5_readsCompared_1 0 rfl rfl)
theorem dX5_readsCompared_27 : decode cX5_readsCompared 27 = .ok (.bipush 62, 2) := dk_16 62 (dk_at dksX5_readsCompared_1 3 rfl rfl)
theorem dX5_readsCompared_29 : decode cX5_readsCompared 29 = .ok (.if_icmp .ne 8, 3) := dk_160 0 8 (dk_at dksX5_readsCompared_1 5 rfl rfl)
theorem dX5_readsCompared_32 : decode cX5_readsCompared 32 = .ok (.bipush 8, 2) := dk_16 8 (dk_at dksX5_readsCompared_1 8 rfl rfl)
theorem dX5_readsCompared_34 : decode cX5_readsCompared 34 = .ok (.goto 18, 3) := dk_167 0 18 (dk_at dksX5_readsCompared_1 10 rfl rfl)
theorem dX5_readsCompared_37 : decode cX5_readsCompared 37 = .ok (.aload_n 0, 1) := dk_42 (dk_at dksX5_readsCompared_1 13 rfl rfl)
theorem dX5_readsCompared_38 : decode cX5_readsCompared 38 = .ok (.invokevirtual 137, 3) := dk_182 0 137 (dk_at dksX5_readsCompared_1 14 rfl rfl)
theorem dX5_readsCompared_41 : decode cX5_readsCompared 41 = .ok (.bipush 61, 2) := dk_16 61 (dk_at dksX5_readsCompared_1 17 rfl rfl)
theorem dX5_readsCompared_43 : decode cX5_readsCompared 43 = .ok (.if_icmp .ne 8, 3) := dk_160 0 8 (dk_at dksX5_readsCompared_1 19 rfl rfl)
theorem dX5_readsCompared_46 : decode cX5_readsCompared 46 = .ok (.bipush 9, 2) := dk_16 9 (dk_at dksX5_readsCompared_1 22 rfl rfl)
theorem dX5_readsCompared_48 : decode cX5_readsCompared 48 = .ok (.goto 4, 3) := dk_167 0 4 (dk_at dksX5_readsCompared_2 0 rfl rfl)
theorem dX5_readsCompared_51 : decode cX5_readsCompared 51 = .ok (.iconst (-1), 1) := dk_2 (dk_at dksX5_readsCompared_2 3 rfl rfl)
theorem dX5_readsCompared_52 : decode cX5_readsCompared 52 = .ok (.istore_n 1, 1) := dk_60 (dk_at dksX5_readsCompared_2 4 rfl rfl)
theorem dX5_readsCompared_53 : decode cX5_readsCompared 53 = .ok (.iload_n 1, 1) := dk_27 (dk_at dksX5_readsCompared_2 5 rfl rfl)
theorem dX5_readsCompared_54 : decode cX5_readsCompared 54 = .ok (.iconst (-1), 1) := dk_2 (dk_at dksX5_readsCompared_2 6 rfl rfl)
theorem dX5_readsCompared_55 : decode cX5_readsCompared 55 = .ok (.if_icmp .ne 13, 3) := dk_160 0 13 (dk_at dksX5_readsCompared_2 7 rfl rfl)
theorem dX5_readsCompared_58 : decode cX5_readsCompared 58 = .ok (.aload_n 0, 1) := dk_42 (dk_at dksX5_readsCompared_2 10 rfl rfl)
theorem dX5_readsCompared_59 : decode cX5_readsCompared 59 = .ok (.iconst 1, 1) := dk_4 (dk_at dksX5_readsCompared_2 11 rfl rfl)
theorem dX5_readsCompared_60 : decode cX5_readsCompared 60 = .ok (.aload_n 0, 1) := dk_42 (dk_at dksX5_readsCompared_2 12 rfl rfl)
theorem dX5_readsCompared_61 : decode cX5_readsCompared 61 = .ok (.getfield 131, 3) := dk_180 0 131 (dk_at dksX5_readsCompared_2 13 rfl rfl)
theorem dX5_readsCompared_64 : decode cX5_readsCompared 64 = .ok (.invokevirtual 144, 3) := dk_182 0 144 (dk_at dksX5_readsCompared_2 16 rfl rfl)
theorem dX5_readsCompared_67 : decode cX5_readsCompared 67 = .ok (.ireturn, 1) := dk_172 (dk_at dksX5_readsCompared_2 19 rfl rfl)
theorem dX5_readsCompared_68 : decode cX5_readsCompared 68 = .ok (.aload_n 0, 1) := dk_42 (dk_at dksX5_readsCompared_2 20 rfl rfl)
theorem dX5_readsCompared_69 : decode cX5_readsCompared 69 = .ok (.aload_n 0, 1) := dk_42 (dk_at dksX5_readsCompared_2 21 rfl rfl)
theorem dX5_readsCompared_70 : decode cX5_readsCompared 70 = .ok (.getfield 131, 3) := dk_180 0 131 (dk_at dksX5_readsCompared_3 0 rfl rfl)
theorem dX5_readsCompared_73 : decode cX5_readsCompared 73 = .ok (.iconst 1, 1) := dk_4 (dk_at dksX5_readsCompared_3 3 rfl rfl)
theorem dX5_readsCompared_74 : decode cX5_readsCompared 74 = .ok (.iadd, 1) := dk_96 (dk_at dksX5_readsCompared_3 4 rfl rfl)
theorem dX5_readsCompared_75 : decode cX5_readsCompared 75 = .ok (.putfield 131, 3) := dk_181 0 131 (dk_at dksX5_readsCompared_3 5 rfl rfl)
theorem dX5_readsCompared_78 : decode cX5_readsCompared 78 = .ok (.aload_n 0, 1) := dk_42 (dk_at dksX5_readsCompared_3 8 rfl rfl)
theorem dX5_readsCompared_79 : decode cX5_readsCompared 79 = .ok (.invokevirtual 195, 3) := dk_182 0 195 (dk_at dksX5_readsCompared_3 9 rfl rfl)
theorem dX5_readsCompared_82 : decode cX5_readsCompared 82 = .ok (.ifCond .ne 5, 3) := dk_154 0 5 (dk_at dksX5_readsCompared_3 12 rfl rfl)
theorem dX5_readsCompared_85 : decode cX5_readsCompared 85 = .ok (.iconst 0, 1) := dk_3 (dk_at dksX5_readsCompared_3 15 rfl rfl)
theorem dX5_readsCompared_86 : decode cX5_readsCompared 86 = .ok (.ireturn, 1) := dk_172 (dk_at dksX5_readsCompared_3 16 rfl rfl)
theorem dX5_readsCompared_87 : decode cX5_readsCompared 87 = .ok (.aload_n 0, 1) := dk_42 (dk_at dksX5_readsCompared_3 17 rfl rfl)
theorem dX5_readsCompared_88 : decode cX5_readsCompared 88 = .ok (.iload_n 1, 1) := dk_27 (dk_at dksX5_readsCompared_3 18 rfl rfl)
theorem dX5_readsCompared_89 : decode cX5_readsCompared 89 = .ok (.iconst 0, 1) := dk_3 (dk_at dksX5_readsCompared_3 19 rfl rfl)
theorem dX5_readsCompared_90 : decode cX5_readsCompared 90 = .ok (.invokevirtual 168, 3) := dk_182 0 168 (dk_at dksX5_readsCompared_3 20 rfl rfl)
theorem dX5_readsCompared_93 : decode cX5_readsCompared 93 = .ok (.aload_n 0, 1) := dk_42 (dk_at dksX5_readsCompared_3 23 rfl rfl)
theorem dX5_readsCompared_94 : decode cX5_readsCompared 94 = .ok (.invokevirtual 198, 3) := dk_182 0 198 (dk_at dksX5_readsCompared_4 0 rfl rfl)
theorem dX5_readsCompared_97 : decode cX5_readsCompared 97 = .ok (.iconst 1, 1) := dk_4 (dk_at dksX5_readsCompared_4 3 rfl rfl)
theorem dX5_readsCompared_98 : decode cX5_readsCompared 98 = .ok (.ireturn, 1) := dk_172 (dk_at dksX5_readsCompared_4 4 rfl rfl)
abbrev cX5_endsPiece : ByteArray := prog_19_method_32_code
def yX5_endsPiece : MethodName := ⟨RX5, "endsPiece", "()V"⟩
def dkwX5_endsPiece_1 : List UInt8 := [181, 0, 162, 42, 42, 180, 0, 159, 4, 100, 181, 0, 159, 167, 255, 220, 177]
abbrev dktX5_endsPiece_1 : List UInt8 := dkwX5_endsPiece_1 ++ []
def dkwX5_endsPiece_0 : List UInt8 := [42, 182, 0, 165, 16, 10, 160, 0, 33, 42, 16, 10, 3, 182, 0, 168, 42, 42, 180, 0, 162, 4, 100]
abbrev dktX5_endsPiece_0 : List UInt8 := dkwX5_endsPiece_0 ++ dktX5_endsPiece_1
theorem dksX5_endsPiece_0 : cX5_endsPiece.data.toList.drop 0 = dktX5_endsPiece_0 := by decide +kernel
theorem dksX5_endsPiece_1 : cX5_endsPiece.data.toList.drop 23 = dktX5_endsPiece_1 := dk_seg dksX5_endsPiece_0 23 rfl rfl
theorem dX5_endsPiece_0 : decode cX5_endsPiece 0 = .ok (.aload_n 0, 1) := dk_42 (dk_at dksX5_endsPiece_0 0 rfl rfl)
theorem dX5_endsPiece_1 : decode cX5_endsPiece 1 = .ok (.invokevirtual 165, 3) := dk_182 0 165 (dk_at dksX5_endsPiece_0 1 rfl rfl)
theorem dX5_endsPiece_4 : decode cX5_endsPiece 4 = .ok (.bipush 10, 2) := dk_16 10 (dk_at dksX5_endsPiece_0 4 rfl rfl)
theorem dX5_endsPiece_6 : decode cX5_endsPiece 6 = .ok (.if_icmp .ne 33, 3) := dk_160 0 33 (dk_at dksX5_endsPiece_0 6 rfl rfl)
theorem dX5_endsPiece_9 : decode cX5_endsPiece 9 = .ok (.aload_n 0, 1) := dk_42 (dk_at dksX5_endsPiece_0 9 rfl rfl)
theorem dX5_endsPiece_10 : decode cX5_endsPiece 10 = .ok (.bipush 10, 2) := dk_16 10 (dk_at dksX5_endsPiece_0 10 rfl rfl)
theorem dX5_endsPiece_12 : decode cX5_endsPiece 12 = .ok (.iconst 0, 1) := dk_3 (dk_at dksX5_endsPiece_0 12 rfl rfl)
theorem dX5_endsPiece_13 : decode cX5_endsPiece 13 = .ok (.invokevirtual 168, 3) := dk_182 0 168 (dk_at dksX5_endsPiece_0 13 rfl rfl)
theorem dX5_endsPiece_16 : decode cX5_endsPiece 16 = .ok (.aload_n 0, 1) := dk_42 (dk_at dksX5_endsPiece_0 16 rfl rfl)
theorem dX5_endsPiece_17 : decode cX5_endsPiece 17 = .ok (.aload_n 0, 1) := dk_42 (dk_at dksX5_endsPiece_0 17 rfl rfl)
theorem dX5_endsPiece_18 : decode cX5_endsPiece 18 = .ok (.getfield 162, 3) := dk_180 0 162 (dk_at dksX5_endsPiece_0 18 rfl rfl)
theorem dX5_endsPiece_21 : decode cX5_endsPiece 21 = .ok (.iconst 1, 1) := dk_4 (dk_at dksX5_endsPiece_0 21 rfl rfl)
theorem dX5_endsPiece_22 : decode cX5_endsPiece 22 = .ok (.isub, 1) := dk_100 (dk_at dksX5_endsPiece_0 22 rfl rfl)
theorem dX5_endsPiece_23 : decode cX5_endsPiece 23 = .ok (.putfield 162, 3) := dk_181 0 162 (dk_at dksX5_endsPiece_1 0 rfl rfl)
theorem dX5_endsPiece_26 : decode cX5_endsPiece 26 = .ok (.aload_n 0, 1) := dk_42 (dk_at dksX5_endsPiece_1 3 rfl rfl)
theorem dX5_endsPiece_27 : decode cX5_endsPiece 27 = .ok (.aload_n 0, 1) := dk_42 (dk_at dksX5_endsPiece_1 4 rfl rfl)
theorem dX5_endsPiece_28 : decode cX5_endsPiece 28 = .ok (.getfield 159, 3) := dk_180 0 159 (dk_at dksX5_endsPiece_1 5 rfl rfl)
theorem dX5_endsPiece_31 : decode cX5_endsPiece 31 = .ok (.iconst 1, 1) := dk_4 (dk_at dksX5_endsPiece_1 8 rfl rfl)
theorem dX5_endsPiece_32 : decode cX5_endsPiece 32 = .ok (.isub, 1) := dk_100 (dk_at dksX5_endsPiece_1 9 rfl rfl)
theorem dX5_endsPiece_33 : decode cX5_endsPiece 33 = .ok (.putfield 159, 3) := dk_181 0 159 (dk_at dksX5_endsPiece_1 10 rfl rfl)
theorem dX5_endsPiece_36 : decode cX5_endsPiece 36 = .ok (.goto (-36), 3) := dk_167 255 220 (dk_at dksX5_endsPiece_1 13 rfl rfl)
theorem dX5_endsPiece_39 : decode cX5_endsPiece 39 = .ok (.return_, 1) := dk_177 (dk_at dksX5_endsPiece_1 16 rfl rfl)
abbrev cX5_lands : ByteArray := prog_19_method_33_code
def yX5_lands : MethodName := ⟨RX5, "lands", "(Z)V"⟩
def dkwX5_lands_3 : List UInt8 := [181, 0, 162, 167, 255, 186, 177]
abbrev dktX5_lands_3 : List UInt8 := dkwX5_lands_3 ++ []
def dkwX5_lands_2 : List UInt8 := [180, 0, 24, 28, 46, 18, 158, 108, 104, 42, 180, 0, 155, 96, 79, 42, 42, 180, 0, 162, 4, 100]
abbrev dktX5_lands_2 : List UInt8 := dkwX5_lands_2 ++ dktX5_lands_3
def dkwX5_lands_1 : List UInt8 := [180, 0, 27, 42, 180, 0, 162, 4, 100, 46, 18, 158, 112, 61, 42, 180, 0, 24, 28, 18, 158, 42]
abbrev dktX5_lands_1 : List UInt8 := dkwX5_lands_1 ++ dktX5_lands_2
def dkwX5_lands_0 : List UInt8 := [42, 182, 0, 165, 16, 11, 159, 0, 16, 27, 153, 0, 63, 42, 182, 0, 165, 16, 12, 160, 0, 54, 42]
abbrev dktX5_lands_0 : List UInt8 := dkwX5_lands_0 ++ dktX5_lands_1
theorem dksX5_lands_0 : cX5_lands.data.toList.drop 0 = dktX5_lands_0 := by decide +kernel
theorem dksX5_lands_1 : cX5_lands.data.toList.drop 23 = dktX5_lands_1 := dk_seg dksX5_lands_0 23 rfl rfl
theorem dksX5_lands_2 : cX5_lands.data.toList.drop 45 = dktX5_lands_2 := dk_seg dksX5_lands_1 22 rfl rfl
theorem dksX5_lands_3 : cX5_lands.data.toList.drop 67 = dktX5_lands_3 := dk_seg dksX5_lands_2 22 rfl rfl
theorem dX5_lands_0 : decode cX5_lands 0 = .ok (.aload_n 0, 1) := dk_42 (dk_at dksX5_lands_0 0 rfl rfl)
theorem dX5_lands_1 : decode cX5_lands 1 = .ok (.invokevirtual 165, 3) := dk_182 0 165 (dk_at dksX5_lands_0 1 rfl rfl)
theorem dX5_lands_4 : decode cX5_lands 4 = .ok (.bipush 11, 2) := dk_16 11 (dk_at dksX5_lands_0 4 rfl rfl)
theorem dX5_lands_6 : decode cX5_lands 6 = .ok (.if_icmp .eq 16, 3) := dk_159 0 16 (dk_at dksX5_lands_0 6 rfl rfl)
theorem dX5_lands_9 : decode cX5_lands 9 = .ok (.iload_n 1, 1) := dk_27 (dk_at dksX5_lands_0 9 rfl rfl)
theorem dX5_lands_10 : decode cX5_lands 10 = .ok (.ifCond .eq 63, 3) := dk_153 0 63 (dk_at dksX5_lands_0 10 rfl rfl)
theorem dX5_lands_13 : decode cX5_lands 13 = .ok (.aload_n 0, 1) := dk_42 (dk_at dksX5_lands_0 13 rfl rfl)
theorem dX5_lands_14 : decode cX5_lands 14 = .ok (.invokevirtual 165, 3) := dk_182 0 165 (dk_at dksX5_lands_0 14 rfl rfl)
theorem dX5_lands_17 : decode cX5_lands 17 = .ok (.bipush 12, 2) := dk_16 12 (dk_at dksX5_lands_0 17 rfl rfl)
theorem dX5_lands_19 : decode cX5_lands 19 = .ok (.if_icmp .ne 54, 3) := dk_160 0 54 (dk_at dksX5_lands_0 19 rfl rfl)
theorem dX5_lands_22 : decode cX5_lands 22 = .ok (.aload_n 0, 1) := dk_42 (dk_at dksX5_lands_0 22 rfl rfl)
theorem dX5_lands_23 : decode cX5_lands 23 = .ok (.getfield 27, 3) := dk_180 0 27 (dk_at dksX5_lands_1 0 rfl rfl)
theorem dX5_lands_26 : decode cX5_lands 26 = .ok (.aload_n 0, 1) := dk_42 (dk_at dksX5_lands_1 3 rfl rfl)
theorem dX5_lands_27 : decode cX5_lands 27 = .ok (.getfield 162, 3) := dk_180 0 162 (dk_at dksX5_lands_1 4 rfl rfl)
theorem dX5_lands_30 : decode cX5_lands 30 = .ok (.iconst 1, 1) := dk_4 (dk_at dksX5_lands_1 7 rfl rfl)
theorem dX5_lands_31 : decode cX5_lands 31 = .ok (.isub, 1) := dk_100 (dk_at dksX5_lands_1 8 rfl rfl)
theorem dX5_lands_32 : decode cX5_lands 32 = .ok (.iaload, 1) := dk_46 (dk_at dksX5_lands_1 9 rfl rfl)
theorem dX5_lands_33 : decode cX5_lands 33 = .ok (.ldc 158, 2) := dk_18 158 (dk_at dksX5_lands_1 10 rfl rfl)
theorem dX5_lands_35 : decode cX5_lands 35 = .ok (.irem, 1) := dk_112 (dk_at dksX5_lands_1 12 rfl rfl)
theorem dX5_lands_36 : decode cX5_lands 36 = .ok (.istore_n 2, 1) := dk_61 (dk_at dksX5_lands_1 13 rfl rfl)
theorem dX5_lands_37 : decode cX5_lands 37 = .ok (.aload_n 0, 1) := dk_42 (dk_at dksX5_lands_1 14 rfl rfl)
theorem dX5_lands_38 : decode cX5_lands 38 = .ok (.getfield 24, 3) := dk_180 0 24 (dk_at dksX5_lands_1 15 rfl rfl)
theorem dX5_lands_41 : decode cX5_lands 41 = .ok (.iload_n 2, 1) := dk_28 (dk_at dksX5_lands_1 18 rfl rfl)
theorem dX5_lands_42 : decode cX5_lands 42 = .ok (.ldc 158, 2) := dk_18 158 (dk_at dksX5_lands_1 19 rfl rfl)
theorem dX5_lands_44 : decode cX5_lands 44 = .ok (.aload_n 0, 1) := dk_42 (dk_at dksX5_lands_1 21 rfl rfl)
theorem dX5_lands_45 : decode cX5_lands 45 = .ok (.getfield 24, 3) := dk_180 0 24 (dk_at dksX5_lands_2 0 rfl rfl)
theorem dX5_lands_48 : decode cX5_lands 48 = .ok (.iload_n 2, 1) := dk_28 (dk_at dksX5_lands_2 3 rfl rfl)
theorem dX5_lands_49 : decode cX5_lands 49 = .ok (.iaload, 1) := dk_46 (dk_at dksX5_lands_2 4 rfl rfl)
theorem dX5_lands_50 : decode cX5_lands 50 = .ok (.ldc 158, 2) := dk_18 158 (dk_at dksX5_lands_2 5 rfl rfl)
theorem dX5_lands_52 : decode cX5_lands 52 = .ok (.idiv, 1) := dk_108 (dk_at dksX5_lands_2 7 rfl rfl)
theorem dX5_lands_53 : decode cX5_lands 53 = .ok (.imul, 1) := dk_104 (dk_at dksX5_lands_2 8 rfl rfl)
theorem dX5_lands_54 : decode cX5_lands 54 = .ok (.aload_n 0, 1) := dk_42 (dk_at dksX5_lands_2 9 rfl rfl)
theorem dX5_lands_55 : decode cX5_lands 55 = .ok (.getfield 155, 3) := dk_180 0 155 (dk_at dksX5_lands_2 10 rfl rfl)
theorem dX5_lands_58 : decode cX5_lands 58 = .ok (.iadd, 1) := dk_96 (dk_at dksX5_lands_2 13 rfl rfl)
theorem dX5_lands_59 : decode cX5_lands 59 = .ok (.iastore, 1) := dk_79 (dk_at dksX5_lands_2 14 rfl rfl)
theorem dX5_lands_60 : decode cX5_lands 60 = .ok (.aload_n 0, 1) := dk_42 (dk_at dksX5_lands_2 15 rfl rfl)
theorem dX5_lands_61 : decode cX5_lands 61 = .ok (.aload_n 0, 1) := dk_42 (dk_at dksX5_lands_2 16 rfl rfl)
theorem dX5_lands_62 : decode cX5_lands 62 = .ok (.getfield 162, 3) := dk_180 0 162 (dk_at dksX5_lands_2 17 rfl rfl)
theorem dX5_lands_65 : decode cX5_lands 65 = .ok (.iconst 1, 1) := dk_4 (dk_at dksX5_lands_2 20 rfl rfl)
theorem dX5_lands_66 : decode cX5_lands 66 = .ok (.isub, 1) := dk_100 (dk_at dksX5_lands_2 21 rfl rfl)
theorem dX5_lands_67 : decode cX5_lands 67 = .ok (.putfield 162, 3) := dk_181 0 162 (dk_at dksX5_lands_3 0 rfl rfl)
theorem dX5_lands_70 : decode cX5_lands 70 = .ok (.goto (-70), 3) := dk_167 255 186 (dk_at dksX5_lands_3 3 rfl rfl)
theorem dX5_lands_73 : decode cX5_lands 73 = .ok (.return_, 1) := dk_177 (dk_at dksX5_lands_3 6 rfl rfl)
abbrev cX5_jumps : ByteArray := prog_19_method_34_code
def yX5_jumps : MethodName := ⟨RX5, "jumps", "(I)V"⟩
def dkwX5_jumps_1 : List UInt8 := [96, 181, 0, 162, 42, 27, 3, 182, 0, 168, 42, 42, 180, 0, 131, 4, 96, 181, 0, 131, 177]
abbrev dktX5_jumps_1 : List UInt8 := dkwX5_jumps_1 ++ []
def dkwX5_jumps_0 : List UInt8 := [42, 180, 0, 27, 42, 180, 0, 162, 18, 158, 27, 104, 42, 180, 0, 155, 96, 79, 42, 42, 180, 0, 162, 4]
abbrev dktX5_jumps_0 : List UInt8 := dkwX5_jumps_0 ++ dktX5_jumps_1
theorem dksX5_jumps_0 : cX5_jumps.data.toList.drop 0 = dktX5_jumps_0 := by decide +kernel
theorem dksX5_jumps_1 : cX5_jumps.data.toList.drop 24 = dktX5_jumps_1 := dk_seg dksX5_jumps_0 24 rfl rfl
theorem dX5_jumps_0 : decode cX5_jumps 0 = .ok (.aload_n 0, 1) := dk_42 (dk_at dksX5_jumps_0 0 rfl rfl)
theorem dX5_jumps_1 : decode cX5_jumps 1 = .ok (.getfield 27, 3) := dk_180 0 27 (dk_at dksX5_jumps_0 1 rfl rfl)
theorem dX5_jumps_4 : decode cX5_jumps 4 = .ok (.aload_n 0, 1) := dk_42 (dk_at dksX5_jumps_0 4 rfl rfl)
theorem dX5_jumps_5 : decode cX5_jumps 5 = .ok (.getfield 162, 3) := dk_180 0 162 (dk_at dksX5_jumps_0 5 rfl rfl)
theorem dX5_jumps_8 : decode cX5_jumps 8 = .ok (.ldc 158, 2) := dk_18 158 (dk_at dksX5_jumps_0 8 rfl rfl)
theorem dX5_jumps_10 : decode cX5_jumps 10 = .ok (.iload_n 1, 1) := dk_27 (dk_at dksX5_jumps_0 10 rfl rfl)
theorem dX5_jumps_11 : decode cX5_jumps 11 = .ok (.imul, 1) := dk_104 (dk_at dksX5_jumps_0 11 rfl rfl)
theorem dX5_jumps_12 : decode cX5_jumps 12 = .ok (.aload_n 0, 1) := dk_42 (dk_at dksX5_jumps_0 12 rfl rfl)
theorem dX5_jumps_13 : decode cX5_jumps 13 = .ok (.getfield 155, 3) := dk_180 0 155 (dk_at dksX5_jumps_0 13 rfl rfl)
theorem dX5_jumps_16 : decode cX5_jumps 16 = .ok (.iadd, 1) := dk_96 (dk_at dksX5_jumps_0 16 rfl rfl)
theorem dX5_jumps_17 : decode cX5_jumps 17 = .ok (.iastore, 1) := dk_79 (dk_at dksX5_jumps_0 17 rfl rfl)
theorem dX5_jumps_18 : decode cX5_jumps 18 = .ok (.aload_n 0, 1) := dk_42 (dk_at dksX5_jumps_0 18 rfl rfl)
theorem dX5_jumps_19 : decode cX5_jumps 19 = .ok (.aload_n 0, 1) := dk_42 (dk_at dksX5_jumps_0 19 rfl rfl)
theorem dX5_jumps_20 : decode cX5_jumps 20 = .ok (.getfield 162, 3) := dk_180 0 162 (dk_at dksX5_jumps_0 20 rfl rfl)
theorem dX5_jumps_23 : decode cX5_jumps 23 = .ok (.iconst 1, 1) := dk_4 (dk_at dksX5_jumps_0 23 rfl rfl)
theorem dX5_jumps_24 : decode cX5_jumps 24 = .ok (.iadd, 1) := dk_96 (dk_at dksX5_jumps_1 0 rfl rfl)
theorem dX5_jumps_25 : decode cX5_jumps 25 = .ok (.putfield 162, 3) := dk_181 0 162 (dk_at dksX5_jumps_1 1 rfl rfl)
theorem dX5_jumps_28 : decode cX5_jumps 28 = .ok (.aload_n 0, 1) := dk_42 (dk_at dksX5_jumps_1 4 rfl rfl)
theorem dX5_jumps_29 : decode cX5_jumps 29 = .ok (.iload_n 1, 1) := dk_27 (dk_at dksX5_jumps_1 5 rfl rfl)
theorem dX5_jumps_30 : decode cX5_jumps 30 = .ok (.iconst 0, 1) := dk_3 (dk_at dksX5_jumps_1 6 rfl rfl)
theorem dX5_jumps_31 : decode cX5_jumps 31 = .ok (.invokevirtual 168, 3) := dk_182 0 168 (dk_at dksX5_jumps_1 7 rfl rfl)
theorem dX5_jumps_34 : decode cX5_jumps 34 = .ok (.aload_n 0, 1) := dk_42 (dk_at dksX5_jumps_1 10 rfl rfl)
theorem dX5_jumps_35 : decode cX5_jumps 35 = .ok (.aload_n 0, 1) := dk_42 (dk_at dksX5_jumps_1 11 rfl rfl)
theorem dX5_jumps_36 : decode cX5_jumps 36 = .ok (.getfield 131, 3) := dk_180 0 131 (dk_at dksX5_jumps_1 12 rfl rfl)
theorem dX5_jumps_39 : decode cX5_jumps 39 = .ok (.iconst 1, 1) := dk_4 (dk_at dksX5_jumps_1 15 rfl rfl)
theorem dX5_jumps_40 : decode cX5_jumps 40 = .ok (.iadd, 1) := dk_96 (dk_at dksX5_jumps_1 16 rfl rfl)
theorem dX5_jumps_41 : decode cX5_jumps 41 = .ok (.putfield 131, 3) := dk_181 0 131 (dk_at dksX5_jumps_1 17 rfl rfl)
theorem dX5_jumps_44 : decode cX5_jumps 44 = .ok (.return_, 1) := dk_177 (dk_at dksX5_jumps_1 20 rfl rfl)
abbrev cX5_takes : ByteArray := prog_19_method_21_code
def yX5_takes : MethodName := ⟨RX5, "takes", "(I)Z"⟩
def dkwX5_takes_1 : List UInt8 := [96, 181, 0, 131, 4, 172]
abbrev dktX5_takes_1 : List UInt8 := dkwX5_takes_1 ++ []
def dkwX5_takes_0 : List UInt8 := [42, 182, 0, 137, 27, 159, 0, 13, 42, 4, 42, 180, 0, 131, 182, 0, 144, 172, 42, 42, 180, 0, 131, 4]
abbrev dktX5_takes_0 : List UInt8 := dkwX5_takes_0 ++ dktX5_takes_1
theorem dksX5_takes_0 : cX5_takes.data.toList.drop 0 = dktX5_takes_0 := by decide +kernel
theorem dksX5_takes_1 : cX5_takes.data.toList.drop 24 = dktX5_takes_1 := dk_seg dksX5_takes_0 24 rfl rfl
theorem dX5_takes_0 : decode cX5_takes 0 = .ok (.aload_n 0, 1) := dk_42 (dk_at dksX5_takes_0 0 rfl rfl)
theorem dX5_takes_1 : decode cX5_takes 1 = .ok (.invokevirtual 137, 3) := dk_182 0 137 (dk_at dksX5_takes_0 1 rfl rfl)
theorem dX5_takes_4 : decode cX5_takes 4 = .ok (.iload_n 1, 1) := dk_27 (dk_at dksX5_takes_0 4 rfl rfl)
theorem dX5_takes_5 : decode cX5_takes 5 = .ok (.if_icmp .eq 13, 3) := dk_159 0 13 (dk_at dksX5_takes_0 5 rfl rfl)
theorem dX5_takes_8 : decode cX5_takes 8 = .ok (.aload_n 0, 1) := dk_42 (dk_at dksX5_takes_0 8 rfl rfl)
theorem dX5_takes_9 : decode cX5_takes 9 = .ok (.iconst 1, 1) := dk_4 (dk_at dksX5_takes_0 9 rfl rfl)
theorem dX5_takes_10 : decode cX5_takes 10 = .ok (.aload_n 0, 1) := dk_42 (dk_at dksX5_takes_0 10 rfl rfl)
theorem dX5_takes_11 : decode cX5_takes 11 = .ok (.getfield 131, 3) := dk_180 0 131 (dk_at dksX5_takes_0 11 rfl rfl)
theorem dX5_takes_14 : decode cX5_takes 14 = .ok (.invokevirtual 144, 3) := dk_182 0 144 (dk_at dksX5_takes_0 14 rfl rfl)
theorem dX5_takes_17 : decode cX5_takes 17 = .ok (.ireturn, 1) := dk_172 (dk_at dksX5_takes_0 17 rfl rfl)
theorem dX5_takes_18 : decode cX5_takes 18 = .ok (.aload_n 0, 1) := dk_42 (dk_at dksX5_takes_0 18 rfl rfl)
theorem dX5_takes_19 : decode cX5_takes 19 = .ok (.aload_n 0, 1) := dk_42 (dk_at dksX5_takes_0 19 rfl rfl)
theorem dX5_takes_20 : decode cX5_takes 20 = .ok (.getfield 131, 3) := dk_180 0 131 (dk_at dksX5_takes_0 20 rfl rfl)
theorem dX5_takes_23 : decode cX5_takes 23 = .ok (.iconst 1, 1) := dk_4 (dk_at dksX5_takes_0 23 rfl rfl)
theorem dX5_takes_24 : decode cX5_takes 24 = .ok (.iadd, 1) := dk_96 (dk_at dksX5_takes_1 0 rfl rfl)
theorem dX5_takes_25 : decode cX5_takes 25 = .ok (.putfield 131, 3) := dk_181 0 131 (dk_at dksX5_takes_1 1 rfl rfl)
theorem dX5_takes_28 : decode cX5_takes 28 = .ok (.iconst 1, 1) := dk_4 (dk_at dksX5_takes_1 4 rfl rfl)
theorem dX5_takes_29 : decode cX5_takes 29 = .ok (.ireturn, 1) := dk_172 (dk_at dksX5_takes_1 5 rfl rfl)
abbrev cX5_casts : ByteArray := prog_19_method_46_code
def yX5_casts : MethodName := ⟨RX5, "casts", "(I)I"⟩
def dkwX5_casts_7 : List UInt8 := [172]
abbrev dktX5_casts_7 : List UInt8 := dkwX5_casts_7 ++ []
def dkwX5_casts_6 : List UInt8 := [132, 3, 1, 167, 255, 235, 42, 180, 0, 13, 3, 3, 79, 42, 180, 0, 13, 4, 3, 79, 42, 180, 1, 1]
abbrev dktX5_casts_6 : List UInt8 := dkwX5_casts_6 ++ dktX5_casts_7
def dkwX5_casts_5 : List UInt8 := [180, 0, 141, 172, 3, 62, 29, 16, 96, 162, 0, 21, 42, 180, 0, 7, 29, 42, 180, 0, 63, 29, 46, 79]
abbrev dktX5_casts_5 : List UInt8 := dkwX5_casts_5 ++ dktX5_casts_6
def dkwX5_casts_4 : List UInt8 := [153, 0, 7, 4, 167, 0, 4, 3, 61, 167, 255, 219, 42, 3, 181, 0, 124, 28, 154, 0, 8, 42]
abbrev dktX5_casts_4 : List UInt8 := dkwX5_casts_4 ++ dktX5_casts_5
def dkwX5_casts_3 : List UInt8 := [180, 0, 131, 42, 180, 0, 134, 162, 0, 28, 42, 16, 59, 182, 0, 222, 153, 0, 14, 42, 182, 1, 4]
abbrev dktX5_casts_3 : List UInt8 := dkwX5_casts_3 ++ dktX5_casts_4
def dkwX5_casts_2 : List UInt8 := [180, 0, 63, 28, 3, 79, 132, 2, 1, 167, 255, 240, 42, 182, 1, 4, 61, 28, 153, 0, 39, 42]
abbrev dktX5_casts_2 : List UInt8 := dkwX5_casts_2 ++ dktX5_casts_3
def dkwX5_casts_1 : List UInt8 := [182, 0, 216, 42, 3, 181, 0, 251, 42, 3, 181, 1, 1, 3, 61, 28, 16, 96, 162, 0, 16, 42]
abbrev dktX5_casts_1 : List UInt8 := dkwX5_casts_1 ++ dktX5_casts_2
def dkwX5_casts_0 : List UInt8 := [27, 4, 17, 0, 240, 184, 0, 112, 153, 0, 11, 27, 42, 180, 0, 124, 164, 0, 5, 2, 172, 42, 27]
abbrev dktX5_casts_0 : List UInt8 := dkwX5_casts_0 ++ dktX5_casts_1
theorem dksX5_casts_0 : cX5_casts.data.toList.drop 0 = dktX5_casts_0 := by decide +kernel
theorem dksX5_casts_1 : cX5_casts.data.toList.drop 23 = dktX5_casts_1 := dk_seg dksX5_casts_0 23 rfl rfl
theorem dksX5_casts_2 : cX5_casts.data.toList.drop 45 = dktX5_casts_2 := dk_seg dksX5_casts_1 22 rfl rfl
theorem dksX5_casts_3 : cX5_casts.data.toList.drop 67 = dktX5_casts_3 := dk_seg dksX5_casts_2 22 rfl rfl
theorem dksX5_casts_4 : cX5_casts.data.toList.drop 90 = dktX5_casts_4 := dk_seg dksX5_casts_3 23 rfl rfl
theorem dksX5_casts_5 : cX5_casts.data.toList.drop 112 = dktX5_casts_5 := dk_seg dksX5_casts_4 22 rfl rfl
theorem dksX5_casts_6 : cX5_casts.data.toList.drop 136 = dktX5_casts_6 := dk_seg dksX5_casts_5 24 rfl rfl
theorem dksX5_casts_7 : cX5_casts.data.toList.drop 160 = dktX5_casts_7 := dk_seg dksX5_casts_6 24 rfl rfl
theorem dX5_casts_0 : decode cX5_casts 0 = .ok (.iload_n 1, 1) := dk_27 (dk_at dksX5_casts_0 0 rfl rfl)
theorem dX5_casts_1 : decode cX5_casts 1 = .ok (.iconst 1, 1) := dk_4 (dk_at dksX5_casts_0 1 rfl rfl)
theorem dX5_casts_2 : decode cX5_casts 2 = .ok (.sipush 240, 3) := dk_17 0 240 (dk_at dksX5_casts_0 2 rfl rfl)
theorem dX5_casts_5 : decode cX5_casts 5 = .ok (.invokestatic 112, 3) := dk_184 0 112 (dk_at dksX5_casts_0 5 rfl rfl)
theorem dX5_casts_8 : decode cX5_casts 8 = .ok (.ifCond .eq 11, 3) := dk_153 0 11 (dk_at dksX5_casts_0 8 rfl rfl)
theorem dX5_casts_11 : decode cX5_casts 11 = .ok (.iload_n 1, 1) := dk_27 (dk_at dksX5_casts_0 11 rfl rfl)
theorem dX5_casts_12 : decode cX5_casts 12 = .ok (.aload_n 0, 1) := dk_42 (dk_at dksX5_casts_0 12 rfl rfl)
theorem dX5_casts_13 : decode cX5_casts 13 = .ok (.getfield 124, 3) := dk_180 0 124 (dk_at dksX5_casts_0 13 rfl rfl)
theorem dX5_casts_16 : decode cX5_casts 16 = .ok (.if_icmp .le 5, 3) := dk_164 0 5 (dk_at dksX5_casts_0 16 rfl rfl)
theorem dX5_casts_19 : decode cX5_casts 19 = .ok (.iconst (-1), 1) := dk_2 (dk_at dksX5_casts_0 19 rfl rfl)
theorem dX5_casts_20 : decode cX5_casts 20 = .ok (.ireturn, 1) := dk_172 (dk_at dksX5_casts_0 20 rfl rfl)
theorem dX5_casts_21 : decode cX5_casts 21 = .ok (.aload_n 0, 1) := dk_42 (dk_at dksX5_casts_0 21 rfl rfl)
theorem dX5_casts_22 : decode cX5_casts 22 = .ok (.iload_n 1, 1) := dk_27 (dk_at dksX5_casts_0 22 rfl rfl)
theorem dX5_casts_23 : decode cX5_casts 23 = .ok (.invokevirtual 216, 3) := dk_182 0 216 (dk_at dksX5_casts_1 0 rfl rfl)
theorem dX5_casts_26 : decode cX5_casts 26 = .ok (.aload_n 0, 1) := dk_42 (dk_at dksX5_casts_1 3 rfl rfl)
theorem dX5_casts_27 : decode cX5_casts 27 = .ok (.iconst 0, 1) := dk_3 (dk_at dksX5_casts_1 4 rfl rfl)
theorem dX5_casts_28 : decode cX5_casts 28 = .ok (.putfield 251, 3) := dk_181 0 251 (dk_at dksX5_casts_1 5 rfl rfl)
theorem dX5_casts_31 : decode cX5_casts 31 = .ok (.aload_n 0, 1) := dk_42 (dk_at dksX5_casts_1 8 rfl rfl)
theorem dX5_casts_32 : decode cX5_casts 32 = .ok (.iconst 0, 1) := dk_3 (dk_at dksX5_casts_1 9 rfl rfl)
theorem dX5_casts_33 : decode cX5_casts 33 = .ok (.putfield 257, 3) := dk_181 1 1 (dk_at dksX5_casts_1 10 rfl rfl)
theorem dX5_casts_36 : decode cX5_casts 36 = .ok (.iconst 0, 1) := dk_3 (dk_at dksX5_casts_1 13 rfl rfl)
theorem dX5_casts_37 : decode cX5_casts 37 = .ok (.istore_n 2, 1) := dk_61 (dk_at dksX5_casts_1 14 rfl rfl)
theorem dX5_casts_38 : decode cX5_casts 38 = .ok (.iload_n 2, 1) := dk_28 (dk_at dksX5_casts_1 15 rfl rfl)
theorem dX5_casts_39 : decode cX5_casts 39 = .ok (.bipush 96, 2) := dk_16 96 (dk_at dksX5_casts_1 16 rfl rfl)
theorem dX5_casts_41 : decode cX5_casts 41 = .ok (.if_icmp .ge 16, 3) := dk_162 0 16 (dk_at dksX5_casts_1 18 rfl rfl)
theorem dX5_casts_44 : decode cX5_casts 44 = .ok (.aload_n 0, 1) := dk_42 (dk_at dksX5_casts_1 21 rfl rfl)
theorem dX5_casts_45 : decode cX5_casts 45 = .ok (.getfield 63, 3) := dk_180 0 63 (dk_at dksX5_casts_2 0 rfl rfl)
theorem dX5_casts_48 : decode cX5_casts 48 = .ok (.iload_n 2, 1) := dk_28 (dk_at dksX5_casts_2 3 rfl rfl)
theorem dX5_casts_49 : decode cX5_casts 49 = .ok (.iconst 0, 1) := dk_3 (dk_at dksX5_casts_2 4 rfl rfl)
theorem dX5_casts_50 : decode cX5_casts 50 = .ok (.iastore, 1) := dk_79 (dk_at dksX5_casts_2 5 rfl rfl)
theorem dX5_casts_51 : decode cX5_casts 51 = .ok (.iinc 2 1, 3) := dk_132 2 1 (dk_at dksX5_casts_2 6 rfl rfl)
theorem dX5_casts_54 : decode cX5_casts 54 = .ok (.goto (-16), 3) := dk_167 255 240 (dk_at dksX5_casts_2 9 rfl rfl)
theorem dX5_casts_57 : decode cX5_casts 57 = .ok (.aload_n 0, 1) := dk_42 (dk_at dksX5_casts_2 12 rfl rfl)
theorem dX5_casts_58 : decode cX5_casts 58 = .ok (.invokevirtual 260, 3) := dk_182 1 4 (dk_at dksX5_casts_2 13 rfl rfl)
theorem dX5_casts_61 : decode cX5_casts 61 = .ok (.istore_n 2, 1) := dk_61 (dk_at dksX5_casts_2 16 rfl rfl)
theorem dX5_casts_62 : decode cX5_casts 62 = .ok (.iload_n 2, 1) := dk_28 (dk_at dksX5_casts_2 17 rfl rfl)
theorem dX5_casts_63 : decode cX5_casts 63 = .ok (.ifCond .eq 39, 3) := dk_153 0 39 (dk_at dksX5_casts_2 18 rfl rfl)
theorem dX5_casts_66 : decode cX5_casts 66 = .ok (.aload_n 0, 1) := dk_42 (dk_at dksX5_casts_2 21 rfl rfl)
theorem dX5_casts_67 : decode cX5_casts 67 = .ok (.getfield 131, 3) := dk_180 0 131 (dk_at dksX5_casts_3 0 rfl rfl)
theorem dX5_casts_70 : decode cX5_casts 70 = .ok (.aload_n 0, 1) := dk_42 (dk_at dksX5_casts_3 3 rfl rfl)
theorem dX5_casts_71 : decode cX5_casts 71 = .ok (.getfield 134, 3) := dk_180 0 134 (dk_at dksX5_casts_3 4 rfl rfl)
theorem dX5_casts_74 : decode cX5_casts 74 = .ok (.if_icmp .ge 28, 3) := dk_162 0 28 (dk_at dksX5_casts_3 7 rfl rfl)
theorem dX5_casts_77 : decode cX5_casts 77 = .ok (.aload_n 0, 1) := dk_42 (dk_at dksX5_casts_3 10 rfl rfl)
theorem dX5_casts_78 : decode cX5_casts 78 = .ok (.bipush 59, 2) := dk_16 59 (dk_at dksX5_casts_3 11 rfl rfl)
theorem dX5_casts_80 : decode cX5_casts 80 = .ok (.invokevirtual 222, 3) := dk_182 0 222 (dk_at dksX5_casts_3 13 rfl rfl)
theorem dX5_casts_83 : decode cX5_casts 83 = .ok (.ifCond .eq 14, 3) := dk_153 0 14 (dk_at dksX5_casts_3 16 rfl rfl)
theorem dX5_casts_86 : decode cX5_casts 86 = .ok (.aload_n 0, 1) := dk_42 (dk_at dksX5_casts_3 19 rfl rfl)
theorem dX5_casts_87 : decode cX5_casts 87 = .ok (.invokevirtual 260, 3) := dk_182 1 4 (dk_at dksX5_casts_3 20 rfl rfl)
theorem dX5_casts_90 : decode cX5_casts 90 = .ok (.ifCond .eq 7, 3) := dk_153 0 7 (dk_at dksX5_casts_4 0 rfl rfl)
theorem dX5_casts_93 : decode cX5_casts 93 = .ok (.iconst 1, 1) := dk_4 (dk_at dksX5_casts_4 3 rfl rfl)
theorem dX5_casts_94 : decode cX5_casts 94 = .ok (.goto 4, 3) := dk_167 0 4 (dk_at dksX5_casts_4 4 rfl rfl)
theorem dX5_casts_97 : decode cX5_casts 97 = .ok (.iconst 0, 1) := dk_3 (dk_at dksX5_casts_4 7 rfl rfl)
theorem dX5_casts_98 : decode cX5_casts 98 = .ok (.istore_n 2, 1) := dk_61 (dk_at dksX5_casts_4 8 rfl rfl)
theorem dX5_casts_99 : decode cX5_casts 99 = .ok (.goto (-37), 3) := dk_167 255 219 (dk_at dksX5_casts_4 9 rfl rfl)
theorem dX5_casts_102 : decode cX5_casts 102 = .ok (.aload_n 0, 1) := dk_42 (dk_at dksX5_casts_4 12 rfl rfl)
theorem dX5_casts_103 : decode cX5_casts 103 = .ok (.iconst 0, 1) := dk_3 (dk_at dksX5_casts_4 13 rfl rfl)
theorem dX5_casts_104 : decode cX5_casts 104 = .ok (.putfield 124, 3) := dk_181 0 124 (dk_at dksX5_casts_4 14 rfl rfl)
theorem dX5_casts_107 : decode cX5_casts 107 = .ok (.iload_n 2, 1) := dk_28 (dk_at dksX5_casts_4 17 rfl rfl)
theorem dX5_casts_108 : decode cX5_casts 108 = .ok (.ifCond .ne 8, 3) := dk_154 0 8 (dk_at dksX5_casts_4 18 rfl rfl)
theorem dX5_casts_111 : decode cX5_casts 111 = .ok (.aload_n 0, 1) := dk_42 (dk_at dksX5_casts_4 21 rfl rfl)
theorem dX5_casts_112 : decode cX5_casts 112 = .ok (.getfield 141, 3) := dk_180 0 141 (dk_at dksX5_casts_5 0 rfl rfl)
theorem dX5_casts_115 : decode cX5_casts 115 = .ok (.ireturn, 1) := dk_172 (dk_at dksX5_casts_5 3 rfl rfl)
theorem dX5_casts_116 : decode cX5_casts 116 = .ok (.iconst 0, 1) := dk_3 (dk_at dksX5_casts_5 4 rfl rfl)
theorem dX5_casts_117 : decode cX5_casts 117 = .ok (.istore_n 3, 1) := dk_62 (dk_at dksX5_casts_5 5 rfl rfl)
theorem dX5_casts_118 : decode cX5_casts 118 = .ok (.iload_n 3, 1) := dk_29 (dk_at dksX5_casts_5 6 rfl rfl)
theorem dX5_casts_119 : decode cX5_casts 119 = .ok (.bipush 96, 2) := dk_16 96 (dk_at dksX5_casts_5 7 rfl rfl)
theorem dX5_casts_121 : decode cX5_casts 121 = .ok (.if_icmp .ge 21, 3) := dk_162 0 21 (dk_at dksX5_casts_5 9 rfl rfl)
theorem dX5_casts_124 : decode cX5_casts 124 = .ok (.aload_n 0, 1) := dk_42 (dk_at dksX5_casts_5 12 rfl rfl)
theorem dX5_casts_125 : decode cX5_casts 125 = .ok (.getfield 7, 3) := dk_180 0 7 (dk_at dksX5_casts_5 13 rfl rfl)
theorem dX5_casts_128 : decode cX5_casts 128 = .ok (.iload_n 3, 1) := dk_29 (dk_at dksX5_casts_5 16 rfl rfl)
theorem dX5_casts_129 : decode cX5_casts 129 = .ok (.aload_n 0, 1) := dk_42 (dk_at dksX5_casts_5 17 rfl rfl)
theorem dX5_casts_130 : decode cX5_casts 130 = .ok (.getfield 63, 3) := dk_180 0 63 (dk_at dksX5_casts_5 18 rfl rfl)
theorem dX5_casts_133 : decode cX5_casts 133 = .ok (.iload_n 3, 1) := dk_29 (dk_at dksX5_casts_5 21 rfl rfl)
theorem dX5_casts_134 : decode cX5_casts 134 = .ok (.iaload, 1) := dk_46 (dk_at dksX5_casts_5 22 rfl rfl)
theorem dX5_casts_135 : decode cX5_casts 135 = .ok (.iastore, 1) := dk_79 (dk_at dksX5_casts_5 23 rfl rfl)
theorem dX5_casts_136 : decode cX5_casts 136 = .ok (.iinc 3 1, 3) := dk_132 3 1 (dk_at dksX5_casts_6 0 rfl rfl)
theorem dX5_casts_139 : decode cX5_casts 139 = .ok (.goto (-21), 3) := dk_167 255 235 (dk_at dksX5_casts_6 3 rfl rfl)
theorem dX5_casts_142 : decode cX5_casts 142 = .ok (.aload_n 0, 1) := dk_42 (dk_at dksX5_casts_6 6 rfl rfl)
theorem dX5_casts_143 : decode cX5_casts 143 = .ok (.getfield 13, 3) := dk_180 0 13 (dk_at dksX5_casts_6 7 rfl rfl)
theorem dX5_casts_146 : decode cX5_casts 146 = .ok (.iconst 0, 1) := dk_3 (dk_at dksX5_casts_6 10 rfl rfl)
theorem dX5_casts_147 : decode cX5_casts 147 = .ok (.iconst 0, 1) := dk_3 (dk_at dksX5_casts_6 11 rfl rfl)
theorem dX5_casts_148 : decode cX5_casts 148 = .ok (.iastore, 1) := dk_79 (dk_at dksX5_casts_6 12 rfl rfl)
theorem dX5_casts_149 : decode cX5_casts 149 = .ok (.aload_n 0, 1) := dk_42 (dk_at dksX5_casts_6 13 rfl rfl)
theorem dX5_casts_150 : decode cX5_casts 150 = .ok (.getfield 13, 3) := dk_180 0 13 (dk_at dksX5_casts_6 14 rfl rfl)
theorem dX5_casts_153 : decode cX5_casts 153 = .ok (.iconst 1, 1) := dk_4 (dk_at dksX5_casts_6 17 rfl rfl)
theorem dX5_casts_154 : decode cX5_casts 154 = .ok (.iconst 0, 1) := dk_3 (dk_at dksX5_casts_6 18 rfl rfl)
theorem dX5_casts_155 : decode cX5_casts 155 = .ok (.iastore, 1) := dk_79 (dk_at dksX5_casts_6 19 rfl rfl)
theorem dX5_casts_156 : decode cX5_casts 156 = .ok (.aload_n 0, 1) := dk_42 (dk_at dksX5_casts_6 20 rfl rfl)
theorem dX5_casts_157 : decode cX5_casts 157 = .ok (.getfield 257, 3) := dk_180 1 1 (dk_at dksX5_casts_6 21 rfl rfl)
theorem dX5_casts_160 : decode cX5_casts 160 = .ok (.ireturn, 1) := dk_172 (dk_at dksX5_casts_7 0 rfl rfl)
abbrev cX5_readsRow : ByteArray := prog_19_method_45_code
def yX5_readsRow : MethodName := ⟨RX5, "readsRow", "()Z"⟩
def dkwX5_readsRow_9 : List UInt8 := [181, 1, 1, 4, 172]
abbrev dktX5_readsRow_9 : List UInt8 := dkwX5_readsRow_9 ++ []
def dkwX5_readsRow_8 : List UInt8 := [16, 59, 159, 0, 14, 42, 21, 4, 182, 0, 254, 154, 255, 230, 3, 172, 42, 42, 180, 1, 1, 4, 96]
abbrev dktX5_readsRow_8 : List UInt8 := dkwX5_readsRow_8 ++ dktX5_readsRow_9
def dkwX5_readsRow_7 : List UInt8 := [182, 0, 254, 154, 0, 5, 3, 172, 42, 180, 0, 131, 42, 180, 0, 134, 162, 0, 23, 42, 182, 0, 137]
abbrev dktX5_readsRow_7 : List UInt8 := dkwX5_readsRow_7 ++ dktX5_readsRow_8
def dkwX5_readsRow_6 : List UInt8 := [154, 0, 5, 3, 172, 42, 3, 181, 0, 248, 16, 48, 27, 104, 16, 8, 28, 104, 96, 54, 4, 42, 21, 4]
abbrev dktX5_readsRow_6 : List UInt8 := dkwX5_readsRow_6 ++ dktX5_readsRow_7
def dkwX5_readsRow_5 : List UInt8 := [180, 0, 251, 29, 128, 181, 0, 251, 42, 42, 180, 0, 131, 4, 96, 181, 0, 131, 42, 16, 61, 182, 0, 222]
abbrev dktX5_readsRow_5 : List UInt8 := dkwX5_readsRow_5 ++ dktX5_readsRow_6
def dkwX5_readsRow_4 : List UInt8 := [62, 42, 180, 0, 251, 29, 126, 153, 0, 14, 42, 16, 6, 42, 180, 0, 131, 182, 0, 144, 172, 42, 42]
abbrev dktX5_readsRow_4 : List UInt8 := dkwX5_readsRow_4 ++ dktX5_readsRow_5
def dkwX5_readsRow_3 : List UInt8 := [42, 180, 0, 131, 182, 0, 144, 172, 42, 182, 0, 137, 16, 48, 100, 61, 4, 16, 6, 27, 104, 28, 96, 120]
abbrev dktX5_readsRow_3 : List UInt8 := dkwX5_readsRow_3 ++ dktX5_readsRow_4
def dkwX5_readsRow_2 : List UInt8 := [180, 0, 131, 4, 96, 181, 0, 131, 42, 182, 0, 137, 16, 48, 16, 53, 184, 0, 112, 154, 0, 13, 42, 4]
abbrev dktX5_readsRow_2 : List UInt8 := dkwX5_readsRow_2 ++ dktX5_readsRow_3
def dkwX5_readsRow_1 : List UInt8 := [167, 0, 4, 2, 60, 27, 2, 160, 0, 13, 42, 4, 42, 180, 0, 131, 182, 0, 144, 172, 42, 42]
abbrev dktX5_readsRow_1 : List UInt8 := dkwX5_readsRow_1 ++ dktX5_readsRow_2
def dkwX5_readsRow_0 : List UInt8 := [42, 182, 0, 137, 16, 85, 160, 0, 7, 4, 167, 0, 17, 42, 182, 0, 137, 16, 76, 160, 0, 7, 3]
abbrev dktX5_readsRow_0 : List UInt8 := dkwX5_readsRow_0 ++ dktX5_readsRow_1
theorem dksX5_readsRow_0 : cX5_readsRow.data.toList.drop 0 = dktX5_readsRow_0 := by decide +kernel
theorem dksX5_readsRow_1 : cX5_readsRow.data.toList.drop 23 = dktX5_readsRow_1 := dk_seg dksX5_readsRow_0 23 rfl rfl
theorem dksX5_readsRow_2 : cX5_readsRow.data.toList.drop 45 = dktX5_readsRow_2 := dk_seg dksX5_readsRow_1 22 rfl rfl
theorem dksX5_readsRow_3 : cX5_readsRow.data.toList.drop 69 = dktX5_readsRow_3 := dk_seg dksX5_readsRow_2 24 rfl rfl
theorem dksX5_readsRow_4 : cX5_readsRow.data.toList.drop 93 = dktX5_readsRow_4 := dk_seg dksX5_readsRow_3 24 rfl rfl
theorem dksX5_readsRow_5 : cX5_readsRow.data.toList.drop 116 = dktX5_readsRow_5 := dk_seg dksX5_readsRow_4 23 rfl rfl
theorem dksX5_readsRow_6 : cX5_readsRow.data.toList.drop 140 = dktX5_readsRow_6 := dk_seg dksX5_readsRow_5 24 rfl rfl
theorem dksX5_readsRow_7 : cX5_readsRow.data.toList.drop 164 = dktX5_readsRow_7 := dk_seg dksX5_readsRow_6 24 rfl rfl
theorem dksX5_readsRow_8 : cX5_readsRow.data.toList.drop 187 = dktX5_readsRow_8 := dk_seg dksX5_readsRow_7 23 rfl rfl
theorem dksX5_readsRow_9 : cX5_readsRow.data.toList.drop 210 = dktX5_readsRow_9 := dk_seg dksX5_readsRow_8 23 rfl rfl
theorem dX5_readsRow_0 : decode cX5_readsRow 0 = .ok (.aload_n 0, 1) := dk_42 (dk_at dksX5_readsRow_0 0 rfl rfl)
theorem dX5_readsRow_1 : decode cX5_readsRow 1 = .ok (.invokevirtual 137, 3) := dk_182 0 137 (dk_at dksX5_readsRow_0 1 rfl rfl)
theorem dX5_readsRow_4 : decode cX5_readsRow 4 = .ok (.bipush 85, 2) := dk_16 85 (dk_at dksX5_readsRow_0 4 rfl rfl)
theorem dX5_readsRow_6 : decode cX5_readsRow 6 = .ok (.if_icmp .ne 7, 3) := dk_160 0 7 (dk_at dksX5_readsRow_0 6 rfl rfl)
theorem dX5_readsRow_9 : decode cX5_readsRow 9 = .ok (.iconst 1, 1) := dk_4 (dk_at dksX5_readsRow_0 9 rfl rfl)
theorem dX5_readsRow_10 : decode cX5_readsRow 10 = .ok (.goto 17, 3) := dk_167 0 17 (dk_at dksX5_readsRow_0 10 rfl rfl)
theorem dX5_readsRow_13 : decode cX5_readsRow 13 = .ok (.aload_n 0, 1) := dk_42 (dk_at dksX5_readsRow_0 13 rfl rfl)
theorem dX5_readsRow_14 : decode cX5_readsRow 14 = .ok (.invokevirtual 137, 3) := dk_182 0 137 (dk_at dksX5_readsRow_0 14 rfl rfl)
theorem dX5_readsRow_17 : decode cX5_readsRow 17 = .ok (.bipush 76, 2) := dk_16 76 (dk_at dksX5_readsRow_0 17 rfl rfl)
theorem dX5_readsRow_19 : decode cX5_readsRow 19 = .ok (.if_icmp .ne 7, 3) := dk_160 0 7 (dk_at dksX5_readsRow_0 19 rfl rfl)
theorem dX5_readsRow_22 : decode cX5_readsRow 22 = .ok (.iconst 0, 1) := dk_3 (dk_at dksX5_readsRow_0 22 rfl rfl)
theorem dX5_readsRow_23 : decode cX5_readsRow 23 = .ok (.goto 4, 3) := dk_167 0 4 (dk_at dksX5_readsRow_1 0 rfl rfl)
theorem dX5_readsRow_26 : decode cX5_readsRow 26 = .ok (.iconst (-1), 1) := dk_2 (dk_at dksX5_readsRow_1 3 rfl rfl)
theorem dX5_readsRow_27 : decode cX5_readsRow 27 = .ok (.istore_n 1, 1) := dk_60 (dk_at dksX5_readsRow_1 4 rfl rfl)
theorem dX5_readsRow_28 : decode cX5_readsRow 28 = .ok (.iload_n 1, 1) := dk_27 (dk_at dksX5_readsRow_1 5 rfl rfl)
theorem dX5_readsRow_29 : decode cX5_readsRow 29 = .ok (.iconst (-1), 1) := dk_2 (dk_at dksX5_readsRow_1 6 rfl rfl)
theorem dX5_readsRow_30 : decode cX5_readsRow 30 = .ok (.if_icmp .ne 13, 3) := dk_160 0 13 (dk_at dksX5_readsRow_1 7 rfl rfl)
theorem dX5_readsRow_33 : decode cX5_readsRow 33 = .ok (.aload_n 0, 1) := dk_42 (dk_at dksX5_readsRow_1 10 rfl rfl)
theorem dX5_readsRow_34 : decode cX5_readsRow 34 = .ok (.iconst 1, 1) := dk_4 (dk_at dksX5_readsRow_1 11 rfl rfl)
theorem dX5_readsRow_35 : decode cX5_readsRow 35 = .ok (.aload_n 0, 1) := dk_42 (dk_at dksX5_readsRow_1 12 rfl rfl)
theorem dX5_readsRow_36 : decode cX5_readsRow 36 = .ok (.getfield 131, 3) := dk_180 0 131 (dk_at dksX5_readsRow_1 13 rfl rfl)
theorem dX5_readsRow_39 : decode cX5_readsRow 39 = .ok (.invokevirtual 144, 3) := dk_182 0 144 (dk_at dksX5_readsRow_1 16 rfl rfl)
theorem dX5_readsRow_42 : decode cX5_readsRow 42 = .ok (.ireturn, 1) := dk_172 (dk_at dksX5_readsRow_1 19 rfl rfl)
theorem dX5_readsRow_43 : decode cX5_readsRow 43 = .ok (.aload_n 0, 1) := dk_42 (dk_at dksX5_readsRow_1 20 rfl rfl)
theorem dX5_readsRow_44 : decode cX5_readsRow 44 = .ok (.aload_n 0, 1) := dk_42 (dk_at dksX5_readsRow_1 21 rfl rfl)
theorem dX5_readsRow_45 : decode cX5_readsRow 45 = .ok (.getfield 131, 3) := dk_180 0 131 (dk_at dksX5_readsRow_2 0 rfl rfl)
theorem dX5_readsRow_48 : decode cX5_readsRow 48 = .ok (.iconst 1, 1) := dk_4 (dk_at dksX5_readsRow_2 3 rfl rfl)
theorem dX5_readsRow_49 : decode cX5_readsRow 49 = .ok (.iadd, 1) := dk_96 (dk_at dksX5_readsRow_2 4 rfl rfl)
theorem dX5_readsRow_50 : decode cX5_readsRow 50 = .ok (.putfield 131, 3) := dk_181 0 131 (dk_at dksX5_readsRow_2 5 rfl rfl)
theorem dX5_readsRow_53 : decode cX5_readsRow 53 = .ok (.aload_n 0, 1) := dk_42 (dk_at dksX5_readsRow_2 8 rfl rfl)
theorem dX5_readsRow_54 : decode cX5_readsRow 54 = .ok (.invokevirtual 137, 3) := dk_182 0 137 (dk_at dksX5_readsRow_2 9 rfl rfl)
theorem dX5_readsRow_57 : decode cX5_readsRow 57 = .ok (.bipush 48, 2) := dk_16 48 (dk_at dksX5_readsRow_2 12 rfl rfl)
theorem dX5_readsRow_59 : decode cX5_readsRow 59 = .ok (.bipush 53, 2) := dk_16 53 (dk_at dksX5_readsRow_2 14 rfl rfl)
theorem dX5_readsRow_61 : decode cX5_readsRow 61 = .ok (.invokestatic 112, 3) := dk_184 0 112 (dk_at dksX5_readsRow_2 16 rfl rfl)
theorem dX5_readsRow_64 : decode cX5_readsRow 64 = .ok (.ifCond .ne 13, 3) := dk_154 0 13 (dk_at dksX5_readsRow_2 19 rfl rfl)
theorem dX5_readsRow_67 : decode cX5_readsRow 67 = .ok (.aload_n 0, 1) := dk_42 (dk_at dksX5_readsRow_2 22 rfl rfl)
theorem dX5_readsRow_68 : decode cX5_readsRow 68 = .ok (.iconst 1, 1) := dk_4 (dk_at dksX5_readsRow_2 23 rfl rfl)
theorem dX5_readsRow_69 : decode cX5_readsRow 69 = .ok (.aload_n 0, 1) := dk_42 (dk_at dksX5_readsRow_3 0 rfl rfl)
theorem dX5_readsRow_70 : decode cX5_readsRow 70 = .ok (.getfield 131, 3) := dk_180 0 131 (dk_at dksX5_readsRow_3 1 rfl rfl)
theorem dX5_readsRow_73 : decode cX5_readsRow 73 = .ok (.invokevirtual 144, 3) := dk_182 0 144 (dk_at dksX5_readsRow_3 4 rfl rfl)
theorem dX5_readsRow_76 : decode cX5_readsRow 76 = .ok (.ireturn, 1) := dk_172 (dk_at dksX5_readsRow_3 7 rfl rfl)
theorem dX5_readsRow_77 : decode cX5_readsRow 77 = .ok (.aload_n 0, 1) := dk_42 (dk_at dksX5_readsRow_3 8 rfl rfl)
theorem dX5_readsRow_78 : decode cX5_readsRow 78 = .ok (.invokevirtual 137, 3) := dk_182 0 137 (dk_at dksX5_readsRow_3 9 rfl rfl)
theorem dX5_readsRow_81 : decode cX5_readsRow 81 = .ok (.bipush 48, 2) := dk_16 48 (dk_at dksX5_readsRow_3 12 rfl rfl)
theorem dX5_readsRow_83 : decode cX5_readsRow 83 = .ok (.isub, 1) := dk_100 (dk_at dksX5_readsRow_3 14 rfl rfl)
theorem dX5_readsRow_84 : decode cX5_readsRow 84 = .ok (.istore_n 2, 1) := dk_61 (dk_at dksX5_readsRow_3 15 rfl rfl)
theorem dX5_readsRow_85 : decode cX5_readsRow 85 = .ok (.iconst 1, 1) := dk_4 (dk_at dksX5_readsRow_3 16 rfl rfl)
theorem dX5_readsRow_86 : decode cX5_readsRow 86 = .ok (.bipush 6, 2) := dk_16 6 (dk_at dksX5_readsRow_3 17 rfl rfl)
theorem dX5_readsRow_88 : decode cX5_readsRow 88 = .ok (.iload_n 1, 1) := dk_27 (dk_at dksX5_readsRow_3 19 rfl rfl)
theorem dX5_readsRow_89 : decode cX5_readsRow 89 = .ok (.imul, 1) := dk_104 (dk_at dksX5_readsRow_3 20 rfl rfl)
theorem dX5_readsRow_90 : decode cX5_readsRow 90 = .ok (.iload_n 2, 1) := dk_28 (dk_at dksX5_readsRow_3 21 rfl rfl)
theorem dX5_readsRow_91 : decode cX5_readsRow 91 = .ok (.iadd, 1) := dk_96 (dk_at dksX5_readsRow_3 22 rfl rfl)
theorem dX5_readsRow_92 : decode cX5_readsRow 92 = .ok (.ishl, 1) := dk_120 (dk_at dksX5_readsRow_3 23 rfl rfl)
theorem dX5_readsRow_93 : decode cX5_readsRow 93 = .ok (.istore_n 3, 1) := dk_62 (dk_at dksX5_readsRow_4 0 rfl rfl)
theorem dX5_readsRow_94 : decode cX5_readsRow 94 = .ok (.aload_n 0, 1) := dk_42 (dk_at dksX5_readsRow_4 1 rfl rfl)
theorem dX5_readsRow_95 : decode cX5_readsRow 95 = .ok (.getfield 251, 3) := dk_180 0 251 (dk_at dksX5_readsRow_4 2 rfl rfl)
theorem dX5_readsRow_98 : decode cX5_readsRow 98 = .ok (.iload_n 3, 1) := dk_29 (dk_at dksX5_readsRow_4 5 rfl rfl)
theorem dX5_readsRow_99 : decode cX5_readsRow 99 = .ok (.iand, 1) := dk_126 (dk_at dksX5_readsRow_4 6 rfl rfl)
theorem dX5_readsRow_100 : decode cX5_readsRow 100 = .ok (.ifCond .eq 14, 3) := dk_153 0 14 (dk_at dksX5_readsRow_4 7 rfl rfl)
theorem dX5_readsRow_103 : decode cX5_readsRow 103 = .ok (.aload_n 0, 1) := dk_42 (dk_at dksX5_readsRow_4 10 rfl rfl)
theorem dX5_readsRow_104 : decode cX5_readsRow 104 = .ok (.bipush 6, 2) := dk_16 6 (dk_at dksX5_readsRow_4 11 rfl rfl)
theorem dX5_readsRow_106 : decode cX5_readsRow 106 = .ok (.aload_n 0, 1) := dk_42 (dk_at dksX5_readsRow_4 13 rfl rfl)
theorem dX5_readsRow_107 : decode cX5_readsRow 107 = .ok (.getfield 131, 3) := dk_180 0 131 (dk_at dksX5_readsRow_4 14 rfl rfl)
theorem dX5_readsRow_110 : decode cX5_readsRow 110 = .ok (.invokevirtual 144, 3) := dk_182 0 144 (dk_at dksX5_readsRow_4 17 rfl rfl)
theorem dX5_readsRow_113 : decode cX5_readsRow 113 = .ok (.ireturn, 1) := dk_172 (dk_at dksX5_readsRow_4 20 rfl rfl)
theorem dX5_readsRow_114 : decode cX5_readsRow 114 = .ok (.aload_n 0, 1) := dk_42 (dk_at dksX5_readsRow_4 21 rfl rfl)
theorem dX5_readsRow_115 : decode cX5_readsRow 115 = .ok (.aload_n 0, 1) := dk_42 (dk_at dksX5_readsRow_4 22 rfl rfl)
theorem dX5_readsRow_116 : decode cX5_readsRow 116 = .ok (.getfield 251, 3) := dk_180 0 251 (dk_at dksX5_readsRow_5 0 rfl rfl)
theorem dX5_readsRow_119 : decode cX5_readsRow 119 = .ok (.iload_n 3, 1) := dk_29 (dk_at dksX5_readsRow_5 3 rfl rfl)
theorem dX5_readsRow_120 : decode cX5_readsRow 120 = .ok (.ior, 1) := dk_128 (dk_at dksX5_readsRow_5 4 rfl rfl)
theorem dX5_readsRow_121 : decode cX5_readsRow 121 = .ok (.putfield 251, 3) := dk_181 0 251 (dk_at dksX5_readsRow_5 5 rfl rfl)
theorem dX5_readsRow_124 : decode cX5_readsRow 124 = .ok (.aload_n 0, 1) := dk_42 (dk_at dksX5_readsRow_5 8 rfl rfl)
theorem dX5_readsRow_125 : decode cX5_readsRow 125 = .ok (.aload_n 0, 1) := dk_42 (dk_at dksX5_readsRow_5 9 rfl rfl)
theorem dX5_readsRow_126 : decode cX5_readsRow 126 = .ok (.getfield 131, 3) := dk_180 0 131 (dk_at dksX5_readsRow_5 10 rfl rfl)
theorem dX5_readsRow_129 : decode cX5_readsRow 129 = .ok (.iconst 1, 1) := dk_4 (dk_at dksX5_readsRow_5 13 rfl rfl)
theorem dX5_readsRow_130 : decode cX5_readsRow 130 = .ok (.iadd, 1) := dk_96 (dk_at dksX5_readsRow_5 14 rfl rfl)
theorem dX5_readsRow_131 : decode cX5_readsRow 131 = .ok (.putfield 131, 3) := dk_181 0 131 (dk_at dksX5_readsRow_5 15 rfl rfl)
theorem dX5_readsRow_134 : decode cX5_readsRow 134 = .ok (.aload_n 0, 1) := dk_42 (dk_at dksX5_readsRow_5 18 rfl rfl)
theorem dX5_readsRow_135 : decode cX5_readsRow 135 = .ok (.bipush 61, 2) := dk_16 61 (dk_at dksX5_readsRow_5 19 rfl rfl)
theorem dX5_readsRow_137 : decode cX5_readsRow 137 = .ok (.invokevirtual 222, 3) := dk_182 0 222 (dk_at dksX5_readsRow_5 21 rfl rfl)
theorem dX5_readsRow_140 : decode cX5_readsRow 140 = .ok (.ifCond .ne 5, 3) := dk_154 0 5 (dk_at dksX5_readsRow_6 0 rfl rfl)
theorem dX5_readsRow_143 : decode cX5_readsRow 143 = .ok (.iconst 0, 1) := dk_3 (dk_at dksX5_readsRow_6 3 rfl rfl)
theorem dX5_readsRow_144 : decode cX5_readsRow 144 = .ok (.ireturn, 1) := dk_172 (dk_at dksX5_readsRow_6 4 rfl rfl)
theorem dX5_readsRow_145 : decode cX5_readsRow 145 = .ok (.aload_n 0, 1) := dk_42 (dk_at dksX5_readsRow_6 5 rfl rfl)
theorem dX5_readsRow_146 : decode cX5_readsRow 146 = .ok (.iconst 0, 1) := dk_3 (dk_at dksX5_readsRow_6 6 rfl rfl)
theorem dX5_readsRow_147 : decode cX5_readsRow 147 = .ok (.putfield 248, 3) := dk_181 0 248 (dk_at dksX5_readsRow_6 7 rfl rfl)
theorem dX5_readsRow_150 : decode cX5_readsRow 150 = .ok (.bipush 48, 2) := dk_16 48 (dk_at dksX5_readsRow_6 10 rfl rfl)
theorem dX5_readsRow_152 : decode cX5_readsRow 152 = .ok (.iload_n 1, 1) := dk_27 (dk_at dksX5_readsRow_6 12 rfl rfl)
theorem dX5_readsRow_153 : decode cX5_readsRow 153 = .ok (.imul, 1) := dk_104 (dk_at dksX5_readsRow_6 13 rfl rfl)
theorem dX5_readsRow_154 : decode cX5_readsRow 154 = .ok (.bipush 8, 2) := dk_16 8 (dk_at dksX5_readsRow_6 14 rfl rfl)
theorem dX5_readsRow_156 : decode cX5_readsRow 156 = .ok (.iload_n 2, 1) := dk_28 (dk_at dksX5_readsRow_6 16 rfl rfl)
theorem dX5_readsRow_157 : decode cX5_readsRow 157 = .ok (.imul, 1) := dk_104 (dk_at dksX5_readsRow_6 17 rfl rfl)
theorem dX5_readsRow_158 : decode cX5_readsRow 158 = .ok (.iadd, 1) := dk_96 (dk_at dksX5_readsRow_6 18 rfl rfl)
theorem dX5_readsRow_159 : decode cX5_readsRow 159 = .ok (.istore 4, 2) := dk_54 4 (dk_at dksX5_readsRow_6 19 rfl rfl)
theorem dX5_readsRow_161 : decode cX5_readsRow 161 = .ok (.aload_n 0, 1) := dk_42 (dk_at dksX5_readsRow_6 21 rfl rfl)
theorem dX5_readsRow_162 : decode cX5_readsRow 162 = .ok (.iload 4, 2) := dk_21 4 (dk_at dksX5_readsRow_6 22 rfl rfl)
theorem dX5_readsRow_164 : decode cX5_readsRow 164 = .ok (.invokevirtual 254, 3) := dk_182 0 254 (dk_at dksX5_readsRow_7 0 rfl rfl)
theorem dX5_readsRow_167 : decode cX5_readsRow 167 = .ok (.ifCond .ne 5, 3) := dk_154 0 5 (dk_at dksX5_readsRow_7 3 rfl rfl)
theorem dX5_readsRow_170 : decode cX5_readsRow 170 = .ok (.iconst 0, 1) := dk_3 (dk_at dksX5_readsRow_7 6 rfl rfl)
theorem dX5_readsRow_171 : decode cX5_readsRow 171 = .ok (.ireturn, 1) := dk_172 (dk_at dksX5_readsRow_7 7 rfl rfl)
theorem dX5_readsRow_172 : decode cX5_readsRow 172 = .ok (.aload_n 0, 1) := dk_42 (dk_at dksX5_readsRow_7 8 rfl rfl)
theorem dX5_readsRow_173 : decode cX5_readsRow 173 = .ok (.getfield 131, 3) := dk_180 0 131 (dk_at dksX5_readsRow_7 9 rfl rfl)
theorem dX5_readsRow_176 : decode cX5_readsRow 176 = .ok (.aload_n 0, 1) := dk_42 (dk_at dksX5_readsRow_7 12 rfl rfl)
theorem dX5_readsRow_177 : decode cX5_readsRow 177 = .ok (.getfield 134, 3) := dk_180 0 134 (dk_at dksX5_readsRow_7 13 rfl rfl)
theorem dX5_readsRow_180 : decode cX5_readsRow 180 = .ok (.if_icmp .ge 23, 3) := dk_162 0 23 (dk_at dksX5_readsRow_7 16 rfl rfl)
theorem dX5_readsRow_183 : decode cX5_readsRow 183 = .ok (.aload_n 0, 1) := dk_42 (dk_at dksX5_readsRow_7 19 rfl rfl)
theorem dX5_readsRow_184 : decode cX5_readsRow 184 = .ok (.invokevirtual 137, 3) := dk_182 0 137 (dk_at dksX5_readsRow_7 20 rfl rfl)
theorem dX5_readsRow_187 : decode cX5_readsRow 187 = .ok (.bipush 59, 2) := dk_16 59 (dk_at dksX5_readsRow_8 0 rfl rfl)
theorem dX5_readsRow_189 : decode cX5_readsRow 189 = .ok (.if_icmp .eq 14, 3) := dk_159 0 14 (dk_at dksX5_readsRow_8 2 rfl rfl)
theorem dX5_readsRow_192 : decode cX5_readsRow 192 = .ok (.aload_n 0, 1) := dk_42 (dk_at dksX5_readsRow_8 5 rfl rfl)
theorem dX5_readsRow_193 : decode cX5_readsRow 193 = .ok (.iload 4, 2) := dk_21 4 (dk_at dksX5_readsRow_8 6 rfl rfl)
theorem dX5_readsRow_195 : decode cX5_readsRow 195 = .ok (.invokevirtual 254, 3) := dk_182 0 254 (dk_at dksX5_readsRow_8 8 rfl rfl)
theorem dX5_readsRow_198 : decode cX5_readsRow 198 = .ok (.ifCond .ne (-26), 3) := dk_154 255 230 (dk_at dksX5_readsRow_8 11 rfl rfl)
theorem dX5_readsRow_201 : decode cX5_readsRow 201 = .ok (.iconst 0, 1) := dk_3 (dk_at dksX5_readsRow_8 14 rfl rfl)
theorem dX5_readsRow_202 : decode cX5_readsRow 202 = .ok (.ireturn, 1) := dk_172 (dk_at dksX5_readsRow_8 15 rfl rfl)
theorem dX5_readsRow_203 : decode cX5_readsRow 203 = .ok (.aload_n 0, 1) := dk_42 (dk_at dksX5_readsRow_8 16 rfl rfl)
theorem dX5_readsRow_204 : decode cX5_readsRow 204 = .ok (.aload_n 0, 1) := dk_42 (dk_at dksX5_readsRow_8 17 rfl rfl)
theorem dX5_readsRow_205 : decode cX5_readsRow 205 = .ok (.getfield 257, 3) := dk_180 1 1 (dk_at dksX5_readsRow_8 18 rfl rfl)
theorem dX5_readsRow_208 : decode cX5_readsRow 208 = .ok (.iconst 1, 1) := dk_4 (dk_at dksX5_readsRow_8 21 rfl rfl)
theorem dX5_readsRow_209 : decode cX5_readsRow 209 = .ok (.iadd, 1) := dk_96 (dk_at dksX5_readsRow_8 22 rfl rfl)
theorem dX5_readsRow_210 : decode cX5_readsRow 210 = .ok (.putfield 257, 3) := dk_181 1 1 (dk_at dksX5_readsRow_9 0 rfl rfl)
theorem dX5_readsRow_213 : decode cX5_readsRow 213 = .ok (.iconst 1, 1) := dk_4 (dk_at dksX5_readsRow_9 3 rfl rfl)
theorem dX5_readsRow_214 : decode cX5_readsRow 214 = .ok (.ireturn, 1) := dk_172 (dk_at dksX5_readsRow_9 4 rfl rfl)
abbrev cX5_readsHeights : ByteArray := prog_19_method_44_code
def yX5_readsHeights : MethodName := ⟨RX5, "readsHeights", "(I)Z"⟩
def dkwX5_readsHeights_6 : List UInt8 := [132, 4, 1, 167, 255, 222, 4, 172]
abbrev dktX5_readsHeights_6 : List UInt8 := dkwX5_readsHeights_6 ++ []
def dkwX5_readsHeights_5 : List UInt8 := [42, 180, 0, 63, 27, 42, 180, 0, 248, 96, 29, 79, 42, 42, 180, 0, 248, 4, 96, 181, 0, 248]
abbrev dktX5_readsHeights_5 : List UInt8 := dkwX5_readsHeights_5 ++ dktX5_readsHeights_6
def dkwX5_readsHeights_4 : List UInt8 := [16, 8, 164, 0, 10, 42, 7, 28, 182, 0, 144, 172, 3, 54, 4, 21, 4, 42, 180, 0, 245, 162, 0, 31]
abbrev dktX5_readsHeights_4 : List UInt8 := dkwX5_readsHeights_4 ++ dktX5_readsHeights_5
def dkwX5_readsHeights_3 : List UInt8 := [182, 0, 144, 172, 42, 42, 180, 0, 131, 4, 96, 181, 0, 131, 42, 180, 0, 248, 42, 180, 0, 245, 96]
abbrev dktX5_readsHeights_3 : List UInt8 := dkwX5_readsHeights_3 ++ dktX5_readsHeights_4
def dkwX5_readsHeights_2 : List UInt8 := [182, 0, 137, 16, 97, 100, 62, 29, 3, 16, 25, 184, 0, 112, 154, 0, 13, 42, 4, 42, 180, 0, 131]
abbrev dktX5_readsHeights_2 : List UInt8 := dkwX5_readsHeights_2 ++ dktX5_readsHeights_3
def dkwX5_readsHeights_1 : List UInt8 := [42, 42, 182, 0, 137, 16, 48, 100, 181, 0, 245, 42, 42, 180, 0, 131, 4, 96, 181, 0, 131, 42]
abbrev dktX5_readsHeights_1 : List UInt8 := dkwX5_readsHeights_1 ++ dktX5_readsHeights_2
def dkwX5_readsHeights_0 : List UInt8 := [42, 180, 0, 131, 61, 42, 4, 181, 0, 245, 42, 182, 0, 137, 16, 50, 16, 56, 184, 0, 112, 153, 0, 24]
abbrev dktX5_readsHeights_0 : List UInt8 := dkwX5_readsHeights_0 ++ dktX5_readsHeights_1
theorem dksX5_readsHeights_0 : cX5_readsHeights.data.toList.drop 0 = dktX5_readsHeights_0 := by decide +kernel
theorem dksX5_readsHeights_1 : cX5_readsHeights.data.toList.drop 24 = dktX5_readsHeights_1 := dk_seg dksX5_readsHeights_0 24 rfl rfl
theorem dksX5_readsHeights_2 : cX5_readsHeights.data.toList.drop 46 = dktX5_readsHeights_2 := dk_seg dksX5_readsHeights_1 22 rfl rfl
theorem dksX5_readsHeights_3 : cX5_readsHeights.data.toList.drop 69 = dktX5_readsHeights_3 := dk_seg dksX5_readsHeights_2 23 rfl rfl
theorem dksX5_readsHeights_4 : cX5_readsHeights.data.toList.drop 92 = dktX5_readsHeights_4 := dk_seg dksX5_readsHeights_3 23 rfl rfl
theorem dksX5_readsHeights_5 : cX5_readsHeights.data.toList.drop 116 = dktX5_readsHeights_5 := dk_seg dksX5_readsHeights_4 24 rfl rfl
theorem dksX5_readsHeights_6 : cX5_readsHeights.data.toList.drop 138 = dktX5_readsHeights_6 := dk_seg dksX5_readsHeights_5 22 rfl rfl
theorem dX5_readsHeights_0 : decode cX5_readsHeights 0 = .ok (.aload_n 0, 1) := dk_42 (dk_at dksX5_readsHeights_0 0 rfl rfl)
theorem dX5_readsHeights_1 : decode cX5_readsHeights 1 = .ok (.getfield 131, 3) := dk_180 0 131 (dk_at dksX5_readsHeights_0 1 rfl rfl)
theorem dX5_readsHeights_4 : decode cX5_readsHeights 4 = .ok (.istore_n 2, 1) := dk_61 (dk_at dksX5_readsHeights_0 4 rfl rfl)
theorem dX5_readsHeights_5 : decode cX5_readsHeights 5 = .ok (.aload_n 0, 1) := dk_42 (dk_at dksX5_readsHeights_0 5 rfl rfl)
theorem dX5_readsHeights_6 : decode cX5_readsHeights 6 = .ok (.iconst 1, 1) := dk_4 (dk_at dksX5_readsHeights_0 6 rfl rfl)
theorem dX5_readsHeights_7 : decode cX5_readsHeights 7 = .ok (.putfield 245, 3) := dk_181 0 245 (dk_at dksX5_readsHeights_0 7 rfl rfl)
theorem dX5_readsHeights_10 : decode cX5_readsHeights 10 = .ok (.aload_n 0, 1) := dk_42 (dk_at dksX5_readsHeights_0 10 rfl rfl)
theorem dX5_readsHeights_11 : decode cX5_readsHeights 11 = .ok (.invokevirtual 137, 3) := dk_182 0 137 (dk_at dksX5_readsHeights_0 11 rfl rfl)
theorem dX5_readsHeights_14 : decode cX5_readsHeights 14 = .ok (.bipush 50, 2) := dk_16 50 (dk_at dksX5_readsHeights_0 14 rfl rfl)
theorem dX5_readsHeights_16 : decode cX5_readsHeights 16 = .ok (.bipush 56, 2) := dk_16 56 (dk_at dksX5_readsHeights_0 16 rfl rfl)
theorem dX5_readsHeights_18 : decode cX5_readsHeights 18 = .ok (.invokestatic 112, 3) := dk_184 0 112 (dk_at dksX5_readsHeights_0 18 rfl rfl)
theorem dX5_readsHeights_21 : decode cX5_readsHeights 21 = .ok (.ifCond .eq 24, 3) := dk_153 0 24 (dk_at dksX5_readsHeights_0 21 rfl rfl)
theorem dX5_readsHeights_24 : decode cX5_readsHeights 24 = .ok (.aload_n 0, 1) := dk_42 (dk_at dksX5_readsHeights_1 0 rfl rfl)
theorem dX5_readsHeights_25 : decode cX5_readsHeights 25 = .ok (.aload_n 0, 1) := dk_42 (dk_at dksX5_readsHeights_1 1 rfl rfl)
theorem dX5_readsHeights_26 : decode cX5_readsHeights 26 = .ok (.invokevirtual 137, 3) := dk_182 0 137 (dk_at dksX5_readsHeights_1 2 rfl rfl)
theorem dX5_readsHeights_29 : decode cX5_readsHeights 29 = .ok (.bipush 48, 2) := dk_16 48 (dk_at dksX5_readsHeights_1 5 rfl rfl)
theorem dX5_readsHeights_31 : decode cX5_readsHeights 31 = .ok (.isub, 1) := dk_100 (dk_at dksX5_readsHeights_1 7 rfl rfl)
theorem dX5_readsHeights_32 : decode cX5_readsHeights 32 = .ok (.putfield 245, 3) := dk_181 0 245 (dk_at dksX5_readsHeights_1 8 rfl rfl)
theorem dX5_readsHeights_35 : decode cX5_readsHeights 35 = .ok (.aload_n 0, 1) := dk_42 (dk_at dksX5_readsHeights_1 11 rfl rfl)
theorem dX5_readsHeights_36 : decode cX5_readsHeights 36 = .ok (.aload_n 0, 1) := dk_42 (dk_at dksX5_readsHeights_1 12 rfl rfl)
theorem dX5_readsHeights_37 : decode cX5_readsHeights 37 = .ok (.getfield 131, 3) := dk_180 0 131 (dk_at dksX5_readsHeights_1 13 rfl rfl)
theorem dX5_readsHeights_40 : decode cX5_readsHeights 40 = .ok (.iconst 1, 1) := dk_4 (dk_at dksX5_readsHeights_1 16 rfl rfl)
theorem dX5_readsHeights_41 : decode cX5_readsHeights 41 = .ok (.iadd, 1) := dk_96 (dk_at dksX5_readsHeights_1 17 rfl rfl)
theorem dX5_readsHeights_42 : decode cX5_readsHeights 42 = .ok (.putfield 131, 3) := dk_181 0 131 (dk_at dksX5_readsHeights_1 18 rfl rfl)
theorem dX5_readsHeights_45 : decode cX5_readsHeights 45 = .ok (.aload_n 0, 1) := dk_42 (dk_at dksX5_readsHeights_1 21 rfl rfl)
theorem dX5_readsHeights_46 : decode cX5_readsHeights 46 = .ok (.invokevirtual 137, 3) := dk_182 0 137 (dk_at dksX5_readsHeights_2 0 rfl rfl)
theorem dX5_readsHeights_49 : decode cX5_readsHeights 49 = .ok (.bipush 97, 2) := dk_16 97 (dk_at dksX5_readsHeights_2 3 rfl rfl)
theorem dX5_readsHeights_51 : decode cX5_readsHeights 51 = .ok (.isub, 1) := dk_100 (dk_at dksX5_readsHeights_2 5 rfl rfl)
theorem dX5_readsHeights_52 : decode cX5_readsHeights 52 = .ok (.istore_n 3, 1) := dk_62 (dk_at dksX5_readsHeights_2 6 rfl rfl)
theorem dX5_readsHeights_53 : decode cX5_readsHeights 53 = .ok (.iload_n 3, 1) := dk_29 (dk_at dksX5_readsHeights_2 7 rfl rfl)
theorem dX5_readsHeights_54 : decode cX5_readsHeights 54 = .ok (.iconst 0, 1) := dk_3 (dk_at dksX5_readsHeights_2 8 rfl rfl)
theorem dX5_readsHeights_55 : decode cX5_readsHeights 55 = .ok (.bipush 25, 2) := dk_16 25 (dk_at dksX5_readsHeights_2 9 rfl rfl)
theorem dX5_readsHeights_57 : decode cX5_readsHeights 57 = .ok (.invokestatic 112, 3) := dk_184 0 112 (dk_at dksX5_readsHeights_2 11 rfl rfl)
theorem dX5_readsHeights_60 : decode cX5_readsHeights 60 = .ok (.ifCond .ne 13, 3) := dk_154 0 13 (dk_at dksX5_readsHeights_2 14 rfl rfl)
theorem dX5_readsHeights_63 : decode cX5_readsHeights 63 = .ok (.aload_n 0, 1) := dk_42 (dk_at dksX5_readsHeights_2 17 rfl rfl)
theorem dX5_readsHeights_64 : decode cX5_readsHeights 64 = .ok (.iconst 1, 1) := dk_4 (dk_at dksX5_readsHeights_2 18 rfl rfl)
theorem dX5_readsHeights_65 : decode cX5_readsHeights 65 = .ok (.aload_n 0, 1) := dk_42 (dk_at dksX5_readsHeights_2 19 rfl rfl)
theorem dX5_readsHeights_66 : decode cX5_readsHeights 66 = .ok (.getfield 131, 3) := dk_180 0 131 (dk_at dksX5_readsHeights_2 20 rfl rfl)
theorem dX5_readsHeights_69 : decode cX5_readsHeights 69 = .ok (.invokevirtual 144, 3) := dk_182 0 144 (dk_at dksX5_readsHeights_3 0 rfl rfl)
theorem dX5_readsHeights_72 : decode cX5_readsHeights 72 = .ok (.ireturn, 1) := dk_172 (dk_at dksX5_readsHeights_3 3 rfl rfl)
theorem dX5_readsHeights_73 : decode cX5_readsHeights 73 = .ok (.aload_n 0, 1) := dk_42 (dk_at dksX5_readsHeights_3 4 rfl rfl)
theorem dX5_readsHeights_74 : decode cX5_readsHeights 74 = .ok (.aload_n 0, 1) := dk_42 (dk_at dksX5_readsHeights_3 5 rfl rfl)
theorem dX5_readsHeights_75 : decode cX5_readsHeights 75 = .ok (.getfield 131, 3) := dk_180 0 131 (dk_at dksX5_readsHeights_3 6 rfl rfl)
theorem dX5_readsHeights_78 : decode cX5_readsHeights 78 = .ok (.iconst 1, 1) := dk_4 (dk_at dksX5_readsHeights_3 9 rfl rfl)
theorem dX5_readsHeights_79 : decode cX5_readsHeights 79 = .ok (.iadd, 1) := dk_96 (dk_at dksX5_readsHeights_3 10 rfl rfl)
theorem dX5_readsHeights_80 : decode cX5_readsHeights 80 = .ok (.putfield 131, 3) := dk_181 0 131 (dk_at dksX5_readsHeights_3 11 rfl rfl)
theorem dX5_readsHeights_83 : decode cX5_readsHeights 83 = .ok (.aload_n 0, 1) := dk_42 (dk_at dksX5_readsHeights_3 14 rfl rfl)
theorem dX5_readsHeights_84 : decode cX5_readsHeights 84 = .ok (.getfield 248, 3) := dk_180 0 248 (dk_at dksX5_readsHeights_3 15 rfl rfl)
theorem dX5_readsHeights_87 : decode cX5_readsHeights 87 = .ok (.aload_n 0, 1) := dk_42 (dk_at dksX5_readsHeights_3 18 rfl rfl)
theorem dX5_readsHeights_88 : decode cX5_readsHeights 88 = .ok (.getfield 245, 3) := dk_180 0 245 (dk_at dksX5_readsHeights_3 19 rfl rfl)
theorem dX5_readsHeights_91 : decode cX5_readsHeights 91 = .ok (.iadd, 1) := dk_96 (dk_at dksX5_readsHeights_3 22 rfl rfl)
theorem dX5_readsHeights_92 : decode cX5_readsHeights 92 = .ok (.bipush 8, 2) := dk_16 8 (dk_at dksX5_readsHeights_4 0 rfl rfl)
theorem dX5_readsHeights_94 : decode cX5_readsHeights 94 = .ok (.if_icmp .le 10, 3) := dk_164 0 10 (dk_at dksX5_readsHeights_4 2 rfl rfl)
theorem dX5_readsHeights_97 : decode cX5_readsHeights 97 = .ok (.aload_n 0, 1) := dk_42 (dk_at dksX5_readsHeights_4 5 rfl rfl)
theorem dX5_readsHeights_98 : decode cX5_readsHeights 98 = .ok (.iconst 4, 1) := dk_7 (dk_at dksX5_readsHeights_4 6 rfl rfl)
theorem dX5_readsHeights_99 : decode cX5_readsHeights 99 = .ok (.iload_n 2, 1) := dk_28 (dk_at dksX5_readsHeights_4 7 rfl rfl)
theorem dX5_readsHeights_100 : decode cX5_readsHeights 100 = .ok (.invokevirtual 144, 3) := dk_182 0 144 (dk_at dksX5_readsHeights_4 8 rfl rfl)
theorem dX5_readsHeights_103 : decode cX5_readsHeights 103 = .ok (.ireturn, 1) := dk_172 (dk_at dksX5_readsHeights_4 11 rfl rfl)
theorem dX5_readsHeights_104 : decode cX5_readsHeights 104 = .ok (.iconst 0, 1) := dk_3 (dk_at dksX5_readsHeights_4 12 rfl rfl)
theorem dX5_readsHeights_105 : decode cX5_readsHeights 105 = .ok (.istore 4, 2) := dk_54 4 (dk_at dksX5_readsHeights_4 13 rfl rfl)
theorem dX5_readsHeights_107 : decode cX5_readsHeights 107 = .ok (.iload 4, 2) := dk_21 4 (dk_at dksX5_readsHeights_4 15 rfl rfl)
theorem dX5_readsHeights_109 : decode cX5_readsHeights 109 = .ok (.aload_n 0, 1) := dk_42 (dk_at dksX5_readsHeights_4 17 rfl rfl)
theorem dX5_readsHeights_110 : decode cX5_readsHeights 110 = .ok (.getfield 245, 3) := dk_180 0 245 (dk_at dksX5_readsHeights_4 18 rfl rfl)
theorem dX5_readsHeights_113 : decode cX5_readsHeights 113 = .ok (.if_icmp .ge 31, 3) := dk_162 0 31 (dk_at dksX5_readsHeights_4 21 rfl rfl)
theorem dX5_readsHeights_116 : decode cX5_readsHeights 116 = .ok (.aload_n 0, 1) := dk_42 (dk_at dksX5_readsHeights_5 0 rfl rfl)
theorem dX5_readsHeights_117 : decode cX5_readsHeights 117 = .ok (.getfield 63, 3) := dk_180 0 63 (dk_at dksX5_readsHeights_5 1 rfl rfl)
theorem dX5_readsHeights_120 : decode cX5_readsHeights 120 = .ok (.iload_n 1, 1) := dk_27 (dk_at dksX5_readsHeights_5 4 rfl rfl)
theorem dX5_readsHeights_121 : decode cX5_readsHeights 121 = .ok (.aload_n 0, 1) := dk_42 (dk_at dksX5_readsHeights_5 5 rfl rfl)
theorem dX5_readsHeights_122 : decode cX5_readsHeights 122 = .ok (.getfield 248, 3) := dk_180 0 248 (dk_at dksX5_readsHeights_5 6 rfl rfl)
theorem dX5_readsHeights_125 : decode cX5_readsHeights 125 = .ok (.iadd, 1) := dk_96 (dk_at dksX5_readsHeights_5 9 rfl rfl)
theorem dX5_readsHeights_126 : decode cX5_readsHeights 126 = .ok (.iload_n 3, 1) := dk_29 (dk_at dksX5_readsHeights_5 10 rfl rfl)
theorem dX5_readsHeights_127 : decode cX5_readsHeights 127 = .ok (.iastore, 1) := dk_79 (dk_at dksX5_readsHeights_5 11 rfl rfl)
theorem dX5_readsHeights_128 : decode cX5_readsHeights 128 = .ok (.aload_n 0, 1) := dk_42 (dk_at dksX5_readsHeights_5 12 rfl rfl)
theorem dX5_readsHeights_129 : decode cX5_readsHeights 129 = .ok (.aload_n 0, 1) := dk_42 (dk_at dksX5_readsHeights_5 13 rfl rfl)
theorem dX5_readsHeights_130 : decode cX5_readsHeights 130 = .ok (.getfield 248, 3) := dk_180 0 248 (dk_at dksX5_readsHeights_5 14 rfl rfl)
theorem dX5_readsHeights_133 : decode cX5_readsHeights 133 = .ok (.iconst 1, 1) := dk_4 (dk_at dksX5_readsHeights_5 17 rfl rfl)
theorem dX5_readsHeights_134 : decode cX5_readsHeights 134 = .ok (.iadd, 1) := dk_96 (dk_at dksX5_readsHeights_5 18 rfl rfl)
theorem dX5_readsHeights_135 : decode cX5_readsHeights 135 = .ok (.putfield 248, 3) := dk_181 0 248 (dk_at dksX5_readsHeights_5 19 rfl rfl)
theorem dX5_readsHeights_138 : decode cX5_readsHeights 138 = .ok (.iinc 4 1, 3) := dk_132 4 1 (dk_at dksX5_readsHeights_6 0 rfl rfl)
theorem dX5_readsHeights_141 : decode cX5_readsHeights 141 = .ok (.goto (-34), 3) := dk_167 255 222 (dk_at dksX5_readsHeights_6 3 rfl rfl)
theorem dX5_readsHeights_144 : decode cX5_readsHeights 144 = .ok (.iconst 1, 1) := dk_4 (dk_at dksX5_readsHeights_6 6 rfl rfl)
theorem dX5_readsHeights_145 : decode cX5_readsHeights 145 = .ok (.ireturn, 1) := dk_172 (dk_at dksX5_readsHeights_6 7 rfl rfl)
abbrev cX5_tour : ByteArray := prog_19_method_52_code
def yX5_tour : MethodName := ⟨RX5, "tour", "(I)I"⟩
def dkwX5_tour_5 : List UInt8 := [180, 0, 66, 29, 42, 180, 0, 69, 29, 46, 79, 132, 3, 1, 167, 255, 233, 42, 180, 1, 28, 172]
abbrev dktX5_tour_5 : List UInt8 := dkwX5_tour_5 ++ []
def dkwX5_tour_4 : List UInt8 := [180, 0, 141, 172, 42, 42, 180, 1, 7, 181, 1, 28, 3, 62, 29, 42, 180, 1, 7, 162, 0, 21, 42]
abbrev dktX5_tour_4 : List UInt8 := dkwX5_tour_4 ++ dktX5_tour_5
def dkwX5_tour_3 : List UInt8 := [158, 0, 13, 42, 4, 42, 180, 0, 131, 182, 0, 144, 61, 42, 3, 181, 0, 124, 28, 154, 0, 8, 42]
abbrev dktX5_tour_3 : List UInt8 := dkwX5_tour_3 ++ dktX5_tour_4
def dkwX5_tour_2 : List UInt8 := [180, 0, 134, 162, 0, 11, 42, 182, 1, 25, 61, 167, 255, 236, 28, 153, 0, 20, 42, 180, 1, 10]
abbrev dktX5_tour_2 : List UInt8 := dkwX5_tour_2 ++ dktX5_tour_3
def dkwX5_tour_1 : List UInt8 := [182, 0, 216, 42, 3, 181, 1, 7, 42, 3, 181, 1, 10, 4, 61, 28, 153, 0, 22, 42, 180, 0, 131, 42]
abbrev dktX5_tour_1 : List UInt8 := dkwX5_tour_1 ++ dktX5_tour_2
def dkwX5_tour_0 : List UInt8 := [27, 4, 16, 80, 184, 0, 112, 153, 0, 11, 27, 42, 180, 0, 124, 164, 0, 5, 2, 172, 42, 27]
abbrev dktX5_tour_0 : List UInt8 := dkwX5_tour_0 ++ dktX5_tour_1
theorem dksX5_tour_0 : cX5_tour.data.toList.drop 0 = dktX5_tour_0 := by decide +kernel
theorem dksX5_tour_1 : cX5_tour.data.toList.drop 22 = dktX5_tour_1 := dk_seg dksX5_tour_0 22 rfl rfl
theorem dksX5_tour_2 : cX5_tour.data.toList.drop 46 = dktX5_tour_2 := dk_seg dksX5_tour_1 24 rfl rfl
theorem dksX5_tour_3 : cX5_tour.data.toList.drop 68 = dktX5_tour_3 := dk_seg dksX5_tour_2 22 rfl rfl
theorem dksX5_tour_4 : cX5_tour.data.toList.drop 91 = dktX5_tour_4 := dk_seg dksX5_tour_3 23 rfl rfl
theorem dksX5_tour_5 : cX5_tour.data.toList.drop 114 = dktX5_tour_5 := dk_seg dksX5_tour_4 23 rfl rfl
theorem dX5_tour_0 : decode cX5_tour 0 = .ok (.iload_n 1, 1) := dk_27 (dk_at dksX5_tour_0 0 rfl rfl)
theorem dX5_tour_1 : decode cX5_tour 1 = .ok (.iconst 1, 1) := dk_4 (dk_at dksX5_tour_0 1 rfl rfl)
theorem dX5_tour_2 : decode cX5_tour 2 = .ok (.bipush 80, 2) := dk_16 80 (dk_at dksX5_tour_0 2 rfl rfl)
theorem dX5_tour_4 : decode cX5_tour 4 = .ok (.invokestatic 112, 3) := dk_184 0 112 (dk_at dksX5_tour_0 4 rfl rfl)
theorem dX5_tour_7 : decode cX5_tour 7 = .ok (.ifCond .eq 11, 3) := dk_153 0 11 (dk_at dksX5_tour_0 7 rfl rfl)
theorem dX5_tour_10 : decode cX5_tour 10 = .ok (.iload_n 1, 1) := dk_27 (dk_at dksX5_tour_0 10 rfl rfl)
theorem dX5_tour_11 : decode cX5_tour 11 = .ok (.aload_n 0, 1) := dk_42 (dk_at dksX5_tour_0 11 rfl rfl)
theorem dX5_tour_12 : decode cX5_tour 12 = .ok (.getfield 124, 3) := dk_180 0 124 (dk_at dksX5_tour_0 12 rfl rfl)
theorem dX5_tour_15 : decode cX5_tour 15 = .ok (.if_icmp .le 5, 3) := dk_164 0 5 (dk_at dksX5_tour_0 15 rfl rfl)
theorem dX5_tour_18 : decode cX5_tour 18 = .ok (.iconst (-1), 1) := dk_2 (dk_at dksX5_tour_0 18 rfl rfl)
theorem dX5_tour_19 : decode cX5_tour 19 = .ok (.ireturn, 1) := dk_172 (dk_at dksX5_tour_0 19 rfl rfl)
theorem dX5_tour_20 : decode cX5_tour 20 = .ok (.aload_n 0, 1) := dk_42 (dk_at dksX5_tour_0 20 rfl rfl)
theorem dX5_tour_21 : decode cX5_tour 21 = .ok (.iload_n 1, 1) := dk_27 (dk_at dksX5_tour_0 21 rfl rfl)
theorem dX5_tour_22 : decode cX5_tour 22 = .ok (.invokevirtual 216, 3) := dk_182 0 216 (dk_at dksX5_tour_1 0 rfl rfl)
theorem dX5_tour_25 : decode cX5_tour 25 = .ok (.aload_n 0, 1) := dk_42 (dk_at dksX5_tour_1 3 rfl rfl)
theorem dX5_tour_26 : decode cX5_tour 26 = .ok (.iconst 0, 1) := dk_3 (dk_at dksX5_tour_1 4 rfl rfl)
theorem dX5_tour_27 : decode cX5_tour 27 = .ok (.putfield 263, 3) := dk_181 1 7 (dk_at dksX5_tour_1 5 rfl rfl)
theorem dX5_tour_30 : decode cX5_tour 30 = .ok (.aload_n 0, 1) := dk_42 (dk_at dksX5_tour_1 8 rfl rfl)
theorem dX5_tour_31 : decode cX5_tour 31 = .ok (.iconst 0, 1) := dk_3 (dk_at dksX5_tour_1 9 rfl rfl)
theorem dX5_tour_32 : decode cX5_tour 32 = .ok (.putfield 266, 3) := dk_181 1 10 (dk_at dksX5_tour_1 10 rfl rfl)
theorem dX5_tour_35 : decode cX5_tour 35 = .ok (.iconst 1, 1) := dk_4 (dk_at dksX5_tour_1 13 rfl rfl)
theorem dX5_tour_36 : decode cX5_tour 36 = .ok (.istore_n 2, 1) := dk_61 (dk_at dksX5_tour_1 14 rfl rfl)
theorem dX5_tour_37 : decode cX5_tour 37 = .ok (.iload_n 2, 1) := dk_28 (dk_at dksX5_tour_1 15 rfl rfl)
theorem dX5_tour_38 : decode cX5_tour 38 = .ok (.ifCond .eq 22, 3) := dk_153 0 22 (dk_at dksX5_tour_1 16 rfl rfl)
theorem dX5_tour_41 : decode cX5_tour 41 = .ok (.aload_n 0, 1) := dk_42 (dk_at dksX5_tour_1 19 rfl rfl)
theorem dX5_tour_42 : decode cX5_tour 42 = .ok (.getfield 131, 3) := dk_180 0 131 (dk_at dksX5_tour_1 20 rfl rfl)
theorem dX5_tour_45 : decode cX5_tour 45 = .ok (.aload_n 0, 1) := dk_42 (dk_at dksX5_tour_1 23 rfl rfl)
theorem dX5_tour_46 : decode cX5_tour 46 = .ok (.getfield 134, 3) := dk_180 0 134 (dk_at dksX5_tour_2 0 rfl rfl)
theorem dX5_tour_49 : decode cX5_tour 49 = .ok (.if_icmp .ge 11, 3) := dk_162 0 11 (dk_at dksX5_tour_2 3 rfl rfl)
theorem dX5_tour_52 : decode cX5_tour 52 = .ok (.aload_n 0, 1) := dk_42 (dk_at dksX5_tour_2 6 rfl rfl)
theorem dX5_tour_53 : decode cX5_tour 53 = .ok (.invokevirtual 281, 3) := dk_182 1 25 (dk_at dksX5_tour_2 7 rfl rfl)
theorem dX5_tour_56 : decode cX5_tour 56 = .ok (.istore_n 2, 1) := dk_61 (dk_at dksX5_tour_2 10 rfl rfl)
theorem dX5_tour_57 : decode cX5_tour 57 = .ok (.goto (-20), 3) := dk_167 255 236 (dk_at dksX5_tour_2 11 rfl rfl)
theorem dX5_tour_60 : decode cX5_tour 60 = .ok (.iload_n 2, 1) := dk_28 (dk_at dksX5_tour_2 14 rfl rfl)
theorem dX5_tour_61 : decode cX5_tour 61 = .ok (.ifCond .eq 20, 3) := dk_153 0 20 (dk_at dksX5_tour_2 15 rfl rfl)
theorem dX5_tour_64 : decode cX5_tour 64 = .ok (.aload_n 0, 1) := dk_42 (dk_at dksX5_tour_2 18 rfl rfl)
theorem dX5_tour_65 : decode cX5_tour 65 = .ok (.getfield 266, 3) := dk_180 1 10 (dk_at dksX5_tour_2 19 rfl rfl)
theorem dX5_tour_68 : decode cX5_tour 68 = .ok (.ifCond .le 13, 3) := dk_158 0 13 (dk_at dksX5_tour_3 0 rfl rfl)
theorem dX5_tour_71 : decode cX5_tour 71 = .ok (.aload_n 0, 1) := dk_42 (dk_at dksX5_tour_3 3 rfl rfl)
theorem dX5_tour_72 : decode cX5_tour 72 = .ok (.iconst 1, 1) := dk_4 (dk_at dksX5_tour_3 4 rfl rfl)
theorem dX5_tour_73 : decode cX5_tour 73 = .ok (.aload_n 0, 1) := dk_42 (dk_at dksX5_tour_3 5 rfl rfl)
theorem dX5_tour_74 : decode cX5_tour 74 = .ok (.getfield 131, 3) := dk_180 0 131 (dk_at dksX5_tour_3 6 rfl rfl)
theorem dX5_tour_77 : decode cX5_tour 77 = .ok (.invokevirtual 144, 3) := dk_182 0 144 (dk_at dksX5_tour_3 9 rfl rfl)
theorem dX5_tour_80 : decode cX5_tour 80 = .ok (.istore_n 2, 1) := dk_61 (dk_at dksX5_tour_3 12 rfl rfl)
theorem dX5_tour_81 : decode cX5_tour 81 = .ok (.aload_n 0, 1) := dk_42 (dk_at dksX5_tour_3 13 rfl rfl)
theorem dX5_tour_82 : decode cX5_tour 82 = .ok (.iconst 0, 1) := dk_3 (dk_at dksX5_tour_3 14 rfl rfl)
theorem dX5_tour_83 : decode cX5_tour 83 = .ok (.putfield 124, 3) := dk_181 0 124 (dk_at dksX5_tour_3 15 rfl rfl)
theorem dX5_tour_86 : decode cX5_tour 86 = .ok (.iload_n 2, 1) := dk_28 (dk_at dksX5_tour_3 18 rfl rfl)
theorem dX5_tour_87 : decode cX5_tour 87 = .ok (.ifCond .ne 8, 3) := dk_154 0 8 (dk_at dksX5_tour_3 19 rfl rfl)
theorem dX5_tour_90 : decode cX5_tour 90 = .ok (.aload_n 0, 1) := dk_42 (dk_at dksX5_tour_3 22 rfl rfl)
theorem dX5_tour_91 : decode cX5_tour 91 = .ok (.getfield 141, 3) := dk_180 0 141 (dk_at dksX5_tour_4 0 rfl rfl)
theorem dX5_tour_94 : decode cX5_tour 94 = .ok (.ireturn, 1) := dk_172 (dk_at dksX5_tour_4 3 rfl rfl)
theorem dX5_tour_95 : decode cX5_tour 95 = .ok (.aload_n 0, 1) := dk_42 (dk_at dksX5_tour_4 4 rfl rfl)
theorem dX5_tour_96 : decode cX5_tour 96 = .ok (.aload_n 0, 1) := dk_42 (dk_at dksX5_tour_4 5 rfl rfl)
theorem dX5_tour_97 : decode cX5_tour 97 = .ok (.getfield 263, 3) := dk_180 1 7 (dk_at dksX5_tour_4 6 rfl rfl)
theorem dX5_tour_100 : decode cX5_tour 100 = .ok (.putfield 284, 3) := dk_181 1 28 (dk_at dksX5_tour_4 9 rfl rfl)
theorem dX5_tour_103 : decode cX5_tour 103 = .ok (.iconst 0, 1) := dk_3 (dk_at dksX5_tour_4 12 rfl rfl)
theorem dX5_tour_104 : decode cX5_tour 104 = .ok (.istore_n 3, 1) := dk_62 (dk_at dksX5_tour_4 13 rfl rfl)
theorem dX5_tour_105 : decode cX5_tour 105 = .ok (.iload_n 3, 1) := dk_29 (dk_at dksX5_tour_4 14 rfl rfl)
theorem dX5_tour_106 : decode cX5_tour 106 = .ok (.aload_n 0, 1) := dk_42 (dk_at dksX5_tour_4 15 rfl rfl)
theorem dX5_tour_107 : decode cX5_tour 107 = .ok (.getfield 263, 3) := dk_180 1 7 (dk_at dksX5_tour_4 16 rfl rfl)
theorem dX5_tour_110 : decode cX5_tour 110 = .ok (.if_icmp .ge 21, 3) := dk_162 0 21 (dk_at dksX5_tour_4 19 rfl rfl)
theorem dX5_tour_113 : decode cX5_tour 113 = .ok (.aload_n 0, 1) := dk_42 (dk_at dksX5_tour_4 22 rfl rfl)
theorem dX5_tour_114 : decode cX5_tour 114 = .ok (.getfield 66, 3) := dk_180 0 66 (dk_at dksX5_tour_5 0 rfl rfl)
theorem dX5_tour_117 : decode cX5_tour 117 = .ok (.iload_n 3, 1) := dk_29 (dk_at dksX5_tour_5 3 rfl rfl)
theorem dX5_tour_118 : decode cX5_tour 118 = .ok (.aload_n 0, 1) := dk_42 (dk_at dksX5_tour_5 4 rfl rfl)
theorem dX5_tour_119 : decode cX5_tour 119 = .ok (.getfield 69, 3) := dk_180 0 69 (dk_at dksX5_tour_5 5 rfl rfl)
theorem dX5_tour_122 : decode cX5_tour 122 = .ok (.iload_n 3, 1) := dk_29 (dk_at dksX5_tour_5 8 rfl rfl)
theorem dX5_tour_123 : decode cX5_tour 123 = .ok (.iaload, 1) := dk_46 (dk_at dksX5_tour_5 9 rfl rfl)
theorem dX5_tour_124 : decode cX5_tour 124 = .ok (.iastore, 1) := dk_79 (dk_at dksX5_tour_5 10 rfl rfl)
theorem dX5_tour_125 : decode cX5_tour 125 = .ok (.iinc 3 1, 3) := dk_132 3 1 (dk_at dksX5_tour_5 11 rfl rfl)
theorem dX5_tour_128 : decode cX5_tour 128 = .ok (.goto (-23), 3) := dk_167 255 233 (dk_at dksX5_tour_5 14 rfl rfl)
theorem dX5_tour_131 : decode cX5_tour 131 = .ok (.aload_n 0, 1) := dk_42 (dk_at dksX5_tour_5 17 rfl rfl)
theorem dX5_tour_132 : decode cX5_tour 132 = .ok (.getfield 284, 3) := dk_180 1 28 (dk_at dksX5_tour_5 18 rfl rfl)
theorem dX5_tour_135 : decode cX5_tour 135 = .ok (.ireturn, 1) := dk_172 (dk_at dksX5_tour_5 21 rfl rfl)
abbrev cX5_readsStep : ByteArray := prog_19_method_51_code
def yX5_readsStep : MethodName := ⟨RX5, "readsStep", "()Z"⟩
def dkwX5_readsStep_4 : List UInt8 := [4, 42, 180, 0, 131, 182, 0, 144, 172]
abbrev dktX5_readsStep_4 : List UInt8 := dkwX5_readsStep_4 ++ []
def dkwX5_readsStep_3 : List UInt8 := [27, 182, 1, 19, 172, 42, 182, 0, 137, 16, 40, 160, 0, 12, 42, 28, 27, 182, 1, 22, 167, 0, 12, 42]
abbrev dktX5_readsStep_3 : List UInt8 := dkwX5_readsStep_3 ++ dktX5_readsStep_4
def dkwX5_readsStep_2 : List UInt8 := [180, 0, 131, 4, 96, 181, 0, 131, 42, 182, 0, 137, 184, 1, 16, 153, 0, 14, 42, 42, 182, 0, 137, 28]
abbrev dktX5_readsStep_2 : List UInt8 := dkwX5_readsStep_2 ++ dktX5_readsStep_3
def dkwX5_readsStep_1 : List UInt8 := [182, 0, 137, 16, 50, 16, 57, 184, 0, 112, 153, 0, 21, 42, 182, 0, 137, 16, 48, 100, 61, 42, 42]
abbrev dktX5_readsStep_1 : List UInt8 := dkwX5_readsStep_1 ++ dktX5_readsStep_2
def dkwX5_readsStep_0 : List UInt8 := [42, 180, 0, 131, 60, 42, 182, 0, 137, 16, 41, 160, 0, 8, 42, 182, 1, 13, 172, 4, 61, 42]
abbrev dktX5_readsStep_0 : List UInt8 := dkwX5_readsStep_0 ++ dktX5_readsStep_1
theorem dksX5_readsStep_0 : cX5_readsStep.data.toList.drop 0 = dktX5_readsStep_0 := by decide +kernel
theorem dksX5_readsStep_1 : cX5_readsStep.data.toList.drop 22 = dktX5_readsStep_1 := dk_seg dksX5_readsStep_0 22 rfl rfl
theorem dksX5_readsStep_2 : cX5_readsStep.data.toList.drop 45 = dktX5_readsStep_2 := dk_seg dksX5_readsStep_1 23 rfl rfl
theorem dksX5_readsStep_3 : cX5_readsStep.data.toList.drop 69 = dktX5_readsStep_3 := dk_seg dksX5_readsStep_2 24 rfl rfl
theorem dksX5_readsStep_4 : cX5_readsStep.data.toList.drop 93 = dktX5_readsStep_4 := dk_seg dksX5_readsStep_3 24 rfl rfl
theorem dX5_readsStep_0 : decode cX5_readsStep 0 = .ok (.aload_n 0, 1) := dk_42 (dk_at dksX5_readsStep_0 0 rfl rfl)
theorem dX5_readsStep_1 : decode cX5_readsStep 1 = .ok (.getfield 131, 3) := dk_180 0 131 (dk_at dksX5_readsStep_0 1 rfl rfl)
theorem dX5_readsStep_4 : decode cX5_readsStep 4 = .ok (.istore_n 1, 1) := dk_60 (dk_at dksX5_readsStep_0 4 rfl rfl)
theorem dX5_readsStep_5 : decode cX5_readsStep 5 = .ok (.aload_n 0, 1) := dk_42 (dk_at dksX5_readsStep_0 5 rfl rfl)
theorem dX5_readsStep_6 : decode cX5_readsStep 6 = .ok (.invokevirtual 137, 3) := dk_182 0 137 (dk_at dksX5_readsStep_0 6 rfl rfl)
theorem dX5_readsStep_9 : decode cX5_readsStep 9 = .ok (.bipush 41, 2) := dk_16 41 (dk_at dksX5_readsStep_0 9 rfl rfl)
theorem dX5_readsStep_11 : decode cX5_readsStep 11 = .ok (.if_icmp .ne 8, 3) := dk_160 0 8 (dk_at dksX5_readsStep_0 11 rfl rfl)
theorem dX5_readsStep_14 : decode cX5_readsStep 14 = .ok (.aload_n 0, 1) := dk_42 (dk_at dksX5_readsStep_0 14 rfl rfl)
theorem dX5_readsStep_15 : decode cX5_readsStep 15 = .ok (.invokevirtual 269, 3) := dk_182 1 13 (dk_at dksX5_readsStep_0 15 rfl rfl)
theorem dX5_readsStep_18 : decode cX5_readsStep 18 = .ok (.ireturn, 1) := dk_172 (dk_at dksX5_readsStep_0 18 rfl rfl)
theorem dX5_readsStep_19 : decode cX5_readsStep 19 = .ok (.iconst 1, 1) := dk_4 (dk_at dksX5_readsStep_0 19 rfl rfl)
theorem dX5_readsStep_20 : decode cX5_readsStep 20 = .ok (.istore_n 2, 1) := dk_61 (dk_at dksX5_readsStep_0 20 rfl rfl)
theorem dX5_readsStep_21 : decode cX5_readsStep 21 = .ok (.aload_n 0, 1) := dk_42 (dk_at dksX5_readsStep_0 21 rfl rfl)
theorem dX5_readsStep_22 : decode cX5_readsStep 22 = .ok (.invokevirtual 137, 3) := dk_182 0 137 (dk_at dksX5_readsStep_1 0 rfl rfl)
theorem dX5_readsStep_25 : decode cX5_readsStep 25 = .ok (.bipush 50, 2) := dk_16 50 (dk_at dksX5_readsStep_1 3 rfl rfl)
theorem dX5_readsStep_27 : decode cX5_readsStep 27 = .ok (.bipush 57, 2) := dk_16 57 (dk_at dksX5_readsStep_1 5 rfl rfl)
theorem dX5_readsStep_29 : decode cX5_readsStep 29 = .ok (.invokestatic 112, 3) := dk_184 0 112 (dk_at dksX5_readsStep_1 7 rfl rfl)
theorem dX5_readsStep_32 : decode cX5_readsStep 32 = .ok (.ifCond .eq 21, 3) := dk_153 0 21 (dk_at dksX5_readsStep_1 10 rfl rfl)
theorem dX5_readsStep_35 : decode cX5_readsStep 35 = .ok (.aload_n 0, 1) := dk_42 (dk_at dksX5_readsStep_1 13 rfl rfl)
theorem dX5_readsStep_36 : decode cX5_readsStep 36 = .ok (.invokevirtual 137, 3) := dk_182 0 137 (dk_at dksX5_readsStep_1 14 rfl rfl)
theorem dX5_readsStep_39 : decode cX5_readsStep 39 = .ok (.bipush 48, 2) := dk_16 48 (dk_at dksX5_readsStep_1 17 rfl rfl)
theorem dX5_readsStep_41 : decode cX5_readsStep 41 = .ok (.isub, 1) := dk_100 (dk_at dksX5_readsStep_1 19 rfl rfl)
theorem dX5_readsStep_42 : decode cX5_readsStep 42 = .ok (.istore_n 2, 1) := dk_61 (dk_at dksX5_readsStep_1 20 rfl rfl)
theorem dX5_readsStep_43 : decode cX5_readsStep 43 = .ok (.aload_n 0, 1) := dk_42 (dk_at dksX5_readsStep_1 21 rfl rfl)
theorem dX5_readsStep_44 : decode cX5_readsStep 44 = .ok (.aload_n 0, 1) := dk_42 (dk_at dksX5_readsStep_1 22 rfl rfl)
theorem dX5_readsStep_45 : decode cX5_readsStep 45 = .ok (.getfield 131, 3) := dk_180 0 131 (dk_at dksX5_readsStep_2 0 rfl rfl)
theorem dX5_readsStep_48 : decode cX5_readsStep 48 = .ok (.iconst 1, 1) := dk_4 (dk_at dksX5_readsStep_2 3 rfl rfl)
theorem dX5_readsStep_49 : decode cX5_readsStep 49 = .ok (.iadd, 1) := dk_96 (dk_at dksX5_readsStep_2 4 rfl rfl)
theorem dX5_readsStep_50 : decode cX5_readsStep 50 = .ok (.putfield 131, 3) := dk_181 0 131 (dk_at dksX5_readsStep_2 5 rfl rfl)
theorem dX5_readsStep_53 : decode cX5_readsStep 53 = .ok (.aload_n 0, 1) := dk_42 (dk_at dksX5_readsStep_2 8 rfl rfl)
theorem dX5_readsStep_54 : decode cX5_readsStep 54 = .ok (.invokevirtual 137, 3) := dk_182 0 137 (dk_at dksX5_readsStep_2 9 rfl rfl)
theorem dX5_readsStep_57 : decode cX5_readsStep 57 = .ok (.invokestatic 272, 3) := dk_184 1 16 (dk_at dksX5_readsStep_2 12 rfl rfl)
theorem dX5_readsStep_60 : decode cX5_readsStep 60 = .ok (.ifCond .eq 14, 3) := dk_153 0 14 (dk_at dksX5_readsStep_2 15 rfl rfl)
theorem dX5_readsStep_63 : decode cX5_readsStep 63 = .ok (.aload_n 0, 1) := dk_42 (dk_at dksX5_readsStep_2 18 rfl rfl)
theorem dX5_readsStep_64 : decode cX5_readsStep 64 = .ok (.aload_n 0, 1) := dk_42 (dk_at dksX5_readsStep_2 19 rfl rfl)
theorem dX5_readsStep_65 : decode cX5_readsStep 65 = .ok (.invokevirtual 137, 3) := dk_182 0 137 (dk_at dksX5_readsStep_2 20 rfl rfl)
theorem dX5_readsStep_68 : decode cX5_readsStep 68 = .ok (.iload_n 2, 1) := dk_28 (dk_at dksX5_readsStep_2 23 rfl rfl)
theorem dX5_readsStep_69 : decode cX5_readsStep 69 = .ok (.iload_n 1, 1) := dk_27 (dk_at dksX5_readsStep_3 0 rfl rfl)
theorem dX5_readsStep_70 : decode cX5_readsStep 70 = .ok (.invokevirtual 275, 3) := dk_182 1 19 (dk_at dksX5_readsStep_3 1 rfl rfl)
theorem dX5_readsStep_73 : decode cX5_readsStep 73 = .ok (.ireturn, 1) := dk_172 (dk_at dksX5_readsStep_3 4 rfl rfl)
theorem dX5_readsStep_74 : decode cX5_readsStep 74 = .ok (.aload_n 0, 1) := dk_42 (dk_at dksX5_readsStep_3 5 rfl rfl)
theorem dX5_readsStep_75 : decode cX5_readsStep 75 = .ok (.invokevirtual 137, 3) := dk_182 0 137 (dk_at dksX5_readsStep_3 6 rfl rfl)
theorem dX5_readsStep_78 : decode cX5_readsStep 78 = .ok (.bipush 40, 2) := dk_16 40 (dk_at dksX5_readsStep_3 9 rfl rfl)
theorem dX5_readsStep_80 : decode cX5_readsStep 80 = .ok (.if_icmp .ne 12, 3) := dk_160 0 12 (dk_at dksX5_readsStep_3 11 rfl rfl)
theorem dX5_readsStep_83 : decode cX5_readsStep 83 = .ok (.aload_n 0, 1) := dk_42 (dk_at dksX5_readsStep_3 14 rfl rfl)
theorem dX5_readsStep_84 : decode cX5_readsStep 84 = .ok (.iload_n 2, 1) := dk_28 (dk_at dksX5_readsStep_3 15 rfl rfl)
theorem dX5_readsStep_85 : decode cX5_readsStep 85 = .ok (.iload_n 1, 1) := dk_27 (dk_at dksX5_readsStep_3 16 rfl rfl)
theorem dX5_readsStep_86 : decode cX5_readsStep 86 = .ok (.invokevirtual 278, 3) := dk_182 1 22 (dk_at dksX5_readsStep_3 17 rfl rfl)
theorem dX5_readsStep_89 : decode cX5_readsStep 89 = .ok (.goto 12, 3) := dk_167 0 12 (dk_at dksX5_readsStep_3 20 rfl rfl)
theorem dX5_readsStep_92 : decode cX5_readsStep 92 = .ok (.aload_n 0, 1) := dk_42 (dk_at dksX5_readsStep_3 23 rfl rfl)
theorem dX5_readsStep_93 : decode cX5_readsStep 93 = .ok (.iconst 1, 1) := dk_4 (dk_at dksX5_readsStep_4 0 rfl rfl)
theorem dX5_readsStep_94 : decode cX5_readsStep 94 = .ok (.aload_n 0, 1) := dk_42 (dk_at dksX5_readsStep_4 1 rfl rfl)
theorem dX5_readsStep_95 : decode cX5_readsStep 95 = .ok (.getfield 131, 3) := dk_180 0 131 (dk_at dksX5_readsStep_4 2 rfl rfl)
theorem dX5_readsStep_98 : decode cX5_readsStep 98 = .ok (.invokevirtual 144, 3) := dk_182 0 144 (dk_at dksX5_readsStep_4 5 rfl rfl)
theorem dX5_readsStep_101 : decode cX5_readsStep 101 = .ok (.ireturn, 1) := dk_172 (dk_at dksX5_readsStep_4 8 rfl rfl)
abbrev cX5_endsGroup : ByteArray := prog_19_method_50_code
def yX5_endsGroup : MethodName := ⟨RX5, "endsGroup", "()Z"⟩
def dkwX5_endsGroup_6 : List UInt8 := [96, 181, 1, 7, 132, 3, 1, 167, 255, 209, 42, 42, 180, 0, 131, 4, 96, 181, 0, 131, 4, 172]
abbrev dktX5_endsGroup_6 : List UInt8 := dkwX5_endsGroup_6 ++ []
def dkwX5_endsGroup_5 : List UInt8 := [180, 0, 69, 42, 180, 1, 7, 42, 180, 0, 69, 27, 29, 28, 112, 96, 46, 79, 42, 42, 180, 1, 7, 4]
abbrev dktX5_endsGroup_5 : List UInt8 := dkwX5_endsGroup_5 ++ dktX5_endsGroup_6
def dkwX5_endsGroup_4 : List UInt8 := [182, 0, 144, 172, 28, 62, 29, 28, 42, 180, 0, 75, 42, 180, 1, 10, 46, 104, 162, 0, 38, 42]
abbrev dktX5_endsGroup_4 : List UInt8 := dkwX5_endsGroup_4 ++ dktX5_endsGroup_5
def dkwX5_endsGroup_3 : List UInt8 := [180, 1, 10, 46, 104, 96, 16, 48, 164, 0, 19, 42, 16, 6, 42, 180, 0, 78, 42, 180, 1, 10, 46]
abbrev dktX5_endsGroup_3 : List UInt8 := dkwX5_endsGroup_3 ++ dktX5_endsGroup_4
def dkwX5_endsGroup_2 : List UInt8 := [180, 0, 72, 42, 180, 1, 10, 46, 60, 42, 180, 1, 7, 27, 100, 61, 27, 28, 42, 180, 0, 75, 42]
abbrev dktX5_endsGroup_2 : List UInt8 := dkwX5_endsGroup_2 ++ dktX5_endsGroup_3
def dkwX5_endsGroup_1 : List UInt8 := [160, 0, 13, 42, 4, 42, 180, 0, 131, 182, 0, 144, 172, 42, 42, 180, 1, 10, 4, 100, 181, 1, 10, 42]
abbrev dktX5_endsGroup_1 : List UInt8 := dkwX5_endsGroup_1 ++ dktX5_endsGroup_2
def dkwX5_endsGroup_0 : List UInt8 := [42, 180, 1, 10, 153, 0, 21, 42, 180, 1, 7, 42, 180, 0, 72, 42, 180, 1, 10, 4, 100, 46]
abbrev dktX5_endsGroup_0 : List UInt8 := dkwX5_endsGroup_0 ++ dktX5_endsGroup_1
theorem dksX5_endsGroup_0 : cX5_endsGroup.data.toList.drop 0 = dktX5_endsGroup_0 := by decide +kernel
theorem dksX5_endsGroup_1 : cX5_endsGroup.data.toList.drop 22 = dktX5_endsGroup_1 := dk_seg dksX5_endsGroup_0 22 rfl rfl
theorem dksX5_endsGroup_2 : cX5_endsGroup.data.toList.drop 46 = dktX5_endsGroup_2 := dk_seg dksX5_endsGroup_1 24 rfl rfl
theorem dksX5_endsGroup_3 : cX5_endsGroup.data.toList.drop 69 = dktX5_endsGroup_3 := dk_seg dksX5_endsGroup_2 23 rfl rfl
theorem dksX5_endsGroup_4 : cX5_endsGroup.data.toList.drop 92 = dktX5_endsGroup_4 := dk_seg dksX5_endsGroup_3 23 rfl rfl
theorem dksX5_endsGroup_5 : cX5_endsGroup.data.toList.drop 114 = dktX5_endsGroup_5 := dk_seg dksX5_endsGroup_4 22 rfl rfl
theorem dksX5_endsGroup_6 : cX5_endsGroup.data.toList.drop 138 = dktX5_endsGroup_6 := dk_seg dksX5_endsGroup_5 24 rfl rfl
theorem dX5_endsGroup_0 : decode cX5_endsGroup 0 = .ok (.aload_n 0, 1) := dk_42 (dk_at dksX5_endsGroup_0 0 rfl rfl)
theorem dX5_endsGroup_1 : decode cX5_endsGroup 1 = .ok (.getfield 266, 3) := dk_180 1 10 (dk_at dksX5_endsGroup_0 1 rfl rfl)
theorem dX5_endsGroup_4 : decode cX5_endsGroup 4 = .ok (.ifCond .eq 21, 3) := dk_153 0 21 (dk_at dksX5_endsGroup_0 4 rfl rfl)
theorem dX5_endsGroup_7 : decode cX5_endsGroup 7 = .ok (.aload_n 0, 1) := dk_42 (dk_at dksX5_endsGroup_0 7 rfl rfl)
theorem dX5_endsGroup_8 : decode cX5_endsGroup 8 = .ok (.getfield 263, 3) := dk_180 1 7 (dk_at dksX5_endsGroup_0 8 rfl rfl)
theorem dX5_endsGroup_11 : decode cX5_endsGroup 11 = .ok (.aload_n 0, 1) := dk_42 (dk_at dksX5_endsGroup_0 11 rfl rfl)
theorem dX5_endsGroup_12 : decode cX5_endsGroup 12 = .ok (.getfield 72, 3) := dk_180 0 72 (dk_at dksX5_endsGroup_0 12 rfl rfl)
theorem dX5_endsGroup_15 : decode cX5_endsGroup 15 = .ok (.aload_n 0, 1) := dk_42 (dk_at dksX5_endsGroup_0 15 rfl rfl)
theorem dX5_endsGroup_16 : decode cX5_endsGroup 16 = .ok (.getfield 266, 3) := dk_180 1 10 (dk_at dksX5_endsGroup_0 16 rfl rfl)
theorem dX5_endsGroup_19 : decode cX5_endsGroup 19 = .ok (.iconst 1, 1) := dk_4 (dk_at dksX5_endsGroup_0 19 rfl rfl)
theorem dX5_endsGroup_20 : decode cX5_endsGroup 20 = .ok (.isub, 1) := dk_100 (dk_at dksX5_endsGroup_0 20 rfl rfl)
theorem dX5_endsGroup_21 : decode cX5_endsGroup 21 = .ok (.iaload, 1) := dk_46 (dk_at dksX5_endsGroup_0 21 rfl rfl)
theorem dX5_endsGroup_22 : decode cX5_endsGroup 22 = .ok (.if_icmp .ne 13, 3) := dk_160 0 13 (dk_at dksX5_endsGroup_1 0 rfl rfl)
theorem dX5_endsGroup_25 : decode cX5_endsGroup 25 = .ok (.aload_n 0, 1) := dk_42 (dk_at dksX5_endsGroup_1 3 rfl rfl)
theorem dX5_endsGroup_26 : decode cX5_endsGroup 26 = .ok (.iconst 1, 1) := dk_4 (dk_at dksX5_endsGroup_1 4 rfl rfl)
theorem dX5_endsGroup_27 : decode cX5_endsGroup 27 = .ok (.aload_n 0, 1) := dk_42 (dk_at dksX5_endsGroup_1 5 rfl rfl)
theorem dX5_endsGroup_28 : decode cX5_endsGroup 28 = .ok (.getfield 131, 3) := dk_180 0 131 (dk_at dksX5_endsGroup_1 6 rfl rfl)
theorem dX5_endsGroup_31 : decode cX5_endsGroup 31 = .ok (.invokevirtual 144, 3) := dk_182 0 144 (dk_at dksX5_endsGroup_1 9 rfl rfl)
theorem dX5_endsGroup_34 : decode cX5_endsGroup 34 = .ok (.ireturn, 1) := dk_172 (dk_at dksX5_endsGroup_1 12 rfl rfl)
theorem dX5_endsGroup_35 : decode cX5_endsGroup 35 = .ok (.aload_n 0, 1) := dk_42 (dk_at dksX5_endsGroup_1 13 rfl rfl)
theorem dX5_endsGroup_36 : decode cX5_endsGroup 36 = .ok (.aload_n 0, 1) := dk_42 (dk_at dksX5_endsGroup_1 14 rfl rfl)
theorem dX5_endsGroup_37 : decode cX5_endsGroup 37 = .ok (.getfield 266, 3) := dk_180 1 10 (dk_at dksX5_endsGroup_1 15 rfl rfl)
theorem dX5_endsGroup_40 : decode cX5_endsGroup 40 = .ok (.iconst 1, 1) := dk_4 (dk_at dksX5_endsGroup_1 18 rfl rfl)
theorem dX5_endsGroup_41 : decode cX5_endsGroup 41 = .ok (.isub, 1) := dk_100 (dk_at dksX5_endsGroup_1 19 rfl rfl)
theorem dX5_endsGroup_42 : decode cX5_endsGroup 42 = .ok (.putfield 266, 3) := dk_181 1 10 (dk_at dksX5_endsGroup_1 20 rfl rfl)
theorem dX5_endsGroup_45 : decode cX5_endsGroup 45 = .ok (.aload_n 0, 1) := dk_42 (dk_at dksX5_endsGroup_1 23 rfl rfl)
theorem dX5_endsGroup_46 : decode cX5_endsGroup 46 = .ok (.getfield 72, 3) := dk_180 0 72 (dk_at dksX5_endsGroup_2 0 rfl rfl)
theorem dX5_endsGroup_49 : decode cX5_endsGroup 49 = .ok (.aload_n 0, 1) := dk_42 (dk_at dksX5_endsGroup_2 3 rfl rfl)
theorem dX5_endsGroup_50 : decode cX5_endsGroup 50 = .ok (.getfield 266, 3) := dk_180 1 10 (dk_at dksX5_endsGroup_2 4 rfl rfl)
theorem dX5_endsGroup_53 : decode cX5_endsGroup 53 = .ok (.iaload, 1) := dk_46 (dk_at dksX5_endsGroup_2 7 rfl rfl)
theorem dX5_endsGroup_54 : decode cX5_endsGroup 54 = .ok (.istore_n 1, 1) := dk_60 (dk_at dksX5_endsGroup_2 8 rfl rfl)
theorem dX5_endsGroup_55 : decode cX5_endsGroup 55 = .ok (.aload_n 0, 1) := dk_42 (dk_at dksX5_endsGroup_2 9 rfl rfl)
theorem dX5_endsGroup_56 : decode cX5_endsGroup 56 = .ok (.getfield 263, 3) := dk_180 1 7 (dk_at dksX5_endsGroup_2 10 rfl rfl)
theorem dX5_endsGroup_59 : decode cX5_endsGroup 59 = .ok (.iload_n 1, 1) := dk_27 (dk_at dksX5_endsGroup_2 13 rfl rfl)
theorem dX5_endsGroup_60 : decode cX5_endsGroup 60 = .ok (.isub, 1) := dk_100 (dk_at dksX5_endsGroup_2 14 rfl rfl)
theorem dX5_endsGroup_61 : decode cX5_endsGroup 61 = .ok (.istore_n 2, 1) := dk_61 (dk_at dksX5_endsGroup_2 15 rfl rfl)
theorem dX5_endsGroup_62 : decode cX5_endsGroup 62 = .ok (.iload_n 1, 1) := dk_27 (dk_at dksX5_endsGroup_2 16 rfl rfl)
theorem dX5_endsGroup_63 : decode cX5_endsGroup 63 = .ok (.iload_n 2, 1) := dk_28 (dk_at dksX5_endsGroup_2 17 rfl rfl)
theorem dX5_endsGroup_64 : decode cX5_endsGroup 64 = .ok (.aload_n 0, 1) := dk_42 (dk_at dksX5_endsGroup_2 18 rfl rfl)
theorem dX5_endsGroup_65 : decode cX5_endsGroup 65 = .ok (.getfield 75, 3) := dk_180 0 75 (dk_at dksX5_endsGroup_2 19 rfl rfl)
theorem dX5_endsGroup_68 : decode cX5_endsGroup 68 = .ok (.aload_n 0, 1) := dk_42 (dk_at dksX5_endsGroup_2 22 rfl rfl)
theorem dX5_endsGroup_69 : decode cX5_endsGroup 69 = .ok (.getfield 266, 3) := dk_180 1 10 (dk_at dksX5_endsGroup_3 0 rfl rfl)
theorem dX5_endsGroup_72 : decode cX5_endsGroup 72 = .ok (.iaload, 1) := dk_46 (dk_at dksX5_endsGroup_3 3 rfl rfl)
theorem dX5_endsGroup_73 : decode cX5_endsGroup 73 = .ok (.imul, 1) := dk_104 (dk_at dksX5_endsGroup_3 4 rfl rfl)
theorem dX5_endsGroup_74 : decode cX5_endsGroup 74 = .ok (.iadd, 1) := dk_96 (dk_at dksX5_endsGroup_3 5 rfl rfl)
theorem dX5_endsGroup_75 : decode cX5_endsGroup 75 = .ok (.bipush 48, 2) := dk_16 48 (dk_at dksX5_endsGroup_3 6 rfl rfl)
theorem dX5_endsGroup_77 : decode cX5_endsGroup 77 = .ok (.if_icmp .le 19, 3) := dk_164 0 19 (dk_at dksX5_endsGroup_3 8 rfl rfl)
theorem dX5_endsGroup_80 : decode cX5_endsGroup 80 = .ok (.aload_n 0, 1) := dk_42 (dk_at dksX5_endsGroup_3 11 rfl rfl)
theorem dX5_endsGroup_81 : decode cX5_endsGroup 81 = .ok (.bipush 6, 2) := dk_16 6 (dk_at dksX5_endsGroup_3 12 rfl rfl)
theorem dX5_endsGroup_83 : decode cX5_endsGroup 83 = .ok (.aload_n 0, 1) := dk_42 (dk_at dksX5_endsGroup_3 14 rfl rfl)
theorem dX5_endsGroup_84 : decode cX5_endsGroup 84 = .ok (.getfield 78, 3) := dk_180 0 78 (dk_at dksX5_endsGroup_3 15 rfl rfl)
theorem dX5_endsGroup_87 : decode cX5_endsGroup 87 = .ok (.aload_n 0, 1) := dk_42 (dk_at dksX5_endsGroup_3 18 rfl rfl)
theorem dX5_endsGroup_88 : decode cX5_endsGroup 88 = .ok (.getfield 266, 3) := dk_180 1 10 (dk_at dksX5_endsGroup_3 19 rfl rfl)
theorem dX5_endsGroup_91 : decode cX5_endsGroup 91 = .ok (.iaload, 1) := dk_46 (dk_at dksX5_endsGroup_3 22 rfl rfl)
theorem dX5_endsGroup_92 : decode cX5_endsGroup 92 = .ok (.invokevirtual 144, 3) := dk_182 0 144 (dk_at dksX5_endsGroup_4 0 rfl rfl)
theorem dX5_endsGroup_95 : decode cX5_endsGroup 95 = .ok (.ireturn, 1) := dk_172 (dk_at dksX5_endsGroup_4 3 rfl rfl)
theorem dX5_endsGroup_96 : decode cX5_endsGroup 96 = .ok (.iload_n 2, 1) := dk_28 (dk_at dksX5_endsGroup_4 4 rfl rfl)
theorem dX5_endsGroup_97 : decode cX5_endsGroup 97 = .ok (.istore_n 3, 1) := dk_62 (dk_at dksX5_endsGroup_4 5 rfl rfl)
theorem dX5_endsGroup_98 : decode cX5_endsGroup 98 = .ok (.iload_n 3, 1) := dk_29 (dk_at dksX5_endsGroup_4 6 rfl rfl)
theorem dX5_endsGroup_99 : decode cX5_endsGroup 99 = .ok (.iload_n 2, 1) := dk_28 (dk_at dksX5_endsGroup_4 7 rfl rfl)
theorem dX5_endsGroup_100 : decode cX5_endsGroup 100 = .ok (.aload_n 0, 1) := dk_42 (dk_at dksX5_endsGroup_4 8 rfl rfl)
theorem dX5_endsGroup_101 : decode cX5_endsGroup 101 = .ok (.getfield 75, 3) := dk_180 0 75 (dk_at dksX5_endsGroup_4 9 rfl rfl)
theorem dX5_endsGroup_104 : decode cX5_endsGroup 104 = .ok (.aload_n 0, 1) := dk_42 (dk_at dksX5_endsGroup_4 12 rfl rfl)
theorem dX5_endsGroup_105 : decode cX5_endsGroup 105 = .ok (.getfield 266, 3) := dk_180 1 10 (dk_at dksX5_endsGroup_4 13 rfl rfl)
theorem dX5_endsGroup_108 : decode cX5_endsGroup 108 = .ok (.iaload, 1) := dk_46 (dk_at dksX5_endsGroup_4 16 rfl rfl)
theorem dX5_endsGroup_109 : decode cX5_endsGroup 109 = .ok (.imul, 1) := dk_104 (dk_at dksX5_endsGroup_4 17 rfl rfl)
theorem dX5_endsGroup_110 : decode cX5_endsGroup 110 = .ok (.if_icmp .ge 38, 3) := dk_162 0 38 (dk_at dksX5_endsGroup_4 18 rfl rfl)
theorem dX5_endsGroup_113 : decode cX5_endsGroup 113 = .ok (.aload_n 0, 1) := dk_42 (dk_at dksX5_endsGroup_4 21 rfl rfl)
theorem dX5_endsGroup_114 : decode cX5_endsGroup 114 = .ok (.getfield 69, 3) := dk_180 0 69 (dk_at dksX5_endsGroup_5 0 rfl rfl)
theorem dX5_endsGroup_117 : decode cX5_endsGroup 117 = .ok (.aload_n 0, 1) := dk_42 (dk_at dksX5_endsGroup_5 3 rfl rfl)
theorem dX5_endsGroup_118 : decode cX5_endsGroup 118 = .ok (.getfield 263, 3) := dk_180 1 7 (dk_at dksX5_endsGroup_5 4 rfl rfl)
theorem dX5_endsGroup_121 : decode cX5_endsGroup 121 = .ok (.aload_n 0, 1) := dk_42 (dk_at dksX5_endsGroup_5 7 rfl rfl)
theorem dX5_endsGroup_122 : decode cX5_endsGroup 122 = .ok (.getfield 69, 3) := dk_180 0 69 (dk_at dksX5_endsGroup_5 8 rfl rfl)
theorem dX5_endsGroup_125 : decode cX5_endsGroup 125 = .ok (.iload_n 1, 1) := dk_27 (dk_at dksX5_endsGroup_5 11 rfl rfl)
theorem dX5_endsGroup_126 : decode cX5_endsGroup 126 = .ok (.iload_n 3, 1) := dk_29 (dk_at dksX5_endsGroup_5 12 rfl rfl)
theorem dX5_endsGroup_127 : decode cX5_endsGroup 127 = .ok (.iload_n 2, 1) := dk_28 (dk_at dksX5_endsGroup_5 13 rfl rfl)
theorem dX5_endsGroup_128 : decode cX5_endsGroup 128 = .ok (.irem, 1) := dk_112 (dk_at dksX5_endsGroup_5 14 rfl rfl)
theorem dX5_endsGroup_129 : decode cX5_endsGroup 129 = .ok (.iadd, 1) := dk_96 (dk_at dksX5_endsGroup_5 15 rfl rfl)
theorem dX5_endsGroup_130 : decode cX5_endsGroup 130 = .ok (.iaload, 1) := dk_46 (dk_at dksX5_endsGroup_5 16 rfl rfl)
theorem dX5_endsGroup_131 : decode cX5_endsGroup 131 = .ok (.iastore, 1) := dk_79 (dk_at dksX5_endsGroup_5 17 rfl rfl)
theorem dX5_endsGroup_132 : decode cX5_endsGroup 132 = .ok (.aload_n 0, 1) := dk_42 (dk_at dksX5_endsGroup_5 18 rfl rfl)
theorem dX5_endsGroup_133 : decode cX5_endsGroup 133 = .ok (.aload_n 0, 1) := dk_42 (dk_at dksX5_endsGroup_5 19 rfl rfl)
theorem dX5_endsGroup_134 : decode cX5_endsGroup 134 = .ok (.getfield 263, 3) := dk_180 1 7 (dk_at dksX5_endsGroup_5 20 rfl rfl)
theorem dX5_endsGroup_137 : decode cX5_endsGroup 137 = .ok (.iconst 1, 1) := dk_4 (dk_at dksX5_endsGroup_5 23 rfl rfl)
theorem dX5_endsGroup_138 : decode cX5_endsGroup 138 = .ok (.iadd, 1) := dk_96 (dk_at dksX5_endsGroup_6 0 rfl rfl)
theorem dX5_endsGroup_139 : decode cX5_endsGroup 139 = .ok (.putfield 263, 3) := dk_181 1 7 (dk_at dksX5_endsGroup_6 1 rfl rfl)
theorem dX5_endsGroup_142 : decode cX5_endsGroup 142 = .ok (.iinc 3 1, 3) := dk_132 3 1 (dk_at dksX5_endsGroup_6 4 rfl rfl)
theorem dX5_endsGroup_145 : decode cX5_endsGroup 145 = .ok (.goto (-47), 3) := dk_167 255 209 (dk_at dksX5_endsGroup_6 7 rfl rfl)
theorem dX5_endsGroup_148 : decode cX5_endsGroup 148 = .ok (.aload_n 0, 1) := dk_42 (dk_at dksX5_endsGroup_6 10 rfl rfl)
theorem dX5_endsGroup_149 : decode cX5_endsGroup 149 = .ok (.aload_n 0, 1) := dk_42 (dk_at dksX5_endsGroup_6 11 rfl rfl)
theorem dX5_endsGroup_150 : decode cX5_endsGroup 150 = .ok (.getfield 131, 3) := dk_180 0 131 (dk_at dksX5_endsGroup_6 12 rfl rfl)
theorem dX5_endsGroup_153 : decode cX5_endsGroup 153 = .ok (.iconst 1, 1) := dk_4 (dk_at dksX5_endsGroup_6 15 rfl rfl)
theorem dX5_endsGroup_154 : decode cX5_endsGroup 154 = .ok (.iadd, 1) := dk_96 (dk_at dksX5_endsGroup_6 16 rfl rfl)
theorem dX5_endsGroup_155 : decode cX5_endsGroup 155 = .ok (.putfield 131, 3) := dk_181 0 131 (dk_at dksX5_endsGroup_6 17 rfl rfl)
theorem dX5_endsGroup_158 : decode cX5_endsGroup 158 = .ok (.iconst 1, 1) := dk_4 (dk_at dksX5_endsGroup_6 20 rfl rfl)
theorem dX5_endsGroup_159 : decode cX5_endsGroup 159 = .ok (.ireturn, 1) := dk_172 (dk_at dksX5_endsGroup_6 21 rfl rfl)
abbrev cX5_isStep : ByteArray := prog_19_method_47_code
def yX5_isStep : MethodName := ⟨RX5, "isStep", "(I)Z"⟩
def dkwX5_isStep_1 : List UInt8 := [26, 16, 46, 160, 0, 7, 4, 167, 0, 4, 3, 172]
abbrev dktX5_isStep_1 : List UInt8 := dkwX5_isStep_1 ++ []
def dkwX5_isStep_0 : List UInt8 := [26, 16, 108, 159, 0, 27, 26, 16, 114, 159, 0, 21, 26, 16, 102, 159, 0, 15, 26, 16, 98, 159, 0, 9]
abbrev dktX5_isStep_0 : List UInt8 := dkwX5_isStep_0 ++ dktX5_isStep_1
theorem dksX5_isStep_0 : cX5_isStep.data.toList.drop 0 = dktX5_isStep_0 := by decide +kernel
theorem dksX5_isStep_1 : cX5_isStep.data.toList.drop 24 = dktX5_isStep_1 := dk_seg dksX5_isStep_0 24 rfl rfl
theorem dX5_isStep_0 : decode cX5_isStep 0 = .ok (.iload_n 0, 1) := dk_26 (dk_at dksX5_isStep_0 0 rfl rfl)
theorem dX5_isStep_1 : decode cX5_isStep 1 = .ok (.bipush 108, 2) := dk_16 108 (dk_at dksX5_isStep_0 1 rfl rfl)
theorem dX5_isStep_3 : decode cX5_isStep 3 = .ok (.if_icmp .eq 27, 3) := dk_159 0 27 (dk_at dksX5_isStep_0 3 rfl rfl)
theorem dX5_isStep_6 : decode cX5_isStep 6 = .ok (.iload_n 0, 1) := dk_26 (dk_at dksX5_isStep_0 6 rfl rfl)
theorem dX5_isStep_7 : decode cX5_isStep 7 = .ok (.bipush 114, 2) := dk_16 114 (dk_at dksX5_isStep_0 7 rfl rfl)
theorem dX5_isStep_9 : decode cX5_isStep 9 = .ok (.if_icmp .eq 21, 3) := dk_159 0 21 (dk_at dksX5_isStep_0 9 rfl rfl)
theorem dX5_isStep_12 : decode cX5_isStep 12 = .ok (.iload_n 0, 1) := dk_26 (dk_at dksX5_isStep_0 12 rfl rfl)
theorem dX5_isStep_13 : decode cX5_isStep 13 = .ok (.bipush 102, 2) := dk_16 102 (dk_at dksX5_isStep_0 13 rfl rfl)
theorem dX5_isStep_15 : decode cX5_isStep 15 = .ok (.if_icmp .eq 15, 3) := dk_159 0 15 (dk_at dksX5_isStep_0 15 rfl rfl)
theorem dX5_isStep_18 : decode cX5_isStep 18 = .ok (.iload_n 0, 1) := dk_26 (dk_at dksX5_isStep_0 18 rfl rfl)
theorem dX5_isStep_19 : decode cX5_isStep 19 = .ok (.bipush 98, 2) := dk_16 98 (dk_at dksX5_isStep_0 19 rfl rfl)
theorem dX5_isStep_21 : decode cX5_isStep 21 = .ok (.if_icmp .eq 9, 3) := dk_159 0 9 (dk_at dksX5_isStep_0 21 rfl rfl)
theorem dX5_isStep_24 : decode cX5_isStep 24 = .ok (.iload_n 0, 1) := dk_26 (dk_at dksX5_isStep_1 0 rfl rfl)
theorem dX5_isStep_25 : decode cX5_isStep 25 = .ok (.bipush 46, 2) := dk_16 46 (dk_at dksX5_isStep_1 1 rfl rfl)
theorem dX5_isStep_27 : decode cX5_isStep 27 = .ok (.if_icmp .ne 7, 3) := dk_160 0 7 (dk_at dksX5_isStep_1 3 rfl rfl)
theorem dX5_isStep_30 : decode cX5_isStep 30 = .ok (.iconst 1, 1) := dk_4 (dk_at dksX5_isStep_1 6 rfl rfl)
theorem dX5_isStep_31 : decode cX5_isStep 31 = .ok (.goto 4, 3) := dk_167 0 4 (dk_at dksX5_isStep_1 7 rfl rfl)
theorem dX5_isStep_34 : decode cX5_isStep 34 = .ok (.iconst 0, 1) := dk_3 (dk_at dksX5_isStep_1 10 rfl rfl)
theorem dX5_isStep_35 : decode cX5_isStep 35 = .ok (.ireturn, 1) := dk_172 (dk_at dksX5_isStep_1 11 rfl rfl)
abbrev cX5_laysSteps : ByteArray := prog_19_method_48_code
def yX5_laysSteps : MethodName := ⟨RX5, "laysSteps", "(III)Z"⟩
def dkwX5_laysSteps_2 : List UInt8 := [42, 42, 180, 1, 7, 4, 96, 181, 1, 7, 132, 4, 1, 167, 255, 227, 4, 172]
abbrev dktX5_laysSteps_2 : List UInt8 := dkwX5_laysSteps_2 ++ []
def dkwX5_laysSteps_1 : List UInt8 := [29, 182, 0, 144, 172, 3, 54, 4, 21, 4, 28, 162, 0, 29, 42, 180, 0, 69, 42, 180, 1, 7, 27, 79]
abbrev dktX5_laysSteps_1 : List UInt8 := dkwX5_laysSteps_1 ++ dktX5_laysSteps_2
def dkwX5_laysSteps_0 : List UInt8 := [42, 42, 180, 0, 131, 4, 96, 181, 0, 131, 42, 180, 1, 7, 28, 96, 16, 48, 164, 0, 11, 42, 16, 6]
abbrev dktX5_laysSteps_0 : List UInt8 := dkwX5_laysSteps_0 ++ dktX5_laysSteps_1
theorem dksX5_laysSteps_0 : cX5_laysSteps.data.toList.drop 0 = dktX5_laysSteps_0 := by decide +kernel
theorem dksX5_laysSteps_1 : cX5_laysSteps.data.toList.drop 24 = dktX5_laysSteps_1 := dk_seg dksX5_laysSteps_0 24 rfl rfl
theorem dksX5_laysSteps_2 : cX5_laysSteps.data.toList.drop 48 = dktX5_laysSteps_2 := dk_seg dksX5_laysSteps_1 24 rfl rfl
theorem dX5_laysSteps_0 : decode cX5_laysSteps 0 = .ok (.aload_n 0, 1) := dk_42 (dk_at dksX5_laysSteps_0 0 rfl rfl)
theorem dX5_laysSteps_1 : decode cX5_laysSteps 1 = .ok (.aload_n 0, 1) := dk_42 (dk_at dksX5_laysSteps_0 1 rfl rfl)
theorem dX5_laysSteps_2 : decode cX5_laysSteps 2 = .ok (.getfield 131, 3) := dk_180 0 131 (dk_at dksX5_laysSteps_0 2 rfl rfl)
theorem dX5_laysSteps_5 : decode cX5_laysSteps 5 = .ok (.iconst 1, 1) := dk_4 (dk_at dksX5_laysSteps_0 5 rfl rfl)
theorem dX5_laysSteps_6 : decode cX5_laysSteps 6 = .ok (.iadd, 1) := dk_96 (dk_at dksX5_laysSteps_0 6 rfl rfl)
theorem dX5_laysSteps_7 : decode cX5_laysSteps 7 = .ok (.putfield 131, 3) := dk_181 0 131 (dk_at dksX5_laysSteps_0 7 rfl rfl)
theorem dX5_laysSteps_10 : decode cX5_laysSteps 10 = .ok (.aload_n 0, 1) := dk_42 (dk_at dksX5_laysSteps_0 10 rfl rfl)
theorem dX5_laysSteps_11 : decode cX5_laysSteps 11 = .ok (.getfield 263, 3) := dk_180 1 7 (dk_at dksX5_laysSteps_0 11 rfl rfl)
theorem dX5_laysSteps_14 : decode cX5_laysSteps 14 = .ok (.iload_n 2, 1) := dk_28 (dk_at dksX5_laysSteps_0 14 rfl rfl)
theorem dX5_laysSteps_15 : decode cX5_laysSteps 15 = .ok (.iadd, 1) := dk_96 (dk_at dksX5_laysSteps_0 15 rfl rfl)
theorem dX5_laysSteps_16 : decode cX5_laysSteps 16 = .ok (.bipush 48, 2) := dk_16 48 (dk_at dksX5_laysSteps_0 16 rfl rfl)
theorem dX5_laysSteps_18 : decode cX5_laysSteps 18 = .ok (.if_icmp .le 11, 3) := dk_164 0 11 (dk_at dksX5_laysSteps_0 18 rfl rfl)
theorem dX5_laysSteps_21 : decode cX5_laysSteps 21 = .ok (.aload_n 0, 1) := dk_42 (dk_at dksX5_laysSteps_0 21 rfl rfl)
theorem dX5_laysSteps_22 : decode cX5_laysSteps 22 = .ok (.bipush 6, 2) := dk_16 6 (dk_at dksX5_laysSteps_0 22 rfl rfl)
theorem dX5_laysSteps_24 : decode cX5_laysSteps 24 = .ok (.iload_n 3, 1) := dk_29 (dk_at dksX5_laysSteps_1 0 rfl rfl)
theorem dX5_laysSteps_25 : decode cX5_laysSteps 25 = .ok (.invokevirtual 144, 3) := dk_182 0 144 (dk_at dksX5_laysSteps_1 1 rfl rfl)
theorem dX5_laysSteps_28 : decode cX5_laysSteps 28 = .ok (.ireturn, 1) := dk_172 (dk_at dksX5_laysSteps_1 4 rfl rfl)
theorem dX5_laysSteps_29 : decode cX5_laysSteps 29 = .ok (.iconst 0, 1) := dk_3 (dk_at dksX5_laysSteps_1 5 rfl rfl)
theorem dX5_laysSteps_30 : decode cX5_laysSteps 30 = .ok (.istore 4, 2) := dk_54 4 (dk_at dksX5_laysSteps_1 6 rfl rfl)
theorem dX5_laysSteps_32 : decode cX5_laysSteps 32 = .ok (.iload 4, 2) := dk_21 4 (dk_at dksX5_laysSteps_1 8 rfl rfl)
theorem dX5_laysSteps_34 : decode cX5_laysSteps 34 = .ok (.iload_n 2, 1) := dk_28 (dk_at dksX5_laysSteps_1 10 rfl rfl)
theorem dX5_laysSteps_35 : decode cX5_laysSteps 35 = .ok (.if_icmp .ge 29, 3) := dk_162 0 29 (dk_at dksX5_laysSteps_1 11 rfl rfl)
theorem dX5_laysSteps_38 : decode cX5_laysSteps 38 = .ok (.aload_n 0, 1) := dk_42 (dk_at dksX5_laysSteps_1 14 rfl rfl)
theorem dX5_laysSteps_39 : decode cX5_laysSteps 39 = .ok (.getfield 69, 3) := dk_180 0 69 (dk_at dksX5_laysSteps_1 15 rfl rfl)
theorem dX5_laysSteps_42 : decode cX5_laysSteps 42 = .ok (.aload_n 0, 1) := dk_42 (dk_at dksX5_laysSteps_1 18 rfl rfl)
theorem dX5_laysSteps_43 : decode cX5_laysSteps 43 = .ok (.getfield 263, 3) := dk_180 1 7 (dk_at dksX5_laysSteps_1 19 rfl rfl)
theorem dX5_laysSteps_46 : decode cX5_laysSteps 46 = .ok (.iload_n 1, 1) := dk_27 (dk_at dksX5_laysSteps_1 22 rfl rfl)
theorem dX5_laysSteps_47 : decode cX5_laysSteps 47 = .ok (.iastore, 1) := dk_79 (dk_at dksX5_laysSteps_1 23 rfl rfl)
theorem dX5_laysSteps_48 : decode cX5_laysSteps 48 = .ok (.aload_n 0, 1) := dk_42 (dk_at dksX5_laysSteps_2 0 rfl rfl)
theorem dX5_laysSteps_49 : decode cX5_laysSteps 49 = .ok (.aload_n 0, 1) := dk_42 (dk_at dksX5_laysSteps_2 1 rfl rfl)
theorem dX5_laysSteps_50 : decode cX5_laysSteps 50 = .ok (.getfield 263, 3) := dk_180 1 7 (dk_at dksX5_laysSteps_2 2 rfl rfl)
theorem dX5_laysSteps_53 : decode cX5_laysSteps 53 = .ok (.iconst 1, 1) := dk_4 (dk_at dksX5_laysSteps_2 5 rfl rfl)
theorem dX5_laysSteps_54 : decode cX5_laysSteps 54 = .ok (.iadd, 1) := dk_96 (dk_at dksX5_laysSteps_2 6 rfl rfl)
theorem dX5_laysSteps_55 : decode cX5_laysSteps 55 = .ok (.putfield 263, 3) := dk_181 1 7 (dk_at dksX5_laysSteps_2 7 rfl rfl)
theorem dX5_laysSteps_58 : decode cX5_laysSteps 58 = .ok (.iinc 4 1, 3) := dk_132 4 1 (dk_at dksX5_laysSteps_2 10 rfl rfl)
theorem dX5_laysSteps_61 : decode cX5_laysSteps 61 = .ok (.goto (-29), 3) := dk_167 255 227 (dk_at dksX5_laysSteps_2 13 rfl rfl)
theorem dX5_laysSteps_64 : decode cX5_laysSteps 64 = .ok (.iconst 1, 1) := dk_4 (dk_at dksX5_laysSteps_2 16 rfl rfl)
theorem dX5_laysSteps_65 : decode cX5_laysSteps 65 = .ok (.ireturn, 1) := dk_172 (dk_at dksX5_laysSteps_2 17 rfl rfl)
abbrev cX5_opensGroup : ByteArray := prog_19_method_49_code
def yX5_opensGroup : MethodName := ⟨RX5, "opensGroup", "(II)Z"⟩
def dkwX5_opensGroup_3 : List UInt8 := [181, 0, 131, 4, 172]
abbrev dktX5_opensGroup_3 : List UInt8 := dkwX5_opensGroup_3 ++ []
def dkwX5_opensGroup_2 : List UInt8 := [180, 1, 10, 28, 79, 42, 42, 180, 1, 10, 4, 96, 181, 1, 10, 42, 42, 180, 0, 131, 4, 96]
abbrev dktX5_opensGroup_2 : List UInt8 := dkwX5_opensGroup_2 ++ dktX5_opensGroup_3
def dkwX5_opensGroup_1 : List UInt8 := [180, 1, 10, 42, 180, 1, 7, 79, 42, 180, 0, 75, 42, 180, 1, 10, 27, 79, 42, 180, 0, 78, 42]
abbrev dktX5_opensGroup_1 : List UInt8 := dkwX5_opensGroup_1 ++ dktX5_opensGroup_2
def dkwX5_opensGroup_0 : List UInt8 := [42, 180, 1, 10, 5, 160, 0, 13, 42, 8, 42, 180, 0, 131, 182, 0, 144, 172, 42, 180, 0, 72, 42]
abbrev dktX5_opensGroup_0 : List UInt8 := dkwX5_opensGroup_0 ++ dktX5_opensGroup_1
theorem dksX5_opensGroup_0 : cX5_opensGroup.data.toList.drop 0 = dktX5_opensGroup_0 := by decide +kernel
theorem dksX5_opensGroup_1 : cX5_opensGroup.data.toList.drop 23 = dktX5_opensGroup_1 := dk_seg dksX5_opensGroup_0 23 rfl rfl
theorem dksX5_opensGroup_2 : cX5_opensGroup.data.toList.drop 46 = dktX5_opensGroup_2 := dk_seg dksX5_opensGroup_1 23 rfl rfl
theorem dksX5_opensGroup_3 : cX5_opensGroup.data.toList.drop 68 = dktX5_opensGroup_3 := dk_seg dksX5_opensGroup_2 22 rfl rfl
theorem dX5_opensGroup_0 : decode cX5_opensGroup 0 = .ok (.aload_n 0, 1) := dk_42 (dk_at dksX5_opensGroup_0 0 rfl rfl)
theorem dX5_opensGroup_1 : decode cX5_opensGroup 1 = .ok (.getfield 266, 3) := dk_180 1 10 (dk_at dksX5_opensGroup_0 1 rfl rfl)
theorem dX5_opensGroup_4 : decode cX5_opensGroup 4 = .ok (.iconst 2, 1) := dk_5 (dk_at dksX5_opensGroup_0 4 rfl rfl)
theorem dX5_opensGroup_5 : decode cX5_opensGroup 5 = .ok (.if_icmp .ne 13, 3) := dk_160 0 13 (dk_at dksX5_opensGroup_0 5 rfl rfl)
theorem dX5_opensGroup_8 : decode cX5_opensGroup 8 = .ok (.aload_n 0, 1) := dk_42 (dk_at dksX5_opensGroup_0 8 rfl rfl)
theorem dX5_opensGroup_9 : decode cX5_opensGroup 9 = .ok (.iconst 5, 1) := dk_8 (dk_at dksX5_opensGroup_0 9 rfl rfl)
theorem dX5_opensGroup_10 : decode cX5_opensGroup 10 = .ok (.aload_n 0, 1) := dk_42 (dk_at dksX5_opensGroup_0 10 rfl rfl)
theorem dX5_opensGroup_11 : decode cX5_opensGroup 11 = .ok (.getfield 131, 3) := dk_180 0 131 (dk_at dksX5_opensGroup_0 11 rfl rfl)
theorem dX5_opensGroup_14 : decode cX5_opensGroup 14 = .ok (.invokevirtual 144, 3) := dk_182 0 144 (dk_at dksX5_opensGroup_0 14 rfl rfl)
theorem dX5_opensGroup_17 : decode cX5_opensGroup 17 = .ok (.ireturn, 1) := dk_172 (dk_at dksX5_opensGroup_0 17 rfl rfl)
theorem dX5_opensGroup_18 : decode cX5_opensGroup 18 = .ok (.aload_n 0, 1) := dk_42 (dk_at dksX5_opensGroup_0 18 rfl rfl)
theorem dX5_opensGroup_19 : decode cX5_opensGroup 19 = .ok (.getfield 72, 3) := dk_180 0 72 (dk_at dksX5_opensGroup_0 19 rfl rfl)
theorem dX5_opensGroup_22 : decode cX5_opensGroup 22 = .ok (.aload_n 0, 1) := dk_42 (dk_at dksX5_opensGroup_0 22 rfl rfl)
theorem dX5_opensGroup_23 : decode cX5_opensGroup 23 = .ok (.getfield 266, 3) := dk_180 1 10 (dk_at dksX5_opensGroup_1 0 rfl rfl)
theorem dX5_opensGroup_26 : decode cX5_opensGroup 26 = .ok (.aload_n 0, 1) := dk_42 (dk_at dksX5_opensGroup_1 3 rfl rfl)
theorem dX5_opensGroup_27 : decode cX5_opensGroup 27 = .ok (.getfield 263, 3) := dk_180 1 7 (dk_at dksX5_opensGroup_1 4 rfl rfl)
theorem dX5_opensGroup_30 : decode cX5_opensGroup 30 = .ok (.iastore, 1) := dk_79 (dk_at dksX5_opensGroup_1 7 rfl rfl)
theorem dX5_opensGroup_31 : decode cX5_opensGroup 31 = .ok (.aload_n 0, 1) := dk_42 (dk_at dksX5_opensGroup_1 8 rfl rfl)
theorem dX5_opensGroup_32 : decode cX5_opensGroup 32 = .ok (.getfield 75, 3) := dk_180 0 75 (dk_at dksX5_opensGroup_1 9 rfl rfl)
theorem dX5_opensGroup_35 : decode cX5_opensGroup 35 = .ok (.aload_n 0, 1) := dk_42 (dk_at dksX5_opensGroup_1 12 rfl rfl)
theorem dX5_opensGroup_36 : decode cX5_opensGroup 36 = .ok (.getfield 266, 3) := dk_180 1 10 (dk_at dksX5_opensGroup_1 13 rfl rfl)
theorem dX5_opensGroup_39 : decode cX5_opensGroup 39 = .ok (.iload_n 1, 1) := dk_27 (dk_at dksX5_opensGroup_1 16 rfl rfl)
theorem dX5_opensGroup_40 : decode cX5_opensGroup 40 = .ok (.iastore, 1) := dk_79 (dk_at dksX5_opensGroup_1 17 rfl rfl)
theorem dX5_opensGroup_41 : decode cX5_opensGroup 41 = .ok (.aload_n 0, 1) := dk_42 (dk_at dksX5_opensGroup_1 18 rfl rfl)
theorem dX5_opensGroup_42 : decode cX5_opensGroup 42 = .ok (.getfield 78, 3) := dk_180 0 78 (dk_at dksX5_opensGroup_1 19 rfl rfl)
theorem dX5_opensGroup_45 : decode cX5_opensGroup 45 = .ok (.aload_n 0, 1) := dk_42 (dk_at dksX5_opensGroup_1 22 rfl rfl)
theorem dX5_opensGroup_46 : decode cX5_opensGroup 46 = .ok (.getfield 266, 3) := dk_180 1 10 (dk_at dksX5_opensGroup_2 0 rfl rfl)
theorem dX5_opensGroup_49 : decode cX5_opensGroup 49 = .ok (.iload_n 2, 1) := dk_28 (dk_at dksX5_opensGroup_2 3 rfl rfl)
theorem dX5_opensGroup_50 : decode cX5_opensGroup 50 = .ok (.iastore, 1) := dk_79 (dk_at dksX5_opensGroup_2 4 rfl rfl)
theorem dX5_opensGroup_51 : decode cX5_opensGroup 51 = .ok (.aload_n 0, 1) := dk_42 (dk_at dksX5_opensGroup_2 5 rfl rfl)
theorem dX5_opensGroup_52 : decode cX5_opensGroup 52 = .ok (.aload_n 0, 1) := dk_42 (dk_at dksX5_opensGroup_2 6 rfl rfl)
theorem dX5_opensGroup_53 : decode cX5_opensGroup 53 = .ok (.getfield 266, 3) := dk_180 1 10 (dk_at dksX5_opensGroup_2 7 rfl rfl)
theorem dX5_opensGroup_56 : decode cX5_opensGroup 56 = .ok (.iconst 1, 1) := dk_4 (dk_at dksX5_opensGroup_2 10 rfl rfl)
theorem dX5_opensGroup_57 : decode cX5_opensGroup 57 = .ok (.iadd, 1) := dk_96 (dk_at dksX5_opensGroup_2 11 rfl rfl)
theorem dX5_opensGroup_58 : decode cX5_opensGroup 58 = .ok (.putfield 266, 3) := dk_181 1 10 (dk_at dksX5_opensGroup_2 12 rfl rfl)
theorem dX5_opensGroup_61 : decode cX5_opensGroup 61 = .ok (.aload_n 0, 1) := dk_42 (dk_at dksX5_opensGroup_2 15 rfl rfl)
theorem dX5_opensGroup_62 : decode cX5_opensGroup 62 = .ok (.aload_n 0, 1) := dk_42 (dk_at dksX5_opensGroup_2 16 rfl rfl)
theorem dX5_opensGroup_63 : decode cX5_opensGroup 63 = .ok (.getfield 131, 3) := dk_180 0 131 (dk_at dksX5_opensGroup_2 17 rfl rfl)
theorem dX5_opensGroup_66 : decode cX5_opensGroup 66 = .ok (.iconst 1, 1) := dk_4 (dk_at dksX5_opensGroup_2 20 rfl rfl)
theorem dX5_opensGroup_67 : decode cX5_opensGroup 67 = .ok (.iadd, 1) := dk_96 (dk_at dksX5_opensGroup_2 21 rfl rfl)
theorem dX5_opensGroup_68 : decode cX5_opensGroup 68 = .ok (.putfield 131, 3) := dk_181 0 131 (dk_at dksX5_opensGroup_3 0 rfl rfl)
theorem dX5_opensGroup_71 : decode cX5_opensGroup 71 = .ok (.iconst 1, 1) := dk_4 (dk_at dksX5_opensGroup_3 3 rfl rfl)
theorem dX5_opensGroup_72 : decode cX5_opensGroup 72 = .ok (.ireturn, 1) := dk_172 (dk_at dksX5_opensGroup_3 4 rfl rfl)
abbrev cX5_glide : ByteArray := prog_19_method_62_code
def yX5_glide : MethodName := ⟨RX5, "glide", "(IIII)I"⟩
def dkwX5_glide_3 : List UInt8 := [182, 1, 56, 172, 27, 28, 184, 1, 59, 172, 42, 27, 28, 182, 1, 62, 172, 2, 172]
abbrev dktX5_glide_3 : List UInt8 := dkwX5_glide_3 ++ []
def dkwX5_glide_2 : List UInt8 := [42, 27, 28, 182, 1, 43, 172, 42, 27, 28, 29, 182, 1, 53, 172, 42, 27, 28, 29, 182, 1, 53, 87, 42]
abbrev dktX5_glide_2 : List UInt8 := dkwX5_glide_2 ++ dktX5_glide_3
def dkwX5_glide_1 : List UInt8 := [170, 0, 0, 0, 74, 0, 0, 0, 0, 0, 0, 0, 4, 0, 0, 0, 33, 0, 0, 0, 40, 0, 0, 0, 48, 0, 0, 0, 61, 0, 0, 0, 67]
abbrev dktX5_glide_1 : List UInt8 := dkwX5_glide_1 ++ dktX5_glide_2
def dkwX5_glide_0 : List UInt8 := [27, 28, 184, 1, 47, 153, 0, 10, 29, 184, 1, 50, 154, 0, 5, 2, 172, 21, 4]
abbrev dktX5_glide_0 : List UInt8 := dkwX5_glide_0 ++ dktX5_glide_1
theorem dksX5_glide_0 : cX5_glide.data.toList.drop 0 = dktX5_glide_0 := by decide +kernel
theorem dksX5_glide_1 : cX5_glide.data.toList.drop 19 = dktX5_glide_1 := dk_seg dksX5_glide_0 19 rfl rfl
theorem dksX5_glide_2 : cX5_glide.data.toList.drop 52 = dktX5_glide_2 := dk_seg dksX5_glide_1 33 rfl rfl
theorem dksX5_glide_3 : cX5_glide.data.toList.drop 76 = dktX5_glide_3 := dk_seg dksX5_glide_2 24 rfl rfl
theorem dX5_glide_0 : decode cX5_glide 0 = .ok (.iload_n 1, 1) := dk_27 (dk_at dksX5_glide_0 0 rfl rfl)
theorem dX5_glide_1 : decode cX5_glide 1 = .ok (.iload_n 2, 1) := dk_28 (dk_at dksX5_glide_0 1 rfl rfl)
theorem dX5_glide_2 : decode cX5_glide 2 = .ok (.invokestatic 303, 3) := dk_184 1 47 (dk_at dksX5_glide_0 2 rfl rfl)
theorem dX5_glide_5 : decode cX5_glide 5 = .ok (.ifCond .eq 10, 3) := dk_153 0 10 (dk_at dksX5_glide_0 5 rfl rfl)
theorem dX5_glide_8 : decode cX5_glide 8 = .ok (.iload_n 3, 1) := dk_29 (dk_at dksX5_glide_0 8 rfl rfl)
theorem dX5_glide_9 : decode cX5_glide 9 = .ok (.invokestatic 306, 3) := dk_184 1 50 (dk_at dksX5_glide_0 9 rfl rfl)
theorem dX5_glide_12 : decode cX5_glide 12 = .ok (.ifCond .ne 5, 3) := dk_154 0 5 (dk_at dksX5_glide_0 12 rfl rfl)
theorem dX5_glide_15 : decode cX5_glide 15 = .ok (.iconst (-1), 1) := dk_2 (dk_at dksX5_glide_0 15 rfl rfl)
theorem dX5_glide_16 : decode cX5_glide 16 = .ok (.ireturn, 1) := dk_172 (dk_at dksX5_glide_0 16 rfl rfl)
theorem dX5_glide_17 : decode cX5_glide 17 = .ok (.iload 4, 2) := dk_21 4 (dk_at dksX5_glide_0 17 rfl rfl)
theorem dX5_glide_19 : decode cX5_glide 19 = .ok (.tableswitch 74 0 4 #[33, 40, 48, 61, 67], 33) := by decide +kernel
theorem dX5_glide_52 : decode cX5_glide 52 = .ok (.aload_n 0, 1) := dk_42 (dk_at dksX5_glide_2 0 rfl rfl)
theorem dX5_glide_53 : decode cX5_glide 53 = .ok (.iload_n 1, 1) := dk_27 (dk_at dksX5_glide_2 1 rfl rfl)
theorem dX5_glide_54 : decode cX5_glide 54 = .ok (.iload_n 2, 1) := dk_28 (dk_at dksX5_glide_2 2 rfl rfl)
theorem dX5_glide_55 : decode cX5_glide 55 = .ok (.invokevirtual 299, 3) := dk_182 1 43 (dk_at dksX5_glide_2 3 rfl rfl)
theorem dX5_glide_58 : decode cX5_glide 58 = .ok (.ireturn, 1) := dk_172 (dk_at dksX5_glide_2 6 rfl rfl)
theorem dX5_glide_59 : decode cX5_glide 59 = .ok (.aload_n 0, 1) := dk_42 (dk_at dksX5_glide_2 7 rfl rfl)
theorem dX5_glide_60 : decode cX5_glide 60 = .ok (.iload_n 1, 1) := dk_27 (dk_at dksX5_glide_2 8 rfl rfl)
theorem dX5_glide_61 : decode cX5_glide 61 = .ok (.iload_n 2, 1) := dk_28 (dk_at dksX5_glide_2 9 rfl rfl)
theorem dX5_glide_62 : decode cX5_glide 62 = .ok (.iload_n 3, 1) := dk_29 (dk_at dksX5_glide_2 10 rfl rfl)
theorem dX5_glide_63 : decode cX5_glide 63 = .ok (.invokevirtual 309, 3) := dk_182 1 53 (dk_at dksX5_glide_2 11 rfl rfl)
theorem dX5_glide_66 : decode cX5_glide 66 = .ok (.ireturn, 1) := dk_172 (dk_at dksX5_glide_2 14 rfl rfl)
theorem dX5_glide_67 : decode cX5_glide 67 = .ok (.aload_n 0, 1) := dk_42 (dk_at dksX5_glide_2 15 rfl rfl)
theorem dX5_glide_68 : decode cX5_glide 68 = .ok (.iload_n 1, 1) := dk_27 (dk_at dksX5_glide_2 16 rfl rfl)
theorem dX5_glide_69 : decode cX5_glide 69 = .ok (.iload_n 2, 1) := dk_28 (dk_at dksX5_glide_2 17 rfl rfl)
theorem dX5_glide_70 : decode cX5_glide 70 = .ok (.iload_n 3, 1) := dk_29 (dk_at dksX5_glide_2 18 rfl rfl)
theorem dX5_glide_71 : decode cX5_glide 71 = .ok (.invokevirtual 309, 3) := dk_182 1 53 (dk_at dksX5_glide_2 19 rfl rfl)
theorem dX5_glide_74 : decode cX5_glide 74 = .ok (.pop, 1) := dk_87 (dk_at dksX5_glide_2 22 rfl rfl)
theorem dX5_glide_75 : decode cX5_glide 75 = .ok (.aload_n 0, 1) := dk_42 (dk_at dksX5_glide_2 23 rfl rfl)
theorem dX5_glide_76 : decode cX5_glide 76 = .ok (.invokevirtual 312, 3) := dk_182 1 56 (dk_at dksX5_glide_3 0 rfl rfl)
theorem dX5_glide_79 : decode cX5_glide 79 = .ok (.ireturn, 1) := dk_172 (dk_at dksX5_glide_3 3 rfl rfl)
theorem dX5_glide_80 : decode cX5_glide 80 = .ok (.iload_n 1, 1) := dk_27 (dk_at dksX5_glide_3 4 rfl rfl)
theorem dX5_glide_81 : decode cX5_glide 81 = .ok (.iload_n 2, 1) := dk_28 (dk_at dksX5_glide_3 5 rfl rfl)
theorem dX5_glide_82 : decode cX5_glide 82 = .ok (.invokestatic 315, 3) := dk_184 1 59 (dk_at dksX5_glide_3 6 rfl rfl)
theorem dX5_glide_85 : decode cX5_glide 85 = .ok (.ireturn, 1) := dk_172 (dk_at dksX5_glide_3 9 rfl rfl)
theorem dX5_glide_86 : decode cX5_glide 86 = .ok (.aload_n 0, 1) := dk_42 (dk_at dksX5_glide_3 10 rfl rfl)
theorem dX5_glide_87 : decode cX5_glide 87 = .ok (.iload_n 1, 1) := dk_27 (dk_at dksX5_glide_3 11 rfl rfl)
theorem dX5_glide_88 : decode cX5_glide 88 = .ok (.iload_n 2, 1) := dk_28 (dk_at dksX5_glide_3 12 rfl rfl)
theorem dX5_glide_89 : decode cX5_glide 89 = .ok (.invokevirtual 318, 3) := dk_182 1 62 (dk_at dksX5_glide_3 13 rfl rfl)
theorem dX5_glide_92 : decode cX5_glide 92 = .ok (.ireturn, 1) := dk_172 (dk_at dksX5_glide_3 16 rfl rfl)
theorem dX5_glide_93 : decode cX5_glide 93 = .ok (.iconst (-1), 1) := dk_2 (dk_at dksX5_glide_3 17 rfl rfl)
theorem dX5_glide_94 : decode cX5_glide 94 = .ok (.ireturn, 1) := dk_172 (dk_at dksX5_glide_3 18 rfl rfl)
abbrev cX5_isGlide : ByteArray := prog_19_method_7_code
def yX5_isGlide : MethodName := ⟨RX5, "isGlide", "(II)Z"⟩
def dkwX5_isGlide_1 : List UInt8 := [3, 172]
abbrev dktX5_isGlide_1 : List UInt8 := dkwX5_isGlide_1 ++ []
def dkwX5_isGlide_0 : List UInt8 := [26, 16, 252, 7, 184, 0, 112, 153, 0, 17, 27, 16, 253, 6, 184, 0, 112, 153, 0, 7, 4, 167, 0, 4]
abbrev dktX5_isGlide_0 : List UInt8 := dkwX5_isGlide_0 ++ dktX5_isGlide_1
theorem dksX5_isGlide_0 : cX5_isGlide.data.toList.drop 0 = dktX5_isGlide_0 := by decide +kernel
theorem dksX5_isGlide_1 : cX5_isGlide.data.toList.drop 24 = dktX5_isGlide_1 := dk_seg dksX5_isGlide_0 24 rfl rfl
theorem dX5_isGlide_0 : decode cX5_isGlide 0 = .ok (.iload_n 0, 1) := dk_26 (dk_at dksX5_isGlide_0 0 rfl rfl)
theorem dX5_isGlide_1 : decode cX5_isGlide 1 = .ok (.bipush (-4), 2) := dk_16 252 (dk_at dksX5_isGlide_0 1 rfl rfl)
theorem dX5_isGlide_3 : decode cX5_isGlide 3 = .ok (.iconst 4, 1) := dk_7 (dk_at dksX5_isGlide_0 3 rfl rfl)
theorem dX5_isGlide_4 : decode cX5_isGlide 4 = .ok (.invokestatic 112, 3) := dk_184 0 112 (dk_at dksX5_isGlide_0 4 rfl rfl)
theorem dX5_isGlide_7 : decode cX5_isGlide 7 = .ok (.ifCond .eq 17, 3) := dk_153 0 17 (dk_at dksX5_isGlide_0 7 rfl rfl)
theorem dX5_isGlide_10 : decode cX5_isGlide 10 = .ok (.iload_n 1, 1) := dk_27 (dk_at dksX5_isGlide_0 10 rfl rfl)
theorem dX5_isGlide_11 : decode cX5_isGlide 11 = .ok (.bipush (-3), 2) := dk_16 253 (dk_at dksX5_isGlide_0 11 rfl rfl)
theorem dX5_isGlide_13 : decode cX5_isGlide 13 = .ok (.iconst 3, 1) := dk_6 (dk_at dksX5_isGlide_0 13 rfl rfl)
theorem dX5_isGlide_14 : decode cX5_isGlide 14 = .ok (.invokestatic 112, 3) := dk_184 0 112 (dk_at dksX5_isGlide_0 14 rfl rfl)
theorem dX5_isGlide_17 : decode cX5_isGlide 17 = .ok (.ifCond .eq 7, 3) := dk_153 0 7 (dk_at dksX5_isGlide_0 17 rfl rfl)
theorem dX5_isGlide_20 : decode cX5_isGlide 20 = .ok (.iconst 1, 1) := dk_4 (dk_at dksX5_isGlide_0 20 rfl rfl)
theorem dX5_isGlide_21 : decode cX5_isGlide 21 = .ok (.goto 4, 3) := dk_167 0 4 (dk_at dksX5_isGlide_0 21 rfl rfl)
theorem dX5_isGlide_24 : decode cX5_isGlide 24 = .ok (.iconst 0, 1) := dk_3 (dk_at dksX5_isGlide_1 0 rfl rfl)
theorem dX5_isGlide_25 : decode cX5_isGlide 25 = .ok (.ireturn, 1) := dk_172 (dk_at dksX5_isGlide_1 1 rfl rfl)
abbrev cX5_isSum : ByteArray := prog_19_method_8_code
def yX5_isSum : MethodName := ⟨RX5, "isSum", "(I)Z"⟩
def dkwX5_isSum_0 : List UInt8 := [26, 3, 16, 50, 184, 0, 112, 172]
abbrev dktX5_isSum_0 : List UInt8 := dkwX5_isSum_0 ++ []
theorem dksX5_isSum_0 : cX5_isSum.data.toList.drop 0 = dktX5_isSum_0 := by decide +kernel
theorem dX5_isSum_0 : decode cX5_isSum 0 = .ok (.iload_n 0, 1) := dk_26 (dk_at dksX5_isSum_0 0 rfl rfl)
theorem dX5_isSum_1 : decode cX5_isSum 1 = .ok (.iconst 0, 1) := dk_3 (dk_at dksX5_isSum_0 1 rfl rfl)
theorem dX5_isSum_2 : decode cX5_isSum 2 = .ok (.bipush 50, 2) := dk_16 50 (dk_at dksX5_isSum_0 2 rfl rfl)
theorem dX5_isSum_4 : decode cX5_isSum 4 = .ok (.invokestatic 112, 3) := dk_184 0 112 (dk_at dksX5_isSum_0 4 rfl rfl)
theorem dX5_isSum_7 : decode cX5_isSum 7 = .ok (.ireturn, 1) := dk_172 (dk_at dksX5_isSum_0 7 rfl rfl)
abbrev cX5_opening : ByteArray := prog_19_method_56_code
def yX5_opening : MethodName := ⟨RX5, "opening", "(II)I"⟩
def dkwX5_opening_1 : List UInt8 := [62, 132, 4, 1, 167, 255, 233, 29, 172]
abbrev dktX5_opening_1 : List UInt8 := dkwX5_opening_1 ++ []
def dkwX5_opening_0 : List UInt8 := [3, 62, 3, 54, 4, 21, 4, 16, 48, 162, 0, 22, 29, 42, 21, 4, 27, 28, 182, 1, 40, 184, 0, 242]
abbrev dktX5_opening_0 : List UInt8 := dkwX5_opening_0 ++ dktX5_opening_1
theorem dksX5_opening_0 : cX5_opening.data.toList.drop 0 = dktX5_opening_0 := by decide +kernel
theorem dksX5_opening_1 : cX5_opening.data.toList.drop 24 = dktX5_opening_1 := dk_seg dksX5_opening_0 24 rfl rfl
theorem dX5_opening_0 : decode cX5_opening 0 = .ok (.iconst 0, 1) := dk_3 (dk_at dksX5_opening_0 0 rfl rfl)
theorem dX5_opening_1 : decode cX5_opening 1 = .ok (.istore_n 3, 1) := dk_62 (dk_at dksX5_opening_0 1 rfl rfl)
theorem dX5_opening_2 : decode cX5_opening 2 = .ok (.iconst 0, 1) := dk_3 (dk_at dksX5_opening_0 2 rfl rfl)
theorem dX5_opening_3 : decode cX5_opening 3 = .ok (.istore 4, 2) := dk_54 4 (dk_at dksX5_opening_0 3 rfl rfl)
theorem dX5_opening_5 : decode cX5_opening 5 = .ok (.iload 4, 2) := dk_21 4 (dk_at dksX5_opening_0 5 rfl rfl)
theorem dX5_opening_7 : decode cX5_opening 7 = .ok (.bipush 48, 2) := dk_16 48 (dk_at dksX5_opening_0 7 rfl rfl)
theorem dX5_opening_9 : decode cX5_opening 9 = .ok (.if_icmp .ge 22, 3) := dk_162 0 22 (dk_at dksX5_opening_0 9 rfl rfl)
theorem dX5_opening_12 : decode cX5_opening 12 = .ok (.iload_n 3, 1) := dk_29 (dk_at dksX5_opening_0 12 rfl rfl)
theorem dX5_opening_13 : decode cX5_opening 13 = .ok (.aload_n 0, 1) := dk_42 (dk_at dksX5_opening_0 13 rfl rfl)
theorem dX5_opening_14 : decode cX5_opening 14 = .ok (.iload 4, 2) := dk_21 4 (dk_at dksX5_opening_0 14 rfl rfl)
theorem dX5_opening_16 : decode cX5_opening 16 = .ok (.iload_n 1, 1) := dk_27 (dk_at dksX5_opening_0 16 rfl rfl)
theorem dX5_opening_17 : decode cX5_opening 17 = .ok (.iload_n 2, 1) := dk_28 (dk_at dksX5_opening_0 17 rfl rfl)
theorem dX5_opening_18 : decode cX5_opening 18 = .ok (.invokevirtual 296, 3) := dk_182 1 40 (dk_at dksX5_opening_0 18 rfl rfl)
theorem dX5_opening_21 : decode cX5_opening 21 = .ok (.invokestatic 242, 3) := dk_184 0 242 (dk_at dksX5_opening_0 21 rfl rfl)
theorem dX5_opening_24 : decode cX5_opening 24 = .ok (.istore_n 3, 1) := dk_62 (dk_at dksX5_opening_1 0 rfl rfl)
theorem dX5_opening_25 : decode cX5_opening 25 = .ok (.iinc 4 1, 3) := dk_132 4 1 (dk_at dksX5_opening_1 1 rfl rfl)
theorem dX5_opening_28 : decode cX5_opening 28 = .ok (.goto (-23), 3) := dk_167 255 233 (dk_at dksX5_opening_1 4 rfl rfl)
theorem dX5_opening_31 : decode cX5_opening 31 = .ok (.iload_n 3, 1) := dk_29 (dk_at dksX5_opening_1 7 rfl rfl)
theorem dX5_opening_32 : decode cX5_opening 32 = .ok (.ireturn, 1) := dk_172 (dk_at dksX5_opening_1 8 rfl rfl)
abbrev cX5_sumAt : ByteArray := prog_19_method_55_code
def yX5_sumAt : MethodName := ⟨RX5, "sumAt", "(III)I"⟩
def dkwX5_sumAt_1 : List UInt8 := [21, 4, 182, 1, 37, 96, 172]
abbrev dktX5_sumAt_1 : List UInt8 := dkwX5_sumAt_1 ++ []
def dkwX5_sumAt_0 : List UInt8 := [27, 28, 29, 184, 1, 31, 54, 4, 21, 4, 2, 160, 0, 7, 2, 167, 0, 15, 42, 27, 182, 1, 34, 42]
abbrev dktX5_sumAt_0 : List UInt8 := dkwX5_sumAt_0 ++ dktX5_sumAt_1
theorem dksX5_sumAt_0 : cX5_sumAt.data.toList.drop 0 = dktX5_sumAt_0 := by decide +kernel
theorem dksX5_sumAt_1 : cX5_sumAt.data.toList.drop 24 = dktX5_sumAt_1 := dk_seg dksX5_sumAt_0 24 rfl rfl
theorem dX5_sumAt_0 : decode cX5_sumAt 0 = .ok (.iload_n 1, 1) := dk_27 (dk_at dksX5_sumAt_0 0 rfl rfl)
theorem dX5_sumAt_1 : decode cX5_sumAt 1 = .ok (.iload_n 2, 1) := dk_28 (dk_at dksX5_sumAt_0 1 rfl rfl)
theorem dX5_sumAt_2 : decode cX5_sumAt 2 = .ok (.iload_n 3, 1) := dk_29 (dk_at dksX5_sumAt_0 2 rfl rfl)
theorem dX5_sumAt_3 : decode cX5_sumAt 3 = .ok (.invokestatic 287, 3) := dk_184 1 31 (dk_at dksX5_sumAt_0 3 rfl rfl)
theorem dX5_sumAt_6 : decode cX5_sumAt 6 = .ok (.istore 4, 2) := dk_54 4 (dk_at dksX5_sumAt_0 6 rfl rfl)
theorem dX5_sumAt_8 : decode cX5_sumAt 8 = .ok (.iload 4, 2) := dk_21 4 (dk_at dksX5_sumAt_0 8 rfl rfl)
theorem dX5_sumAt_10 : decode cX5_sumAt 10 = .ok (.iconst (-1), 1) := dk_2 (dk_at dksX5_sumAt_0 10 rfl rfl)
theorem dX5_sumAt_11 : decode cX5_sumAt 11 = .ok (.if_icmp .ne 7, 3) := dk_160 0 7 (dk_at dksX5_sumAt_0 11 rfl rfl)
theorem dX5_sumAt_14 : decode cX5_sumAt 14 = .ok (.iconst (-1), 1) := dk_2 (dk_at dksX5_sumAt_0 14 rfl rfl)
theorem dX5_sumAt_15 : decode cX5_sumAt 15 = .ok (.goto 15, 3) := dk_167 0 15 (dk_at dksX5_sumAt_0 15 rfl rfl)
theorem dX5_sumAt_18 : decode cX5_sumAt 18 = .ok (.aload_n 0, 1) := dk_42 (dk_at dksX5_sumAt_0 18 rfl rfl)
theorem dX5_sumAt_19 : decode cX5_sumAt 19 = .ok (.iload_n 1, 1) := dk_27 (dk_at dksX5_sumAt_0 19 rfl rfl)
theorem dX5_sumAt_20 : decode cX5_sumAt 20 = .ok (.invokevirtual 290, 3) := dk_182 1 34 (dk_at dksX5_sumAt_0 20 rfl rfl)
theorem dX5_sumAt_23 : decode cX5_sumAt 23 = .ok (.aload_n 0, 1) := dk_42 (dk_at dksX5_sumAt_0 23 rfl rfl)
theorem dX5_sumAt_24 : decode cX5_sumAt 24 = .ok (.iload 4, 2) := dk_21 4 (dk_at dksX5_sumAt_1 0 rfl rfl)
theorem dX5_sumAt_26 : decode cX5_sumAt 26 = .ok (.invokevirtual 293, 3) := dk_182 1 37 (dk_at dksX5_sumAt_1 2 rfl rfl)
theorem dX5_sumAt_29 : decode cX5_sumAt 29 = .ok (.iadd, 1) := dk_96 (dk_at dksX5_sumAt_1 5 rfl rfl)
theorem dX5_sumAt_30 : decode cX5_sumAt 30 = .ok (.ireturn, 1) := dk_172 (dk_at dksX5_sumAt_1 6 rfl rfl)
abbrev cX5_against : ByteArray := prog_19_method_54_code
def yX5_against : MethodName := ⟨RX5, "against", "(III)I"⟩
def dkwX5_against_2 : List UInt8 := [172]
abbrev dktX5_against_2 : List UInt8 := dkwX5_against_2 ++ []
def dkwX5_against_1 : List UInt8 := [153, 0, 23, 21, 4, 3, 8, 184, 0, 112, 153, 0, 13, 16, 8, 21, 4, 104, 29, 96, 167, 0, 4, 2]
abbrev dktX5_against_1 : List UInt8 := dkwX5_against_1 ++ dktX5_against_2
def dkwX5_against_0 : List UInt8 := [26, 16, 8, 112, 27, 100, 62, 26, 16, 8, 108, 28, 100, 54, 4, 29, 3, 16, 7, 184, 0, 112]
abbrev dktX5_against_0 : List UInt8 := dkwX5_against_0 ++ dktX5_against_1
theorem dksX5_against_0 : cX5_against.data.toList.drop 0 = dktX5_against_0 := by decide +kernel
theorem dksX5_against_1 : cX5_against.data.toList.drop 22 = dktX5_against_1 := dk_seg dksX5_against_0 22 rfl rfl
theorem dksX5_against_2 : cX5_against.data.toList.drop 46 = dktX5_against_2 := dk_seg dksX5_against_1 24 rfl rfl
theorem dX5_against_0 : decode cX5_against 0 = .ok (.iload_n 0, 1) := dk_26 (dk_at dksX5_against_0 0 rfl rfl)
theorem dX5_against_1 : decode cX5_against 1 = .ok (.bipush 8, 2) := dk_16 8 (dk_at dksX5_against_0 1 rfl rfl)
theorem dX5_against_3 : decode cX5_against 3 = .ok (.irem, 1) := dk_112 (dk_at dksX5_against_0 3 rfl rfl)
theorem dX5_against_4 : decode cX5_against 4 = .ok (.iload_n 1, 1) := dk_27 (dk_at dksX5_against_0 4 rfl rfl)
theorem dX5_against_5 : decode cX5_against 5 = .ok (.isub, 1) := dk_100 (dk_at dksX5_against_0 5 rfl rfl)
theorem dX5_against_6 : decode cX5_against 6 = .ok (.istore_n 3, 1) := dk_62 (dk_at dksX5_against_0 6 rfl rfl)
theorem dX5_against_7 : decode cX5_against 7 = .ok (.iload_n 0, 1) := dk_26 (dk_at dksX5_against_0 7 rfl rfl)
theorem dX5_against_8 : decode cX5_against 8 = .ok (.bipush 8, 2) := dk_16 8 (dk_at dksX5_against_0 8 rfl rfl)
theorem dX5_against_10 : decode cX5_against 10 = .ok (.idiv, 1) := dk_108 (dk_at dksX5_against_0 10 rfl rfl)
theorem dX5_against_11 : decode cX5_against 11 = .ok (.iload_n 2, 1) := dk_28 (dk_at dksX5_against_0 11 rfl rfl)
theorem dX5_against_12 : decode cX5_against 12 = .ok (.isub, 1) := dk_100 (dk_at dksX5_against_0 12 rfl rfl)
theorem dX5_against_13 : decode cX5_against 13 = .ok (.istore 4, 2) := dk_54 4 (dk_at dksX5_against_0 13 rfl rfl)
theorem dX5_against_15 : decode cX5_against 15 = .ok (.iload_n 3, 1) := dk_29 (dk_at dksX5_against_0 15 rfl rfl)
theorem dX5_against_16 : decode cX5_against 16 = .ok (.iconst 0, 1) := dk_3 (dk_at dksX5_against_0 16 rfl rfl)
theorem dX5_against_17 : decode cX5_against 17 = .ok (.bipush 7, 2) := dk_16 7 (dk_at dksX5_against_0 17 rfl rfl)
theorem dX5_against_19 : decode cX5_against 19 = .ok (.invokestatic 112, 3) := dk_184 0 112 (dk_at dksX5_against_0 19 rfl rfl)
theorem dX5_against_22 : decode cX5_against 22 = .ok (.ifCond .eq 23, 3) := dk_153 0 23 (dk_at dksX5_against_1 0 rfl rfl)
theorem dX5_against_25 : decode cX5_against 25 = .ok (.iload 4, 2) := dk_21 4 (dk_at dksX5_against_1 3 rfl rfl)
theorem dX5_against_27 : decode cX5_against 27 = .ok (.iconst 0, 1) := dk_3 (dk_at dksX5_against_1 5 rfl rfl)
theorem dX5_against_28 : decode cX5_against 28 = .ok (.iconst 5, 1) := dk_8 (dk_at dksX5_against_1 6 rfl rfl)
theorem dX5_against_29 : decode cX5_against 29 = .ok (.invokestatic 112, 3) := dk_184 0 112 (dk_at dksX5_against_1 7 rfl rfl)
theorem dX5_against_32 : decode cX5_against 32 = .ok (.ifCond .eq 13, 3) := dk_153 0 13 (dk_at dksX5_against_1 10 rfl rfl)
theorem dX5_against_35 : decode cX5_against 35 = .ok (.bipush 8, 2) := dk_16 8 (dk_at dksX5_against_1 13 rfl rfl)
theorem dX5_against_37 : decode cX5_against 37 = .ok (.iload 4, 2) := dk_21 4 (dk_at dksX5_against_1 15 rfl rfl)
theorem dX5_against_39 : decode cX5_against 39 = .ok (.imul, 1) := dk_104 (dk_at dksX5_against_1 17 rfl rfl)
theorem dX5_against_40 : decode cX5_against 40 = .ok (.iload_n 3, 1) := dk_29 (dk_at dksX5_against_1 18 rfl rfl)
theorem dX5_against_41 : decode cX5_against 41 = .ok (.iadd, 1) := dk_96 (dk_at dksX5_against_1 19 rfl rfl)
theorem dX5_against_42 : decode cX5_against 42 = .ok (.goto 4, 3) := dk_167 0 4 (dk_at dksX5_against_1 20 rfl rfl)
theorem dX5_against_45 : decode cX5_against 45 = .ok (.iconst (-1), 1) := dk_2 (dk_at dksX5_against_1 23 rfl rfl)
theorem dX5_against_46 : decode cX5_against 46 = .ok (.ireturn, 1) := dk_172 (dk_at dksX5_against_2 0 rfl rfl)
abbrev cX5_upperAt : ByteArray := prog_19_method_14_code
def yX5_upperAt : MethodName := ⟨RX5, "upperAt", "(I)I"⟩
def dkwX5_upperAt_0 : List UInt8 := [42, 180, 0, 7, 16, 48, 27, 96, 46, 172]
abbrev dktX5_upperAt_0 : List UInt8 := dkwX5_upperAt_0 ++ []
theorem dksX5_upperAt_0 : cX5_upperAt.data.toList.drop 0 = dktX5_upperAt_0 := by decide +kernel
theorem dX5_upperAt_0 : decode cX5_upperAt 0 = .ok (.aload_n 0, 1) := dk_42 (dk_at dksX5_upperAt_0 0 rfl rfl)
theorem dX5_upperAt_1 : decode cX5_upperAt 1 = .ok (.getfield 7, 3) := dk_180 0 7 (dk_at dksX5_upperAt_0 1 rfl rfl)
theorem dX5_upperAt_4 : decode cX5_upperAt 4 = .ok (.bipush 48, 2) := dk_16 48 (dk_at dksX5_upperAt_0 4 rfl rfl)
theorem dX5_upperAt_6 : decode cX5_upperAt 6 = .ok (.iload_n 1, 1) := dk_27 (dk_at dksX5_upperAt_0 6 rfl rfl)
theorem dX5_upperAt_7 : decode cX5_upperAt 7 = .ok (.iadd, 1) := dk_96 (dk_at dksX5_upperAt_0 7 rfl rfl)
theorem dX5_upperAt_8 : decode cX5_upperAt 8 = .ok (.iaload, 1) := dk_46 (dk_at dksX5_upperAt_0 8 rfl rfl)
theorem dX5_upperAt_9 : decode cX5_upperAt 9 = .ok (.ireturn, 1) := dk_172 (dk_at dksX5_upperAt_0 9 rfl rfl)
abbrev cX5_lowerAt : ByteArray := prog_19_method_13_code
def yX5_lowerAt : MethodName := ⟨RX5, "lowerAt", "(I)I"⟩
def dkwX5_lowerAt_0 : List UInt8 := [42, 180, 0, 7, 27, 46, 172]
abbrev dktX5_lowerAt_0 : List UInt8 := dkwX5_lowerAt_0 ++ []
theorem dksX5_lowerAt_0 : cX5_lowerAt.data.toList.drop 0 = dktX5_lowerAt_0 := by decide +kernel
theorem dX5_lowerAt_0 : decode cX5_lowerAt 0 = .ok (.aload_n 0, 1) := dk_42 (dk_at dksX5_lowerAt_0 0 rfl rfl)
theorem dX5_lowerAt_1 : decode cX5_lowerAt 1 = .ok (.getfield 7, 3) := dk_180 0 7 (dk_at dksX5_lowerAt_0 1 rfl rfl)
theorem dX5_lowerAt_4 : decode cX5_lowerAt 4 = .ok (.iload_n 1, 1) := dk_27 (dk_at dksX5_lowerAt_0 4 rfl rfl)
theorem dX5_lowerAt_5 : decode cX5_lowerAt 5 = .ok (.iaload, 1) := dk_46 (dk_at dksX5_lowerAt_0 5 rfl rfl)
theorem dX5_lowerAt_6 : decode cX5_lowerAt 6 = .ok (.ireturn, 1) := dk_172 (dk_at dksX5_lowerAt_0 6 rfl rfl)
abbrev cX5_max : ByteArray := prog_19_method_4_code
def yX5_max : MethodName := ⟨RX5, "max", "(II)I"⟩
def dkwX5_max_0 : List UInt8 := [26, 27, 164, 0, 7, 26, 167, 0, 4, 27, 172]
abbrev dktX5_max_0 : List UInt8 := dkwX5_max_0 ++ []
theorem dksX5_max_0 : cX5_max.data.toList.drop 0 = dktX5_max_0 := by decide +kernel
theorem dX5_max_0 : decode cX5_max 0 = .ok (.iload_n 0, 1) := dk_26 (dk_at dksX5_max_0 0 rfl rfl)
theorem dX5_max_1 : decode cX5_max 1 = .ok (.iload_n 1, 1) := dk_27 (dk_at dksX5_max_0 1 rfl rfl)
theorem dX5_max_2 : decode cX5_max 2 = .ok (.if_icmp .le 7, 3) := dk_164 0 7 (dk_at dksX5_max_0 2 rfl rfl)
theorem dX5_max_5 : decode cX5_max 5 = .ok (.iload_n 0, 1) := dk_26 (dk_at dksX5_max_0 5 rfl rfl)
theorem dX5_max_6 : decode cX5_max 6 = .ok (.goto 4, 3) := dk_167 0 4 (dk_at dksX5_max_0 6 rfl rfl)
theorem dX5_max_9 : decode cX5_max 9 = .ok (.iload_n 1, 1) := dk_27 (dk_at dksX5_max_0 9 rfl rfl)
theorem dX5_max_10 : decode cX5_max 10 = .ok (.ireturn, 1) := dk_172 (dk_at dksX5_max_0 10 rfl rfl)
abbrev cX5_marks : ByteArray := prog_19_method_58_code
def yX5_marks : MethodName := ⟨RX5, "marks", "(III)I"⟩
def dkwX5_marks_3 : List UInt8 := [167, 255, 205, 21, 5, 172]
abbrev dktX5_marks_3 : List UInt8 := dkwX5_marks_3 ++ []
def dkwX5_marks_2 : List UInt8 := [167, 0, 4, 3, 84, 42, 180, 0, 81, 21, 6, 51, 153, 0, 9, 21, 5, 4, 96, 54, 5, 132, 6, 1]
abbrev dktX5_marks_2 : List UInt8 := dkwX5_marks_2 ++ dktX5_marks_3
def dkwX5_marks_1 : List UInt8 := [162, 0, 50, 42, 180, 0, 81, 21, 6, 42, 21, 6, 27, 28, 182, 1, 40, 21, 4, 161, 0, 7, 4]
abbrev dktX5_marks_1 : List UInt8 := dkwX5_marks_1 ++ dktX5_marks_2
def dkwX5_marks_0 : List UInt8 := [3, 42, 27, 28, 182, 1, 43, 29, 100, 184, 0, 242, 54, 4, 3, 54, 5, 3, 54, 6, 21, 6, 16, 48]
abbrev dktX5_marks_0 : List UInt8 := dkwX5_marks_0 ++ dktX5_marks_1
theorem dksX5_marks_0 : cX5_marks.data.toList.drop 0 = dktX5_marks_0 := by decide +kernel
theorem dksX5_marks_1 : cX5_marks.data.toList.drop 24 = dktX5_marks_1 := dk_seg dksX5_marks_0 24 rfl rfl
theorem dksX5_marks_2 : cX5_marks.data.toList.drop 47 = dktX5_marks_2 := dk_seg dksX5_marks_1 23 rfl rfl
theorem dksX5_marks_3 : cX5_marks.data.toList.drop 71 = dktX5_marks_3 := dk_seg dksX5_marks_2 24 rfl rfl
theorem dX5_marks_0 : decode cX5_marks 0 = .ok (.iconst 0, 1) := dk_3 (dk_at dksX5_marks_0 0 rfl rfl)
theorem dX5_marks_1 : decode cX5_marks 1 = .ok (.aload_n 0, 1) := dk_42 (dk_at dksX5_marks_0 1 rfl rfl)
theorem dX5_marks_2 : decode cX5_marks 2 = .ok (.iload_n 1, 1) := dk_27 (dk_at dksX5_marks_0 2 rfl rfl)
theorem dX5_marks_3 : decode cX5_marks 3 = .ok (.iload_n 2, 1) := dk_28 (dk_at dksX5_marks_0 3 rfl rfl)
theorem dX5_marks_4 : decode cX5_marks 4 = .ok (.invokevirtual 299, 3) := dk_182 1 43 (dk_at dksX5_marks_0 4 rfl rfl)
theorem dX5_marks_7 : decode cX5_marks 7 = .ok (.iload_n 3, 1) := dk_29 (dk_at dksX5_marks_0 7 rfl rfl)
theorem dX5_marks_8 : decode cX5_marks 8 = .ok (.isub, 1) := dk_100 (dk_at dksX5_marks_0 8 rfl rfl)
theorem dX5_marks_9 : decode cX5_marks 9 = .ok (.invokestatic 242, 3) := dk_184 0 242 (dk_at dksX5_marks_0 9 rfl rfl)
theorem dX5_marks_12 : decode cX5_marks 12 = .ok (.istore 4, 2) := dk_54 4 (dk_at dksX5_marks_0 12 rfl rfl)
theorem dX5_marks_14 : decode cX5_marks 14 = .ok (.iconst 0, 1) := dk_3 (dk_at dksX5_marks_0 14 rfl rfl)
theorem dX5_marks_15 : decode cX5_marks 15 = .ok (.istore 5, 2) := dk_54 5 (dk_at dksX5_marks_0 15 rfl rfl)
theorem dX5_marks_17 : decode cX5_marks 17 = .ok (.iconst 0, 1) := dk_3 (dk_at dksX5_marks_0 17 rfl rfl)
theorem dX5_marks_18 : decode cX5_marks 18 = .ok (.istore 6, 2) := dk_54 6 (dk_at dksX5_marks_0 18 rfl rfl)
theorem dX5_marks_20 : decode cX5_marks 20 = .ok (.iload 6, 2) := dk_21 6 (dk_at dksX5_marks_0 20 rfl rfl)
theorem dX5_marks_22 : decode cX5_marks 22 = .ok (.bipush 48, 2) := dk_16 48 (dk_at dksX5_marks_0 22 rfl rfl)
theorem dX5_marks_24 : decode cX5_marks 24 = .ok (.if_icmp .ge 50, 3) := dk_162 0 50 (dk_at dksX5_marks_1 0 rfl rfl)
theorem dX5_marks_27 : decode cX5_marks 27 = .ok (.aload_n 0, 1) := dk_42 (dk_at dksX5_marks_1 3 rfl rfl)
theorem dX5_marks_28 : decode cX5_marks 28 = .ok (.getfield 81, 3) := dk_180 0 81 (dk_at dksX5_marks_1 4 rfl rfl)
theorem dX5_marks_31 : decode cX5_marks 31 = .ok (.iload 6, 2) := dk_21 6 (dk_at dksX5_marks_1 7 rfl rfl)
theorem dX5_marks_33 : decode cX5_marks 33 = .ok (.aload_n 0, 1) := dk_42 (dk_at dksX5_marks_1 9 rfl rfl)
theorem dX5_marks_34 : decode cX5_marks 34 = .ok (.iload 6, 2) := dk_21 6 (dk_at dksX5_marks_1 10 rfl rfl)
theorem dX5_marks_36 : decode cX5_marks 36 = .ok (.iload_n 1, 1) := dk_27 (dk_at dksX5_marks_1 12 rfl rfl)
theorem dX5_marks_37 : decode cX5_marks 37 = .ok (.iload_n 2, 1) := dk_28 (dk_at dksX5_marks_1 13 rfl rfl)
theorem dX5_marks_38 : decode cX5_marks 38 = .ok (.invokevirtual 296, 3) := dk_182 1 40 (dk_at dksX5_marks_1 14 rfl rfl)
theorem dX5_marks_41 : decode cX5_marks 41 = .ok (.iload 4, 2) := dk_21 4 (dk_at dksX5_marks_1 17 rfl rfl)
theorem dX5_marks_43 : decode cX5_marks 43 = .ok (.if_icmp .lt 7, 3) := dk_161 0 7 (dk_at dksX5_marks_1 19 rfl rfl)
theorem dX5_marks_46 : decode cX5_marks 46 = .ok (.iconst 1, 1) := dk_4 (dk_at dksX5_marks_1 22 rfl rfl)
theorem dX5_marks_47 : decode cX5_marks 47 = .ok (.goto 4, 3) := dk_167 0 4 (dk_at dksX5_marks_2 0 rfl rfl)
theorem dX5_marks_50 : decode cX5_marks 50 = .ok (.iconst 0, 1) := dk_3 (dk_at dksX5_marks_2 3 rfl rfl)
theorem dX5_marks_51 : decode cX5_marks 51 = .ok (.bastore, 1) := dk_84 (dk_at dksX5_marks_2 4 rfl rfl)
theorem dX5_marks_52 : decode cX5_marks 52 = .ok (.aload_n 0, 1) := dk_42 (dk_at dksX5_marks_2 5 rfl rfl)
theorem dX5_marks_53 : decode cX5_marks 53 = .ok (.getfield 81, 3) := dk_180 0 81 (dk_at dksX5_marks_2 6 rfl rfl)
theorem dX5_marks_56 : decode cX5_marks 56 = .ok (.iload 6, 2) := dk_21 6 (dk_at dksX5_marks_2 9 rfl rfl)
theorem dX5_marks_58 : decode cX5_marks 58 = .ok (.baload, 1) := dk_51 (dk_at dksX5_marks_2 11 rfl rfl)
theorem dX5_marks_59 : decode cX5_marks 59 = .ok (.ifCond .eq 9, 3) := dk_153 0 9 (dk_at dksX5_marks_2 12 rfl rfl)
theorem dX5_marks_62 : decode cX5_marks 62 = .ok (.iload 5, 2) := dk_21 5 (dk_at dksX5_marks_2 15 rfl rfl)
theorem dX5_marks_64 : decode cX5_marks 64 = .ok (.iconst 1, 1) := dk_4 (dk_at dksX5_marks_2 17 rfl rfl)
theorem dX5_marks_65 : decode cX5_marks 65 = .ok (.iadd, 1) := dk_96 (dk_at dksX5_marks_2 18 rfl rfl)
theorem dX5_marks_66 : decode cX5_marks 66 = .ok (.istore 5, 2) := dk_54 5 (dk_at dksX5_marks_2 19 rfl rfl)
theorem dX5_marks_68 : decode cX5_marks 68 = .ok (.iinc 6 1, 3) := dk_132 6 1 (dk_at dksX5_marks_2 21 rfl rfl)
theorem dX5_marks_71 : decode cX5_marks 71 = .ok (.goto (-51), 3) := dk_167 255 205 (dk_at dksX5_marks_3 0 rfl rfl)
theorem dX5_marks_74 : decode cX5_marks 74 = .ok (.iload 5, 2) := dk_21 5 (dk_at dksX5_marks_3 3 rfl rfl)
theorem dX5_marks_76 : decode cX5_marks 76 = .ok (.ireturn, 1) := dk_172 (dk_at dksX5_marks_3 5 rfl rfl)
abbrev cX5_firstMarked : ByteArray := prog_19_method_60_code
def yX5_firstMarked : MethodName := ⟨RX5, "firstMarked", "()I"⟩
def dkwX5_firstMarked_0 : List UInt8 := [3, 60, 42, 180, 0, 81, 27, 51, 154, 0, 10, 27, 4, 96, 60, 167, 255, 243, 27, 172]
abbrev dktX5_firstMarked_0 : List UInt8 := dkwX5_firstMarked_0 ++ []
theorem dksX5_firstMarked_0 : cX5_firstMarked.data.toList.drop 0 = dktX5_firstMarked_0 := by decide +kernel
theorem dX5_firstMarked_0 : decode cX5_firstMarked 0 = .ok (.iconst 0, 1) := dk_3 (dk_at dksX5_firstMarked_0 0 rfl rfl)
theorem dX5_firstMarked_1 : decode cX5_firstMarked 1 = .ok (.istore_n 1, 1) := dk_60 (dk_at dksX5_firstMarked_0 1 rfl rfl)
theorem dX5_firstMarked_2 : decode cX5_firstMarked 2 = .ok (.aload_n 0, 1) := dk_42 (dk_at dksX5_firstMarked_0 2 rfl rfl)
theorem dX5_firstMarked_3 : decode cX5_firstMarked 3 = .ok (.getfield 81, 3) := dk_180 0 81 (dk_at dksX5_firstMarked_0 3 rfl rfl)
theorem dX5_firstMarked_6 : decode cX5_firstMarked 6 = .ok (.iload_n 1, 1) := dk_27 (dk_at dksX5_firstMarked_0 6 rfl rfl)
theorem dX5_firstMarked_7 : decode cX5_firstMarked 7 = .ok (.baload, 1) := dk_51 (dk_at dksX5_firstMarked_0 7 rfl rfl)
theorem dX5_firstMarked_8 : decode cX5_firstMarked 8 = .ok (.ifCond .ne 10, 3) := dk_154 0 10 (dk_at dksX5_firstMarked_0 8 rfl rfl)
theorem dX5_firstMarked_11 : decode cX5_firstMarked 11 = .ok (.iload_n 1, 1) := dk_27 (dk_at dksX5_firstMarked_0 11 rfl rfl)
theorem dX5_firstMarked_12 : decode cX5_firstMarked 12 = .ok (.iconst 1, 1) := dk_4 (dk_at dksX5_firstMarked_0 12 rfl rfl)
theorem dX5_firstMarked_13 : decode cX5_firstMarked 13 = .ok (.iadd, 1) := dk_96 (dk_at dksX5_firstMarked_0 13 rfl rfl)
theorem dX5_firstMarked_14 : decode cX5_firstMarked 14 = .ok (.istore_n 1, 1) := dk_60 (dk_at dksX5_firstMarked_0 14 rfl rfl)
theorem dX5_firstMarked_15 : decode cX5_firstMarked 15 = .ok (.goto (-13), 3) := dk_167 255 243 (dk_at dksX5_firstMarked_0 15 rfl rfl)
theorem dX5_firstMarked_18 : decode cX5_firstMarked 18 = .ok (.iload_n 1, 1) := dk_27 (dk_at dksX5_firstMarked_0 18 rfl rfl)
theorem dX5_firstMarked_19 : decode cX5_firstMarked 19 = .ok (.ireturn, 1) := dk_172 (dk_at dksX5_firstMarked_0 19 rfl rfl)
abbrev cX5_facing : ByteArray := prog_19_method_59_code
def yX5_facing : MethodName := ⟨RX5, "facing", "(II)I"⟩
def dkwX5_facing_1 : List UInt8 := [167, 0, 4, 27, 100, 62, 28, 29, 104, 172]
abbrev dktX5_facing_1 : List UInt8 := dkwX5_facing_1 ++ []
def dkwX5_facing_0 : List UInt8 := [16, 8, 26, 156, 0, 8, 26, 116, 167, 0, 4, 26, 100, 61, 16, 6, 27, 156, 0, 8, 27, 116]
abbrev dktX5_facing_0 : List UInt8 := dkwX5_facing_0 ++ dktX5_facing_1
theorem dksX5_facing_0 : cX5_facing.data.toList.drop 0 = dktX5_facing_0 := by decide +kernel
theorem dksX5_facing_1 : cX5_facing.data.toList.drop 22 = dktX5_facing_1 := dk_seg dksX5_facing_0 22 rfl rfl
theorem dX5_facing_0 : decode cX5_facing 0 = .ok (.bipush 8, 2) := dk_16 8 (dk_at dksX5_facing_0 0 rfl rfl)
theorem dX5_facing_2 : decode cX5_facing 2 = .ok (.iload_n 0, 1) := dk_26 (dk_at dksX5_facing_0 2 rfl rfl)
theorem dX5_facing_3 : decode cX5_facing 3 = .ok (.ifCond .ge 8, 3) := dk_156 0 8 (dk_at dksX5_facing_0 3 rfl rfl)
theorem dX5_facing_6 : decode cX5_facing 6 = .ok (.iload_n 0, 1) := dk_26 (dk_at dksX5_facing_0 6 rfl rfl)
theorem dX5_facing_7 : decode cX5_facing 7 = .ok (.ineg, 1) := dk_116 (dk_at dksX5_facing_0 7 rfl rfl)
theorem dX5_facing_8 : decode cX5_facing 8 = .ok (.goto 4, 3) := dk_167 0 4 (dk_at dksX5_facing_0 8 rfl rfl)
theorem dX5_facing_11 : decode cX5_facing 11 = .ok (.iload_n 0, 1) := dk_26 (dk_at dksX5_facing_0 11 rfl rfl)
theorem dX5_facing_12 : decode cX5_facing 12 = .ok (.isub, 1) := dk_100 (dk_at dksX5_facing_0 12 rfl rfl)
theorem dX5_facing_13 : decode cX5_facing 13 = .ok (.istore_n 2, 1) := dk_61 (dk_at dksX5_facing_0 13 rfl rfl)
theorem dX5_facing_14 : decode cX5_facing 14 = .ok (.bipush 6, 2) := dk_16 6 (dk_at dksX5_facing_0 14 rfl rfl)
theorem dX5_facing_16 : decode cX5_facing 16 = .ok (.iload_n 1, 1) := dk_27 (dk_at dksX5_facing_0 16 rfl rfl)
theorem dX5_facing_17 : decode cX5_facing 17 = .ok (.ifCond .ge 8, 3) := dk_156 0 8 (dk_at dksX5_facing_0 17 rfl rfl)
theorem dX5_facing_20 : decode cX5_facing 20 = .ok (.iload_n 1, 1) := dk_27 (dk_at dksX5_facing_0 20 rfl rfl)
theorem dX5_facing_21 : decode cX5_facing 21 = .ok (.ineg, 1) := dk_116 (dk_at dksX5_facing_0 21 rfl rfl)
theorem dX5_facing_22 : decode cX5_facing 22 = .ok (.goto 4, 3) := dk_167 0 4 (dk_at dksX5_facing_1 0 rfl rfl)
theorem dX5_facing_25 : decode cX5_facing 25 = .ok (.iload_n 1, 1) := dk_27 (dk_at dksX5_facing_1 3 rfl rfl)
theorem dX5_facing_26 : decode cX5_facing 26 = .ok (.isub, 1) := dk_100 (dk_at dksX5_facing_1 4 rfl rfl)
theorem dX5_facing_27 : decode cX5_facing 27 = .ok (.istore_n 3, 1) := dk_62 (dk_at dksX5_facing_1 5 rfl rfl)
theorem dX5_facing_28 : decode cX5_facing 28 = .ok (.iload_n 2, 1) := dk_28 (dk_at dksX5_facing_1 6 rfl rfl)
theorem dX5_facing_29 : decode cX5_facing 29 = .ok (.iload_n 3, 1) := dk_29 (dk_at dksX5_facing_1 7 rfl rfl)
theorem dX5_facing_30 : decode cX5_facing 30 = .ok (.imul, 1) := dk_104 (dk_at dksX5_facing_1 8 rfl rfl)
theorem dX5_facing_31 : decode cX5_facing 31 = .ok (.ireturn, 1) := dk_172 (dk_at dksX5_facing_1 9 rfl rfl)
abbrev cX5_greatestGap : ByteArray := prog_19_method_61_code
def yX5_greatestGap : MethodName := ⟨RX5, "greatestGap", "(II)I"⟩
def dkwX5_greatestGap_2 : List UInt8 := [28, 182, 1, 43, 29, 100, 172]
abbrev dktX5_greatestGap_2 : List UInt8 := dkwX5_greatestGap_2 ++ []
def dkwX5_greatestGap_1 : List UInt8 := [159, 0, 16, 29, 42, 21, 4, 27, 28, 182, 1, 40, 184, 0, 239, 62, 132, 4, 1, 167, 255, 222, 42, 27]
abbrev dktX5_greatestGap_1 : List UInt8 := dkwX5_greatestGap_1 ++ dktX5_greatestGap_2
def dkwX5_greatestGap_0 : List UInt8 := [19, 1, 46, 62, 3, 54, 4, 21, 4, 16, 48, 162, 0, 33, 21, 4, 27, 28, 184, 1, 31, 2]
abbrev dktX5_greatestGap_0 : List UInt8 := dkwX5_greatestGap_0 ++ dktX5_greatestGap_1
theorem dksX5_greatestGap_0 : cX5_greatestGap.data.toList.drop 0 = dktX5_greatestGap_0 := by decide +kernel
theorem dksX5_greatestGap_1 : cX5_greatestGap.data.toList.drop 22 = dktX5_greatestGap_1 := dk_seg dksX5_greatestGap_0 22 rfl rfl
theorem dksX5_greatestGap_2 : cX5_greatestGap.data.toList.drop 46 = dktX5_greatestGap_2 := dk_seg dksX5_greatestGap_1 24 rfl rfl
theorem dX5_greatestGap_0 : decode cX5_greatestGap 0 = .ok (.ldc_w 302, 3) := dk_19 1 46 (dk_at dksX5_greatestGap_0 0 rfl rfl)
theorem dX5_greatestGap_3 : decode cX5_greatestGap 3 = .ok (.istore_n 3, 1) := dk_62 (dk_at dksX5_greatestGap_0 3 rfl rfl)
theorem dX5_greatestGap_4 : decode cX5_greatestGap 4 = .ok (.iconst 0, 1) := dk_3 (dk_at dksX5_greatestGap_0 4 rfl rfl)
theorem dX5_greatestGap_5 : decode cX5_greatestGap 5 = .ok (.istore 4, 2) := dk_54 4 (dk_at dksX5_greatestGap_0 5 rfl rfl)
theorem dX5_greatestGap_7 : decode cX5_greatestGap 7 = .ok (.iload 4, 2) := dk_21 4 (dk_at dksX5_greatestGap_0 7 rfl rfl)
theorem dX5_greatestGap_9 : decode cX5_greatestGap 9 = .ok (.bipush 48, 2) := dk_16 48 (dk_at dksX5_greatestGap_0 9 rfl rfl)
theorem dX5_greatestGap_11 : decode cX5_greatestGap 11 = .ok (.if_icmp .ge 33, 3) := dk_162 0 33 (dk_at dksX5_greatestGap_0 11 rfl rfl)
theorem dX5_greatestGap_14 : decode cX5_greatestGap 14 = .ok (.iload 4, 2) := dk_21 4 (dk_at dksX5_greatestGap_0 14 rfl rfl)
theorem dX5_greatestGap_16 : decode cX5_greatestGap 16 = .ok (.iload_n 1, 1) := dk_27 (dk_at dksX5_greatestGap_0 16 rfl rfl)
theorem dX5_greatestGap_17 : decode cX5_greatestGap 17 = .ok (.iload_n 2, 1) := dk_28 (dk_at dksX5_greatestGap_0 17 rfl rfl)
theorem dX5_greatestGap_18 : decode cX5_greatestGap 18 = .ok (.invokestatic 287, 3) := dk_184 1 31 (dk_at dksX5_greatestGap_0 18 rfl rfl)
theorem dX5_greatestGap_21 : decode cX5_greatestGap 21 = .ok (.iconst (-1), 1) := dk_2 (dk_at dksX5_greatestGap_0 21 rfl rfl)
theorem dX5_greatestGap_22 : decode cX5_greatestGap 22 = .ok (.if_icmp .eq 16, 3) := dk_159 0 16 (dk_at dksX5_greatestGap_1 0 rfl rfl)
theorem dX5_greatestGap_25 : decode cX5_greatestGap 25 = .ok (.iload_n 3, 1) := dk_29 (dk_at dksX5_greatestGap_1 3 rfl rfl)
theorem dX5_greatestGap_26 : decode cX5_greatestGap 26 = .ok (.aload_n 0, 1) := dk_42 (dk_at dksX5_greatestGap_1 4 rfl rfl)
theorem dX5_greatestGap_27 : decode cX5_greatestGap 27 = .ok (.iload 4, 2) := dk_21 4 (dk_at dksX5_greatestGap_1 5 rfl rfl)
theorem dX5_greatestGap_29 : decode cX5_greatestGap 29 = .ok (.iload_n 1, 1) := dk_27 (dk_at dksX5_greatestGap_1 7 rfl rfl)
theorem dX5_greatestGap_30 : decode cX5_greatestGap 30 = .ok (.iload_n 2, 1) := dk_28 (dk_at dksX5_greatestGap_1 8 rfl rfl)
theorem dX5_greatestGap_31 : decode cX5_greatestGap 31 = .ok (.invokevirtual 296, 3) := dk_182 1 40 (dk_at dksX5_greatestGap_1 9 rfl rfl)
theorem dX5_greatestGap_34 : decode cX5_greatestGap 34 = .ok (.invokestatic 239, 3) := dk_184 0 239 (dk_at dksX5_greatestGap_1 12 rfl rfl)
theorem dX5_greatestGap_37 : decode cX5_greatestGap 37 = .ok (.istore_n 3, 1) := dk_62 (dk_at dksX5_greatestGap_1 15 rfl rfl)
theorem dX5_greatestGap_38 : decode cX5_greatestGap 38 = .ok (.iinc 4 1, 3) := dk_132 4 1 (dk_at dksX5_greatestGap_1 16 rfl rfl)
theorem dX5_greatestGap_41 : decode cX5_greatestGap 41 = .ok (.goto (-34), 3) := dk_167 255 222 (dk_at dksX5_greatestGap_1 19 rfl rfl)
theorem dX5_greatestGap_44 : decode cX5_greatestGap 44 = .ok (.aload_n 0, 1) := dk_42 (dk_at dksX5_greatestGap_1 22 rfl rfl)
theorem dX5_greatestGap_45 : decode cX5_greatestGap 45 = .ok (.iload_n 1, 1) := dk_27 (dk_at dksX5_greatestGap_1 23 rfl rfl)
theorem dX5_greatestGap_46 : decode cX5_greatestGap 46 = .ok (.iload_n 2, 1) := dk_28 (dk_at dksX5_greatestGap_2 0 rfl rfl)
theorem dX5_greatestGap_47 : decode cX5_greatestGap 47 = .ok (.invokevirtual 299, 3) := dk_182 1 43 (dk_at dksX5_greatestGap_2 1 rfl rfl)
theorem dX5_greatestGap_50 : decode cX5_greatestGap 50 = .ok (.iload_n 3, 1) := dk_29 (dk_at dksX5_greatestGap_2 4 rfl rfl)
theorem dX5_greatestGap_51 : decode cX5_greatestGap 51 = .ok (.isub, 1) := dk_100 (dk_at dksX5_greatestGap_2 5 rfl rfl)
theorem dX5_greatestGap_52 : decode cX5_greatestGap 52 = .ok (.ireturn, 1) := dk_172 (dk_at dksX5_greatestGap_2 6 rfl rfl)
abbrev cX5_min : ByteArray := prog_19_method_3_code
def yX5_min : MethodName := ⟨RX5, "min", "(II)I"⟩
def dkwX5_min_0 : List UInt8 := [26, 27, 162, 0, 7, 26, 167, 0, 4, 27, 172]
abbrev dktX5_min_0 : List UInt8 := dkwX5_min_0 ++ []
theorem dksX5_min_0 : cX5_min.data.toList.drop 0 = dktX5_min_0 := by decide +kernel
theorem dX5_min_0 : decode cX5_min 0 = .ok (.iload_n 0, 1) := dk_26 (dk_at dksX5_min_0 0 rfl rfl)
theorem dX5_min_1 : decode cX5_min 1 = .ok (.iload_n 1, 1) := dk_27 (dk_at dksX5_min_0 1 rfl rfl)
theorem dX5_min_2 : decode cX5_min 2 = .ok (.if_icmp .ge 7, 3) := dk_162 0 7 (dk_at dksX5_min_0 2 rfl rfl)
theorem dX5_min_5 : decode cX5_min 5 = .ok (.iload_n 0, 1) := dk_26 (dk_at dksX5_min_0 5 rfl rfl)
theorem dX5_min_6 : decode cX5_min 6 = .ok (.goto 4, 3) := dk_167 0 4 (dk_at dksX5_min_0 6 rfl rfl)
theorem dX5_min_9 : decode cX5_min 9 = .ok (.iload_n 1, 1) := dk_27 (dk_at dksX5_min_0 9 rfl rfl)
theorem dX5_min_10 : decode cX5_min 10 = .ok (.ireturn, 1) := dk_172 (dk_at dksX5_min_0 10 rfl rfl)
abbrev cX5_best : ByteArray := prog_19_method_63_code
def yX5_best : MethodName := ⟨RX5, "best", "(I)I"⟩
def dkwX5_best_5 : List UInt8 := [29, 167, 0, 15, 27, 5, 160, 0, 8, 21, 4, 167, 0, 5, 21, 5, 172]
abbrev dktX5_best_5 : List UInt8 := dkwX5_best_5 ++ []
def dkwX5_best_4 : List UInt8 := [184, 0, 242, 54, 5, 132, 6, 1, 167, 255, 179, 27, 154, 0, 7, 28, 167, 0, 24, 27, 4, 160, 0, 7]
abbrev dktX5_best_4 : List UInt8 := dkwX5_best_4 ++ dktX5_best_5
def dkwX5_best_3 : List UInt8 := [21, 8, 21, 5, 164, 0, 6, 21, 6, 62, 21, 4, 21, 7, 184, 0, 239, 54, 4, 21, 5, 21, 8]
abbrev dktX5_best_3 : List UInt8 := dkwX5_best_3 ++ dktX5_best_4
def dkwX5_best_2 : List UInt8 := [100, 21, 6, 16, 9, 108, 6, 100, 3, 182, 1, 53, 54, 8, 21, 7, 21, 4, 162, 0, 6, 21, 6, 61]
abbrev dktX5_best_2 : List UInt8 := dkwX5_best_2 ++ dktX5_best_3
def dkwX5_best_1 : List UInt8 := [54, 6, 21, 6, 16, 63, 162, 0, 76, 42, 21, 6, 182, 1, 65, 54, 7, 42, 21, 6, 16, 9, 112, 7]
abbrev dktX5_best_1 : List UInt8 := dkwX5_best_1 ++ dktX5_best_2
def dkwX5_best_0 : List UInt8 := [27, 3, 6, 184, 0, 112, 154, 0, 5, 2, 172, 3, 61, 3, 62, 19, 1, 46, 54, 4, 3, 54, 5, 3]
abbrev dktX5_best_0 : List UInt8 := dkwX5_best_0 ++ dktX5_best_1
theorem dksX5_best_0 : cX5_best.data.toList.drop 0 = dktX5_best_0 := by decide +kernel
theorem dksX5_best_1 : cX5_best.data.toList.drop 24 = dktX5_best_1 := dk_seg dksX5_best_0 24 rfl rfl
theorem dksX5_best_2 : cX5_best.data.toList.drop 48 = dktX5_best_2 := dk_seg dksX5_best_1 24 rfl rfl
theorem dksX5_best_3 : cX5_best.data.toList.drop 72 = dktX5_best_3 := dk_seg dksX5_best_2 24 rfl rfl
theorem dksX5_best_4 : cX5_best.data.toList.drop 95 = dktX5_best_4 := dk_seg dksX5_best_3 23 rfl rfl
theorem dksX5_best_5 : cX5_best.data.toList.drop 119 = dktX5_best_5 := dk_seg dksX5_best_4 24 rfl rfl
theorem dX5_best_0 : decode cX5_best 0 = .ok (.iload_n 1, 1) := dk_27 (dk_at dksX5_best_0 0 rfl rfl)
theorem dX5_best_1 : decode cX5_best 1 = .ok (.iconst 0, 1) := dk_3 (dk_at dksX5_best_0 1 rfl rfl)
theorem dX5_best_2 : decode cX5_best 2 = .ok (.iconst 3, 1) := dk_6 (dk_at dksX5_best_0 2 rfl rfl)
theorem dX5_best_3 : decode cX5_best 3 = .ok (.invokestatic 112, 3) := dk_184 0 112 (dk_at dksX5_best_0 3 rfl rfl)
theorem dX5_best_6 : decode cX5_best 6 = .ok (.ifCond .ne 5, 3) := dk_154 0 5 (dk_at dksX5_best_0 6 rfl rfl)
theorem dX5_best_9 : decode cX5_best 9 = .ok (.iconst (-1), 1) := dk_2 (dk_at dksX5_best_0 9 rfl rfl)
theorem dX5_best_10 : decode cX5_best 10 = .ok (.ireturn, 1) := dk_172 (dk_at dksX5_best_0 10 rfl rfl)
theorem dX5_best_11 : decode cX5_best 11 = .ok (.iconst 0, 1) := dk_3 (dk_at dksX5_best_0 11 rfl rfl)
theorem dX5_best_12 : decode cX5_best 12 = .ok (.istore_n 2, 1) := dk_61 (dk_at dksX5_best_0 12 rfl rfl)
theorem dX5_best_13 : decode cX5_best 13 = .ok (.iconst 0, 1) := dk_3 (dk_at dksX5_best_0 13 rfl rfl)
theorem dX5_best_14 : decode cX5_best 14 = .ok (.istore_n 3, 1) := dk_62 (dk_at dksX5_best_0 14 rfl rfl)
theorem dX5_best_15 : decode cX5_best 15 = .ok (.ldc_w 302, 3) := dk_19 1 46 (dk_at dksX5_best_0 15 rfl rfl)
theorem dX5_best_18 : decode cX5_best 18 = .ok (.istore 4, 2) := dk_54 4 (dk_at dksX5_best_0 18 rfl rfl)
theorem dX5_best_20 : decode cX5_best 20 = .ok (.iconst 0, 1) := dk_3 (dk_at dksX5_best_0 20 rfl rfl)
theorem dX5_best_21 : decode cX5_best 21 = .ok (.istore 5, 2) := dk_54 5 (dk_at dksX5_best_0 21 rfl rfl)
theorem dX5_best_23 : decode cX5_best 23 = .ok (.iconst 0, 1) := dk_3 (dk_at dksX5_best_0 23 rfl rfl)
theorem dX5_best_24 : decode cX5_best 24 = .ok (.istore 6, 2) := dk_54 6 (dk_at dksX5_best_1 0 rfl rfl)
theorem dX5_best_26 : decode cX5_best 26 = .ok (.iload 6, 2) := dk_21 6 (dk_at dksX5_best_1 2 rfl rfl)
theorem dX5_best_28 : decode cX5_best 28 = .ok (.bipush 63, 2) := dk_16 63 (dk_at dksX5_best_1 4 rfl rfl)
theorem dX5_best_30 : decode cX5_best 30 = .ok (.if_icmp .ge 76, 3) := dk_162 0 76 (dk_at dksX5_best_1 6 rfl rfl)
theorem dX5_best_33 : decode cX5_best 33 = .ok (.aload_n 0, 1) := dk_42 (dk_at dksX5_best_1 9 rfl rfl)
theorem dX5_best_34 : decode cX5_best 34 = .ok (.iload 6, 2) := dk_21 6 (dk_at dksX5_best_1 10 rfl rfl)
theorem dX5_best_36 : decode cX5_best 36 = .ok (.invokevirtual 321, 3) := dk_182 1 65 (dk_at dksX5_best_1 12 rfl rfl)
theorem dX5_best_39 : decode cX5_best 39 = .ok (.istore 7, 2) := dk_54 7 (dk_at dksX5_best_1 15 rfl rfl)
theorem dX5_best_41 : decode cX5_best 41 = .ok (.aload_n 0, 1) := dk_42 (dk_at dksX5_best_1 17 rfl rfl)
theorem dX5_best_42 : decode cX5_best 42 = .ok (.iload 6, 2) := dk_21 6 (dk_at dksX5_best_1 18 rfl rfl)
theorem dX5_best_44 : decode cX5_best 44 = .ok (.bipush 9, 2) := dk_16 9 (dk_at dksX5_best_1 20 rfl rfl)
theorem dX5_best_46 : decode cX5_best 46 = .ok (.irem, 1) := dk_112 (dk_at dksX5_best_1 22 rfl rfl)
theorem dX5_best_47 : decode cX5_best 47 = .ok (.iconst 4, 1) := dk_7 (dk_at dksX5_best_1 23 rfl rfl)
theorem dX5_best_48 : decode cX5_best 48 = .ok (.isub, 1) := dk_100 (dk_at dksX5_best_2 0 rfl rfl)
theorem dX5_best_49 : decode cX5_best 49 = .ok (.iload 6, 2) := dk_21 6 (dk_at dksX5_best_2 1 rfl rfl)
theorem dX5_best_51 : decode cX5_best 51 = .ok (.bipush 9, 2) := dk_16 9 (dk_at dksX5_best_2 3 rfl rfl)
theorem dX5_best_53 : decode cX5_best 53 = .ok (.idiv, 1) := dk_108 (dk_at dksX5_best_2 5 rfl rfl)
theorem dX5_best_54 : decode cX5_best 54 = .ok (.iconst 3, 1) := dk_6 (dk_at dksX5_best_2 6 rfl rfl)
theorem dX5_best_55 : decode cX5_best 55 = .ok (.isub, 1) := dk_100 (dk_at dksX5_best_2 7 rfl rfl)
theorem dX5_best_56 : decode cX5_best 56 = .ok (.iconst 0, 1) := dk_3 (dk_at dksX5_best_2 8 rfl rfl)
theorem dX5_best_57 : decode cX5_best 57 = .ok (.invokevirtual 309, 3) := dk_182 1 53 (dk_at dksX5_best_2 9 rfl rfl)
theorem dX5_best_60 : decode cX5_best 60 = .ok (.istore 8, 2) := dk_54 8 (dk_at dksX5_best_2 12 rfl rfl)
theorem dX5_best_62 : decode cX5_best 62 = .ok (.iload 7, 2) := dk_21 7 (dk_at dksX5_best_2 14 rfl rfl)
theorem dX5_best_64 : decode cX5_best 64 = .ok (.iload 4, 2) := dk_21 4 (dk_at dksX5_best_2 16 rfl rfl)
theorem dX5_best_66 : decode cX5_best 66 = .ok (.if_icmp .ge 6, 3) := dk_162 0 6 (dk_at dksX5_best_2 18 rfl rfl)
theorem dX5_best_69 : decode cX5_best 69 = .ok (.iload 6, 2) := dk_21 6 (dk_at dksX5_best_2 21 rfl rfl)
theorem dX5_best_71 : decode cX5_best 71 = .ok (.istore_n 2, 1) := dk_61 (dk_at dksX5_best_2 23 rfl rfl)
theorem dX5_best_72 : decode cX5_best 72 = .ok (.iload 8, 2) := dk_21 8 (dk_at dksX5_best_3 0 rfl rfl)
theorem dX5_best_74 : decode cX5_best 74 = .ok (.iload 5, 2) := dk_21 5 (dk_at dksX5_best_3 2 rfl rfl)
theorem dX5_best_76 : decode cX5_best 76 = .ok (.if_icmp .le 6, 3) := dk_164 0 6 (dk_at dksX5_best_3 4 rfl rfl)
theorem dX5_best_79 : decode cX5_best 79 = .ok (.iload 6, 2) := dk_21 6 (dk_at dksX5_best_3 7 rfl rfl)
theorem dX5_best_81 : decode cX5_best 81 = .ok (.istore_n 3, 1) := dk_62 (dk_at dksX5_best_3 9 rfl rfl)
theorem dX5_best_82 : decode cX5_best 82 = .ok (.iload 4, 2) := dk_21 4 (dk_at dksX5_best_3 10 rfl rfl)
theorem dX5_best_84 : decode cX5_best 84 = .ok (.iload 7, 2) := dk_21 7 (dk_at dksX5_best_3 12 rfl rfl)
theorem dX5_best_86 : decode cX5_best 86 = .ok (.invokestatic 239, 3) := dk_184 0 239 (dk_at dksX5_best_3 14 rfl rfl)
theorem dX5_best_89 : decode cX5_best 89 = .ok (.istore 4, 2) := dk_54 4 (dk_at dksX5_best_3 17 rfl rfl)
theorem dX5_best_91 : decode cX5_best 91 = .ok (.iload 5, 2) := dk_21 5 (dk_at dksX5_best_3 19 rfl rfl)
theorem dX5_best_93 : decode cX5_best 93 = .ok (.iload 8, 2) := dk_21 8 (dk_at dksX5_best_3 21 rfl rfl)
theorem dX5_best_95 : decode cX5_best 95 = .ok (.invokestatic 242, 3) := dk_184 0 242 (dk_at dksX5_best_4 0 rfl rfl)
theorem dX5_best_98 : decode cX5_best 98 = .ok (.istore 5, 2) := dk_54 5 (dk_at dksX5_best_4 3 rfl rfl)
theorem dX5_best_100 : decode cX5_best 100 = .ok (.iinc 6 1, 3) := dk_132 6 1 (dk_at dksX5_best_4 5 rfl rfl)
theorem dX5_best_103 : decode cX5_best 103 = .ok (.goto (-77), 3) := dk_167 255 179 (dk_at dksX5_best_4 8 rfl rfl)
theorem dX5_best_106 : decode cX5_best 106 = .ok (.iload_n 1, 1) := dk_27 (dk_at dksX5_best_4 11 rfl rfl)
theorem dX5_best_107 : decode cX5_best 107 = .ok (.ifCond .ne 7, 3) := dk_154 0 7 (dk_at dksX5_best_4 12 rfl rfl)
theorem dX5_best_110 : decode cX5_best 110 = .ok (.iload_n 2, 1) := dk_28 (dk_at dksX5_best_4 15 rfl rfl)
theorem dX5_best_111 : decode cX5_best 111 = .ok (.goto 24, 3) := dk_167 0 24 (dk_at dksX5_best_4 16 rfl rfl)
theorem dX5_best_114 : decode cX5_best 114 = .ok (.iload_n 1, 1) := dk_27 (dk_at dksX5_best_4 19 rfl rfl)
theorem dX5_best_115 : decode cX5_best 115 = .ok (.iconst 1, 1) := dk_4 (dk_at dksX5_best_4 20 rfl rfl)
theorem dX5_best_116 : decode cX5_best 116 = .ok (.if_icmp .ne 7, 3) := dk_160 0 7 (dk_at dksX5_best_4 21 rfl rfl)
theorem dX5_best_119 : decode cX5_best 119 = .ok (.iload_n 3, 1) := dk_29 (dk_at dksX5_best_5 0 rfl rfl)
theorem dX5_best_120 : decode cX5_best 120 = .ok (.goto 15, 3) := dk_167 0 15 (dk_at dksX5_best_5 1 rfl rfl)
theorem dX5_best_123 : decode cX5_best 123 = .ok (.iload_n 1, 1) := dk_27 (dk_at dksX5_best_5 4 rfl rfl)
theorem dX5_best_124 : decode cX5_best 124 = .ok (.iconst 2, 1) := dk_5 (dk_at dksX5_best_5 5 rfl rfl)
theorem dX5_best_125 : decode cX5_best 125 = .ok (.if_icmp .ne 8, 3) := dk_160 0 8 (dk_at dksX5_best_5 6 rfl rfl)
theorem dX5_best_128 : decode cX5_best 128 = .ok (.iload 4, 2) := dk_21 4 (dk_at dksX5_best_5 9 rfl rfl)
theorem dX5_best_130 : decode cX5_best 130 = .ok (.goto 5, 3) := dk_167 0 5 (dk_at dksX5_best_5 11 rfl rfl)
theorem dX5_best_133 : decode cX5_best 133 = .ok (.iload 5, 2) := dk_21 5 (dk_at dksX5_best_5 14 rfl rfl)
theorem dX5_best_135 : decode cX5_best 135 = .ok (.ireturn, 1) := dk_172 (dk_at dksX5_best_5 16 rfl rfl)
abbrev cX5_openingOf : ByteArray := prog_19_method_57_code
def yX5_openingOf : MethodName := ⟨RX5, "openingOf", "(I)I"⟩
def dkwX5_openingOf_0 : List UInt8 := [42, 27, 16, 9, 112, 7, 100, 27, 16, 9, 108, 6, 100, 182, 1, 43, 172]
abbrev dktX5_openingOf_0 : List UInt8 := dkwX5_openingOf_0 ++ []
theorem dksX5_openingOf_0 : cX5_openingOf.data.toList.drop 0 = dktX5_openingOf_0 := by decide +kernel
theorem dX5_openingOf_0 : decode cX5_openingOf 0 = .ok (.aload_n 0, 1) := dk_42 (dk_at dksX5_openingOf_0 0 rfl rfl)
theorem dX5_openingOf_1 : decode cX5_openingOf 1 = .ok (.iload_n 1, 1) := dk_27 (dk_at dksX5_openingOf_0 1 rfl rfl)
theorem dX5_openingOf_2 : decode cX5_openingOf 2 = .ok (.bipush 9, 2) := dk_16 9 (dk_at dksX5_openingOf_0 2 rfl rfl)
theorem dX5_openingOf_4 : decode cX5_openingOf 4 = .ok (.irem, 1) := dk_112 (dk_at dksX5_openingOf_0 4 rfl rfl)
theorem dX5_openingOf_5 : decode cX5_openingOf 5 = .ok (.iconst 4, 1) := dk_7 (dk_at dksX5_openingOf_0 5 rfl rfl)
theorem dX5_openingOf_6 : decode cX5_openingOf 6 = .ok (.isub, 1) := dk_100 (dk_at dksX5_openingOf_0 6 rfl rfl)
theorem dX5_openingOf_7 : decode cX5_openingOf 7 = .ok (.iload_n 1, 1) := dk_27 (dk_at dksX5_openingOf_0 7 rfl rfl)
theorem dX5_openingOf_8 : decode cX5_openingOf 8 = .ok (.bipush 9, 2) := dk_16 9 (dk_at dksX5_openingOf_0 8 rfl rfl)
theorem dX5_openingOf_10 : decode cX5_openingOf 10 = .ok (.idiv, 1) := dk_108 (dk_at dksX5_openingOf_0 10 rfl rfl)
theorem dX5_openingOf_11 : decode cX5_openingOf 11 = .ok (.iconst 3, 1) := dk_6 (dk_at dksX5_openingOf_0 11 rfl rfl)
theorem dX5_openingOf_12 : decode cX5_openingOf 12 = .ok (.isub, 1) := dk_100 (dk_at dksX5_openingOf_0 12 rfl rfl)
theorem dX5_openingOf_13 : decode cX5_openingOf 13 = .ok (.invokevirtual 299, 3) := dk_182 1 43 (dk_at dksX5_openingOf_0 13 rfl rfl)
theorem dX5_openingOf_16 : decode cX5_openingOf 16 = .ok (.ireturn, 1) := dk_172 (dk_at dksX5_openingOf_0 16 rfl rfl)
abbrev cX5_evenest : ByteArray := prog_19_method_65_code
def yX5_evenest : MethodName := ⟨RX5, "evenest", "(I)I"⟩
def dkwX5_evenest_4 : List UInt8 := [167, 0, 4, 29, 172]
abbrev dktX5_evenest_4 : List UInt8 := dkwX5_evenest_4 ++ []
def dkwX5_evenest_3 : List UInt8 := [184, 1, 59, 104, 162, 0, 9, 21, 4, 61, 21, 5, 62, 132, 4, 1, 167, 255, 192, 27, 154, 0, 7, 28]
abbrev dktX5_evenest_3 : List UInt8 := dkwX5_evenest_3 ++ dktX5_evenest_4
def dkwX5_evenest_2 : List UInt8 := [108, 6, 100, 184, 1, 59, 104, 29, 21, 4, 16, 9, 112, 7, 100, 21, 4, 16, 9, 108, 6, 100]
abbrev dktX5_evenest_2 : List UInt8 := dkwX5_evenest_2 ++ dktX5_evenest_3
def dkwX5_evenest_1 : List UInt8 := [16, 63, 162, 0, 63, 42, 21, 4, 182, 1, 68, 54, 5, 21, 5, 28, 16, 9, 112, 7, 100, 28, 16, 9]
abbrev dktX5_evenest_1 : List UInt8 := dkwX5_evenest_1 ++ dktX5_evenest_2
def dkwX5_evenest_0 : List UInt8 := [27, 3, 4, 184, 0, 112, 154, 0, 5, 2, 172, 3, 61, 42, 3, 182, 1, 68, 62, 4, 54, 4, 21, 4]
abbrev dktX5_evenest_0 : List UInt8 := dkwX5_evenest_0 ++ dktX5_evenest_1
theorem dksX5_evenest_0 : cX5_evenest.data.toList.drop 0 = dktX5_evenest_0 := by decide +kernel
theorem dksX5_evenest_1 : cX5_evenest.data.toList.drop 24 = dktX5_evenest_1 := dk_seg dksX5_evenest_0 24 rfl rfl
theorem dksX5_evenest_2 : cX5_evenest.data.toList.drop 48 = dktX5_evenest_2 := dk_seg dksX5_evenest_1 24 rfl rfl
theorem dksX5_evenest_3 : cX5_evenest.data.toList.drop 70 = dktX5_evenest_3 := dk_seg dksX5_evenest_2 22 rfl rfl
theorem dksX5_evenest_4 : cX5_evenest.data.toList.drop 94 = dktX5_evenest_4 := dk_seg dksX5_evenest_3 24 rfl rfl
theorem dX5_evenest_0 : decode cX5_evenest 0 = .ok (.iload_n 1, 1) := dk_27 (dk_at dksX5_evenest_0 0 rfl rfl)
theorem dX5_evenest_1 : decode cX5_evenest 1 = .ok (.iconst 0, 1) := dk_3 (dk_at dksX5_evenest_0 1 rfl rfl)
theorem dX5_evenest_2 : decode cX5_evenest 2 = .ok (.iconst 1, 1) := dk_4 (dk_at dksX5_evenest_0 2 rfl rfl)
theorem dX5_evenest_3 : decode cX5_evenest 3 = .ok (.invokestatic 112, 3) := dk_184 0 112 (dk_at dksX5_evenest_0 3 rfl rfl)
theorem dX5_evenest_6 : decode cX5_evenest 6 = .ok (.ifCond .ne 5, 3) := dk_154 0 5 (dk_at dksX5_evenest_0 6 rfl rfl)
theorem dX5_evenest_9 : decode cX5_evenest 9 = .ok (.iconst (-1), 1) := dk_2 (dk_at dksX5_evenest_0 9 rfl rfl)
theorem dX5_evenest_10 : decode cX5_evenest 10 = .ok (.ireturn, 1) := dk_172 (dk_at dksX5_evenest_0 10 rfl rfl)
theorem dX5_evenest_11 : decode cX5_evenest 11 = .ok (.iconst 0, 1) := dk_3 (dk_at dksX5_evenest_0 11 rfl rfl)
theorem dX5_evenest_12 : decode cX5_evenest 12 = .ok (.istore_n 2, 1) := dk_61 (dk_at dksX5_evenest_0 12 rfl rfl)
theorem dX5_evenest_13 : decode cX5_evenest 13 = .ok (.aload_n 0, 1) := dk_42 (dk_at dksX5_evenest_0 13 rfl rfl)
theorem dX5_evenest_14 : decode cX5_evenest 14 = .ok (.iconst 0, 1) := dk_3 (dk_at dksX5_evenest_0 14 rfl rfl)
theorem dX5_evenest_15 : decode cX5_evenest 15 = .ok (.invokevirtual 324, 3) := dk_182 1 68 (dk_at dksX5_evenest_0 15 rfl rfl)
theorem dX5_evenest_18 : decode cX5_evenest 18 = .ok (.istore_n 3, 1) := dk_62 (dk_at dksX5_evenest_0 18 rfl rfl)
theorem dX5_evenest_19 : decode cX5_evenest 19 = .ok (.iconst 1, 1) := dk_4 (dk_at dksX5_evenest_0 19 rfl rfl)
theorem dX5_evenest_20 : decode cX5_evenest 20 = .ok (.istore 4, 2) := dk_54 4 (dk_at dksX5_evenest_0 20 rfl rfl)
theorem dX5_evenest_22 : decode cX5_evenest 22 = .ok (.iload 4, 2) := dk_21 4 (dk_at dksX5_evenest_0 22 rfl rfl)
theorem dX5_evenest_24 : decode cX5_evenest 24 = .ok (.bipush 63, 2) := dk_16 63 (dk_at dksX5_evenest_1 0 rfl rfl)
theorem dX5_evenest_26 : decode cX5_evenest 26 = .ok (.if_icmp .ge 63, 3) := dk_162 0 63 (dk_at dksX5_evenest_1 2 rfl rfl)
theorem dX5_evenest_29 : decode cX5_evenest 29 = .ok (.aload_n 0, 1) := dk_42 (dk_at dksX5_evenest_1 5 rfl rfl)
theorem dX5_evenest_30 : decode cX5_evenest 30 = .ok (.iload 4, 2) := dk_21 4 (dk_at dksX5_evenest_1 6 rfl rfl)
theorem dX5_evenest_32 : decode cX5_evenest 32 = .ok (.invokevirtual 324, 3) := dk_182 1 68 (dk_at dksX5_evenest_1 8 rfl rfl)
theorem dX5_evenest_35 : decode cX5_evenest 35 = .ok (.istore 5, 2) := dk_54 5 (dk_at dksX5_evenest_1 11 rfl rfl)
theorem dX5_evenest_37 : decode cX5_evenest 37 = .ok (.iload 5, 2) := dk_21 5 (dk_at dksX5_evenest_1 13 rfl rfl)
theorem dX5_evenest_39 : decode cX5_evenest 39 = .ok (.iload_n 2, 1) := dk_28 (dk_at dksX5_evenest_1 15 rfl rfl)
theorem dX5_evenest_40 : decode cX5_evenest 40 = .ok (.bipush 9, 2) := dk_16 9 (dk_at dksX5_evenest_1 16 rfl rfl)
theorem dX5_evenest_42 : decode cX5_evenest 42 = .ok (.irem, 1) := dk_112 (dk_at dksX5_evenest_1 18 rfl rfl)
theorem dX5_evenest_43 : decode cX5_evenest 43 = .ok (.iconst 4, 1) := dk_7 (dk_at dksX5_evenest_1 19 rfl rfl)
theorem dX5_evenest_44 : decode cX5_evenest 44 = .ok (.isub, 1) := dk_100 (dk_at dksX5_evenest_1 20 rfl rfl)
theorem dX5_evenest_45 : decode cX5_evenest 45 = .ok (.iload_n 2, 1) := dk_28 (dk_at dksX5_evenest_1 21 rfl rfl)
theorem dX5_evenest_46 : decode cX5_evenest 46 = .ok (.bipush 9, 2) := dk_16 9 (dk_at dksX5_evenest_1 22 rfl rfl)
theorem dX5_evenest_48 : decode cX5_evenest 48 = .ok (.idiv, 1) := dk_108 (dk_at dksX5_evenest_2 0 rfl rfl)
theorem dX5_evenest_49 : decode cX5_evenest 49 = .ok (.iconst 3, 1) := dk_6 (dk_at dksX5_evenest_2 1 rfl rfl)
theorem dX5_evenest_50 : decode cX5_evenest 50 = .ok (.isub, 1) := dk_100 (dk_at dksX5_evenest_2 2 rfl rfl)
theorem dX5_evenest_51 : decode cX5_evenest 51 = .ok (.invokestatic 315, 3) := dk_184 1 59 (dk_at dksX5_evenest_2 3 rfl rfl)
theorem dX5_evenest_54 : decode cX5_evenest 54 = .ok (.imul, 1) := dk_104 (dk_at dksX5_evenest_2 6 rfl rfl)
theorem dX5_evenest_55 : decode cX5_evenest 55 = .ok (.iload_n 3, 1) := dk_29 (dk_at dksX5_evenest_2 7 rfl rfl)
theorem dX5_evenest_56 : decode cX5_evenest 56 = .ok (.iload 4, 2) := dk_21 4 (dk_at dksX5_evenest_2 8 rfl rfl)
theorem dX5_evenest_58 : decode cX5_evenest 58 = .ok (.bipush 9, 2) := dk_16 9 (dk_at dksX5_evenest_2 10 rfl rfl)
theorem dX5_evenest_60 : decode cX5_evenest 60 = .ok (.irem, 1) := dk_112 (dk_at dksX5_evenest_2 12 rfl rfl)
theorem dX5_evenest_61 : decode cX5_evenest 61 = .ok (.iconst 4, 1) := dk_7 (dk_at dksX5_evenest_2 13 rfl rfl)
theorem dX5_evenest_62 : decode cX5_evenest 62 = .ok (.isub, 1) := dk_100 (dk_at dksX5_evenest_2 14 rfl rfl)
theorem dX5_evenest_63 : decode cX5_evenest 63 = .ok (.iload 4, 2) := dk_21 4 (dk_at dksX5_evenest_2 15 rfl rfl)
theorem dX5_evenest_65 : decode cX5_evenest 65 = .ok (.bipush 9, 2) := dk_16 9 (dk_at dksX5_evenest_2 17 rfl rfl)
theorem dX5_evenest_67 : decode cX5_evenest 67 = .ok (.idiv, 1) := dk_108 (dk_at dksX5_evenest_2 19 rfl rfl)
theorem dX5_evenest_68 : decode cX5_evenest 68 = .ok (.iconst 3, 1) := dk_6 (dk_at dksX5_evenest_2 20 rfl rfl)
theorem dX5_evenest_69 : decode cX5_evenest 69 = .ok (.isub, 1) := dk_100 (dk_at dksX5_evenest_2 21 rfl rfl)
theorem dX5_evenest_70 : decode cX5_evenest 70 = .ok (.invokestatic 315, 3) := dk_184 1 59 (dk_at dksX5_evenest_3 0 rfl rfl)
theorem dX5_evenest_73 : decode cX5_evenest 73 = .ok (.imul, 1) := dk_104 (dk_at dksX5_evenest_3 3 rfl rfl)
theorem dX5_evenest_74 : decode cX5_evenest 74 = .ok (.if_icmp .ge 9, 3) := dk_162 0 9 (dk_at dksX5_evenest_3 4 rfl rfl)
theorem dX5_evenest_77 : decode cX5_evenest 77 = .ok (.iload 4, 2) := dk_21 4 (dk_at dksX5_evenest_3 7 rfl rfl)
theorem dX5_evenest_79 : decode cX5_evenest 79 = .ok (.istore_n 2, 1) := dk_61 (dk_at dksX5_evenest_3 9 rfl rfl)
theorem dX5_evenest_80 : decode cX5_evenest 80 = .ok (.iload 5, 2) := dk_21 5 (dk_at dksX5_evenest_3 10 rfl rfl)
theorem dX5_evenest_82 : decode cX5_evenest 82 = .ok (.istore_n 3, 1) := dk_62 (dk_at dksX5_evenest_3 12 rfl rfl)
theorem dX5_evenest_83 : decode cX5_evenest 83 = .ok (.iinc 4 1, 3) := dk_132 4 1 (dk_at dksX5_evenest_3 13 rfl rfl)
theorem dX5_evenest_86 : decode cX5_evenest 86 = .ok (.goto (-64), 3) := dk_167 255 192 (dk_at dksX5_evenest_3 16 rfl rfl)
theorem dX5_evenest_89 : decode cX5_evenest 89 = .ok (.iload_n 1, 1) := dk_27 (dk_at dksX5_evenest_3 19 rfl rfl)
theorem dX5_evenest_90 : decode cX5_evenest 90 = .ok (.ifCond .ne 7, 3) := dk_154 0 7 (dk_at dksX5_evenest_3 20 rfl rfl)
theorem dX5_evenest_93 : decode cX5_evenest 93 = .ok (.iload_n 2, 1) := dk_28 (dk_at dksX5_evenest_3 23 rfl rfl)
theorem dX5_evenest_94 : decode cX5_evenest 94 = .ok (.goto 4, 3) := dk_167 0 4 (dk_at dksX5_evenest_4 0 rfl rfl)
theorem dX5_evenest_97 : decode cX5_evenest 97 = .ok (.iload_n 3, 1) := dk_29 (dk_at dksX5_evenest_4 3 rfl rfl)
theorem dX5_evenest_98 : decode cX5_evenest 98 = .ok (.ireturn, 1) := dk_172 (dk_at dksX5_evenest_4 4 rfl rfl)
abbrev cX5_gapsOf : ByteArray := prog_19_method_64_code
def yX5_gapsOf : MethodName := ⟨RX5, "gapsOf", "(I)I"⟩
def dkwX5_gapsOf_3 : List UInt8 := [172]
abbrev dktX5_gapsOf_3 : List UInt8 := dkwX5_gapsOf_3 ++ []
def dkwX5_gapsOf_2 : List UInt8 := [159, 0, 16, 21, 4, 42, 21, 5, 28, 29, 182, 1, 40, 100, 54, 4, 132, 5, 1, 167, 255, 222, 21, 4]
abbrev dktX5_gapsOf_2 : List UInt8 := dkwX5_gapsOf_2 ++ dktX5_gapsOf_3
def dkwX5_gapsOf_1 : List UInt8 := [182, 1, 43, 104, 54, 4, 3, 54, 5, 21, 5, 16, 48, 162, 0, 33, 21, 5, 28, 29, 184, 1, 31, 2]
abbrev dktX5_gapsOf_1 : List UInt8 := dkwX5_gapsOf_1 ++ dktX5_gapsOf_2
def dkwX5_gapsOf_0 : List UInt8 := [27, 16, 9, 112, 7, 100, 61, 27, 16, 9, 108, 6, 100, 62, 28, 29, 184, 1, 59, 42, 28, 29]
abbrev dktX5_gapsOf_0 : List UInt8 := dkwX5_gapsOf_0 ++ dktX5_gapsOf_1
theorem dksX5_gapsOf_0 : cX5_gapsOf.data.toList.drop 0 = dktX5_gapsOf_0 := by decide +kernel
theorem dksX5_gapsOf_1 : cX5_gapsOf.data.toList.drop 22 = dktX5_gapsOf_1 := dk_seg dksX5_gapsOf_0 22 rfl rfl
theorem dksX5_gapsOf_2 : cX5_gapsOf.data.toList.drop 46 = dktX5_gapsOf_2 := dk_seg dksX5_gapsOf_1 24 rfl rfl
theorem dksX5_gapsOf_3 : cX5_gapsOf.data.toList.drop 70 = dktX5_gapsOf_3 := dk_seg dksX5_gapsOf_2 24 rfl rfl
theorem dX5_gapsOf_0 : decode cX5_gapsOf 0 = .ok (.iload_n 1, 1) := dk_27 (dk_at dksX5_gapsOf_0 0 rfl rfl)
theorem dX5_gapsOf_1 : decode cX5_gapsOf 1 = .ok (.bipush 9, 2) := dk_16 9 (dk_at dksX5_gapsOf_0 1 rfl rfl)
theorem dX5_gapsOf_3 : decode cX5_gapsOf 3 = .ok (.irem, 1) := dk_112 (dk_at dksX5_gapsOf_0 3 rfl rfl)
theorem dX5_gapsOf_4 : decode cX5_gapsOf 4 = .ok (.iconst 4, 1) := dk_7 (dk_at dksX5_gapsOf_0 4 rfl rfl)
theorem dX5_gapsOf_5 : decode cX5_gapsOf 5 = .ok (.isub, 1) := dk_100 (dk_at dksX5_gapsOf_0 5 rfl rfl)
theorem dX5_gapsOf_6 : decode cX5_gapsOf 6 = .ok (.istore_n 2, 1) := dk_61 (dk_at dksX5_gapsOf_0 6 rfl rfl)
theorem dX5_gapsOf_7 : decode cX5_gapsOf 7 = .ok (.iload_n 1, 1) := dk_27 (dk_at dksX5_gapsOf_0 7 rfl rfl)
theorem dX5_gapsOf_8 : decode cX5_gapsOf 8 = .ok (.bipush 9, 2) := dk_16 9 (dk_at dksX5_gapsOf_0 8 rfl rfl)
theorem dX5_gapsOf_10 : decode cX5_gapsOf 10 = .ok (.idiv, 1) := dk_108 (dk_at dksX5_gapsOf_0 10 rfl rfl)
theorem dX5_gapsOf_11 : decode cX5_gapsOf 11 = .ok (.iconst 3, 1) := dk_6 (dk_at dksX5_gapsOf_0 11 rfl rfl)
theorem dX5_gapsOf_12 : decode cX5_gapsOf 12 = .ok (.isub, 1) := dk_100 (dk_at dksX5_gapsOf_0 12 rfl rfl)
theorem dX5_gapsOf_13 : decode cX5_gapsOf 13 = .ok (.istore_n 3, 1) := dk_62 (dk_at dksX5_gapsOf_0 13 rfl rfl)
theorem dX5_gapsOf_14 : decode cX5_gapsOf 14 = .ok (.iload_n 2, 1) := dk_28 (dk_at dksX5_gapsOf_0 14 rfl rfl)
theorem dX5_gapsOf_15 : decode cX5_gapsOf 15 = .ok (.iload_n 3, 1) := dk_29 (dk_at dksX5_gapsOf_0 15 rfl rfl)
theorem dX5_gapsOf_16 : decode cX5_gapsOf 16 = .ok (.invokestatic 315, 3) := dk_184 1 59 (dk_at dksX5_gapsOf_0 16 rfl rfl)
theorem dX5_gapsOf_19 : decode cX5_gapsOf 19 = .ok (.aload_n 0, 1) := dk_42 (dk_at dksX5_gapsOf_0 19 rfl rfl)
theorem dX5_gapsOf_20 : decode cX5_gapsOf 20 = .ok (.iload_n 2, 1) := dk_28 (dk_at dksX5_gapsOf_0 20 rfl rfl)
theorem dX5_gapsOf_21 : decode cX5_gapsOf 21 = .ok (.iload_n 3, 1) := dk_29 (dk_at dksX5_gapsOf_0 21 rfl rfl)
theorem dX5_gapsOf_22 : decode cX5_gapsOf 22 = .ok (.invokevirtual 299, 3) := dk_182 1 43 (dk_at dksX5_gapsOf_1 0 rfl rfl)
theorem dX5_gapsOf_25 : decode cX5_gapsOf 25 = .ok (.imul, 1) := dk_104 (dk_at dksX5_gapsOf_1 3 rfl rfl)
theorem dX5_gapsOf_26 : decode cX5_gapsOf 26 = .ok (.istore 4, 2) := dk_54 4 (dk_at dksX5_gapsOf_1 4 rfl rfl)
theorem dX5_gapsOf_28 : decode cX5_gapsOf 28 = .ok (.iconst 0, 1) := dk_3 (dk_at dksX5_gapsOf_1 6 rfl rfl)
theorem dX5_gapsOf_29 : decode cX5_gapsOf 29 = .ok (.istore 5, 2) := dk_54 5 (dk_at dksX5_gapsOf_1 7 rfl rfl)
theorem dX5_gapsOf_31 : decode cX5_gapsOf 31 = .ok (.iload 5, 2) := dk_21 5 (dk_at dksX5_gapsOf_1 9 rfl rfl)
theorem dX5_gapsOf_33 : decode cX5_gapsOf 33 = .ok (.bipush 48, 2) := dk_16 48 (dk_at dksX5_gapsOf_1 11 rfl rfl)
theorem dX5_gapsOf_35 : decode cX5_gapsOf 35 = .ok (.if_icmp .ge 33, 3) := dk_162 0 33 (dk_at dksX5_gapsOf_1 13 rfl rfl)
theorem dX5_gapsOf_38 : decode cX5_gapsOf 38 = .ok (.iload 5, 2) := dk_21 5 (dk_at dksX5_gapsOf_1 16 rfl rfl)
theorem dX5_gapsOf_40 : decode cX5_gapsOf 40 = .ok (.iload_n 2, 1) := dk_28 (dk_at dksX5_gapsOf_1 18 rfl rfl)
theorem dX5_gapsOf_41 : decode cX5_gapsOf 41 = .ok (.iload_n 3, 1) := dk_29 (dk_at dksX5_gapsOf_1 19 rfl rfl)
theorem dX5_gapsOf_42 : decode cX5_gapsOf 42 = .ok (.invokestatic 287, 3) := dk_184 1 31 (dk_at dksX5_gapsOf_1 20 rfl rfl)
theorem dX5_gapsOf_45 : decode cX5_gapsOf 45 = .ok (.iconst (-1), 1) := dk_2 (dk_at dksX5_gapsOf_1 23 rfl rfl)
theorem dX5_gapsOf_46 : decode cX5_gapsOf 46 = .ok (.if_icmp .eq 16, 3) := dk_159 0 16 (dk_at dksX5_gapsOf_2 0 rfl rfl)
theorem dX5_gapsOf_49 : decode cX5_gapsOf 49 = .ok (.iload 4, 2) := dk_21 4 (dk_at dksX5_gapsOf_2 3 rfl rfl)
theorem dX5_gapsOf_51 : decode cX5_gapsOf 51 = .ok (.aload_n 0, 1) := dk_42 (dk_at dksX5_gapsOf_2 5 rfl rfl)
theorem dX5_gapsOf_52 : decode cX5_gapsOf 52 = .ok (.iload 5, 2) := dk_21 5 (dk_at dksX5_gapsOf_2 6 rfl rfl)
theorem dX5_gapsOf_54 : decode cX5_gapsOf 54 = .ok (.iload_n 2, 1) := dk_28 (dk_at dksX5_gapsOf_2 8 rfl rfl)
theorem dX5_gapsOf_55 : decode cX5_gapsOf 55 = .ok (.iload_n 3, 1) := dk_29 (dk_at dksX5_gapsOf_2 9 rfl rfl)
theorem dX5_gapsOf_56 : decode cX5_gapsOf 56 = .ok (.invokevirtual 296, 3) := dk_182 1 40 (dk_at dksX5_gapsOf_2 10 rfl rfl)
theorem dX5_gapsOf_59 : decode cX5_gapsOf 59 = .ok (.isub, 1) := dk_100 (dk_at dksX5_gapsOf_2 13 rfl rfl)
theorem dX5_gapsOf_60 : decode cX5_gapsOf 60 = .ok (.istore 4, 2) := dk_54 4 (dk_at dksX5_gapsOf_2 14 rfl rfl)
theorem dX5_gapsOf_62 : decode cX5_gapsOf 62 = .ok (.iinc 5 1, 3) := dk_132 5 1 (dk_at dksX5_gapsOf_2 16 rfl rfl)
theorem dX5_gapsOf_65 : decode cX5_gapsOf 65 = .ok (.goto (-34), 3) := dk_167 255 222 (dk_at dksX5_gapsOf_2 19 rfl rfl)
theorem dX5_gapsOf_68 : decode cX5_gapsOf 68 = .ok (.iload 4, 2) := dk_21 4 (dk_at dksX5_gapsOf_2 22 rfl rfl)
theorem dX5_gapsOf_70 : decode cX5_gapsOf 70 = .ok (.ireturn, 1) := dk_172 (dk_at dksX5_gapsOf_3 0 rfl rfl)
abbrev cX5_free : ByteArray := prog_19_method_69_code
def yX5_free : MethodName := ⟨RX5, "free", "(I)I"⟩
def dkwX5_free_0 : List UInt8 := [27, 184, 1, 50, 153, 0, 13, 42, 16, 50, 27, 182, 1, 80, 167, 0, 4, 2, 172]
abbrev dktX5_free_0 : List UInt8 := dkwX5_free_0 ++ []
theorem dksX5_free_0 : cX5_free.data.toList.drop 0 = dktX5_free_0 := by decide +kernel
theorem dX5_free_0 : decode cX5_free 0 = .ok (.iload_n 1, 1) := dk_27 (dk_at dksX5_free_0 0 rfl rfl)
theorem dX5_free_1 : decode cX5_free 1 = .ok (.invokestatic 306, 3) := dk_184 1 50 (dk_at dksX5_free_0 1 rfl rfl)
theorem dX5_free_4 : decode cX5_free 4 = .ok (.ifCond .eq 13, 3) := dk_153 0 13 (dk_at dksX5_free_0 4 rfl rfl)
theorem dX5_free_7 : decode cX5_free 7 = .ok (.aload_n 0, 1) := dk_42 (dk_at dksX5_free_0 7 rfl rfl)
theorem dX5_free_8 : decode cX5_free 8 = .ok (.bipush 50, 2) := dk_16 50 (dk_at dksX5_free_0 8 rfl rfl)
theorem dX5_free_10 : decode cX5_free 10 = .ok (.iload_n 1, 1) := dk_27 (dk_at dksX5_free_0 10 rfl rfl)
theorem dX5_free_11 : decode cX5_free 11 = .ok (.invokevirtual 336, 3) := dk_182 1 80 (dk_at dksX5_free_0 11 rfl rfl)
theorem dX5_free_14 : decode cX5_free 14 = .ok (.goto 4, 3) := dk_167 0 4 (dk_at dksX5_free_0 14 rfl rfl)
theorem dX5_free_17 : decode cX5_free 17 = .ok (.iconst (-1), 1) := dk_2 (dk_at dksX5_free_0 17 rfl rfl)
theorem dX5_free_18 : decode cX5_free 18 = .ok (.ireturn, 1) := dk_172 (dk_at dksX5_free_0 18 rfl rfl)
abbrev cX5_rounds : ByteArray := prog_19_method_68_code
def yX5_rounds : MethodName := ⟨RX5, "rounds", "(II)I"⟩
def dkwX5_rounds_8 : List UInt8 := [167, 255, 130, 21, 4, 172]
abbrev dktX5_rounds_8 : List UInt8 := dkwX5_rounds_8 ++ []
def dkwX5_rounds_7 : List UInt8 := [21, 4, 4, 96, 54, 4, 4, 54, 5, 132, 8, 1, 167, 255, 163, 132, 7, 1, 167, 255, 147, 132, 6, 1]
abbrev dktX5_rounds_7 : List UInt8 := dkwX5_rounds_7 ++ dktX5_rounds_8
def dkwX5_rounds_6 : List UInt8 := [42, 180, 0, 84, 21, 7, 46, 100, 28, 163, 0, 23, 42, 180, 0, 87, 21, 8, 21, 6, 4, 96, 79]
abbrev dktX5_rounds_6 : List UInt8 := dkwX5_rounds_6 ++ dktX5_rounds_7
def dkwX5_rounds_5 : List UInt8 := [184, 1, 77, 153, 0, 53, 42, 180, 0, 84, 21, 8, 46, 27, 163, 0, 42, 42, 180, 0, 84, 21, 8, 46]
abbrev dktX5_rounds_5 : List UInt8 := dkwX5_rounds_5 ++ dktX5_rounds_6
def dkwX5_rounds_4 : List UInt8 := [21, 7, 46, 21, 6, 160, 0, 80, 42, 180, 0, 87, 21, 8, 46, 2, 160, 0, 63, 21, 7, 21, 8]
abbrev dktX5_rounds_4 : List UInt8 := dkwX5_rounds_4 ++ dktX5_rounds_5
def dkwX5_rounds_3 : List UInt8 := [54, 7, 21, 7, 16, 63, 162, 0, 108, 3, 54, 8, 21, 8, 16, 63, 162, 0, 92, 42, 180, 0, 87]
abbrev dktX5_rounds_3 : List UInt8 := dkwX5_rounds_3 ++ dktX5_rounds_4
def dkwX5_rounds_2 : List UInt8 := [180, 0, 87, 29, 3, 79, 4, 54, 4, 4, 54, 5, 3, 54, 6, 21, 5, 153, 0, 127, 3, 54, 5, 3]
abbrev dktX5_rounds_2 : List UInt8 := dkwX5_rounds_2 ++ dktX5_rounds_3
def dkwX5_rounds_1 : List UInt8 := [21, 4, 2, 79, 132, 4, 1, 167, 255, 238, 42, 180, 0, 84, 29, 46, 27, 164, 0, 5, 3, 172, 42]
abbrev dktX5_rounds_1 : List UInt8 := dkwX5_rounds_1 ++ dktX5_rounds_2
def dkwX5_rounds_0 : List UInt8 := [42, 182, 1, 71, 3, 3, 184, 1, 74, 62, 3, 54, 4, 21, 4, 16, 63, 162, 0, 17, 42, 180, 0, 87]
abbrev dktX5_rounds_0 : List UInt8 := dkwX5_rounds_0 ++ dktX5_rounds_1
theorem dksX5_rounds_0 : cX5_rounds.data.toList.drop 0 = dktX5_rounds_0 := by decide +kernel
theorem dksX5_rounds_1 : cX5_rounds.data.toList.drop 24 = dktX5_rounds_1 := dk_seg dksX5_rounds_0 24 rfl rfl
theorem dksX5_rounds_2 : cX5_rounds.data.toList.drop 47 = dktX5_rounds_2 := dk_seg dksX5_rounds_1 23 rfl rfl
theorem dksX5_rounds_3 : cX5_rounds.data.toList.drop 71 = dktX5_rounds_3 := dk_seg dksX5_rounds_2 24 rfl rfl
theorem dksX5_rounds_4 : cX5_rounds.data.toList.drop 94 = dktX5_rounds_4 := dk_seg dksX5_rounds_3 23 rfl rfl
theorem dksX5_rounds_5 : cX5_rounds.data.toList.drop 117 = dktX5_rounds_5 := dk_seg dksX5_rounds_4 23 rfl rfl
theorem dksX5_rounds_6 : cX5_rounds.data.toList.drop 141 = dktX5_rounds_6 := dk_seg dksX5_rounds_5 24 rfl rfl
theorem dksX5_rounds_7 : cX5_rounds.data.toList.drop 164 = dktX5_rounds_7 := dk_seg dksX5_rounds_6 23 rfl rfl
theorem dksX5_rounds_8 : cX5_rounds.data.toList.drop 188 = dktX5_rounds_8 := dk_seg dksX5_rounds_7 24 rfl rfl
theorem dX5_rounds_0 : decode cX5_rounds 0 = .ok (.aload_n 0, 1) := dk_42 (dk_at dksX5_rounds_0 0 rfl rfl)
theorem dX5_rounds_1 : decode cX5_rounds 1 = .ok (.invokevirtual 327, 3) := dk_182 1 71 (dk_at dksX5_rounds_0 1 rfl rfl)
theorem dX5_rounds_4 : decode cX5_rounds 4 = .ok (.iconst 0, 1) := dk_3 (dk_at dksX5_rounds_0 4 rfl rfl)
theorem dX5_rounds_5 : decode cX5_rounds 5 = .ok (.iconst 0, 1) := dk_3 (dk_at dksX5_rounds_0 5 rfl rfl)
theorem dX5_rounds_6 : decode cX5_rounds 6 = .ok (.invokestatic 330, 3) := dk_184 1 74 (dk_at dksX5_rounds_0 6 rfl rfl)
theorem dX5_rounds_9 : decode cX5_rounds 9 = .ok (.istore_n 3, 1) := dk_62 (dk_at dksX5_rounds_0 9 rfl rfl)
theorem dX5_rounds_10 : decode cX5_rounds 10 = .ok (.iconst 0, 1) := dk_3 (dk_at dksX5_rounds_0 10 rfl rfl)
theorem dX5_rounds_11 : decode cX5_rounds 11 = .ok (.istore 4, 2) := dk_54 4 (dk_at dksX5_rounds_0 11 rfl rfl)
theorem dX5_rounds_13 : decode cX5_rounds 13 = .ok (.iload 4, 2) := dk_21 4 (dk_at dksX5_rounds_0 13 rfl rfl)
theorem dX5_rounds_15 : decode cX5_rounds 15 = .ok (.bipush 63, 2) := dk_16 63 (dk_at dksX5_rounds_0 15 rfl rfl)
theorem dX5_rounds_17 : decode cX5_rounds 17 = .ok (.if_icmp .ge 17, 3) := dk_162 0 17 (dk_at dksX5_rounds_0 17 rfl rfl)
theorem dX5_rounds_20 : decode cX5_rounds 20 = .ok (.aload_n 0, 1) := dk_42 (dk_at dksX5_rounds_0 20 rfl rfl)
theorem dX5_rounds_21 : decode cX5_rounds 21 = .ok (.getfield 87, 3) := dk_180 0 87 (dk_at dksX5_rounds_0 21 rfl rfl)
theorem dX5_rounds_24 : decode cX5_rounds 24 = .ok (.iload 4, 2) := dk_21 4 (dk_at dksX5_rounds_1 0 rfl rfl)
theorem dX5_rounds_26 : decode cX5_rounds 26 = .ok (.iconst (-1), 1) := dk_2 (dk_at dksX5_rounds_1 2 rfl rfl)
theorem dX5_rounds_27 : decode cX5_rounds 27 = .ok (.iastore, 1) := dk_79 (dk_at dksX5_rounds_1 3 rfl rfl)
theorem dX5_rounds_28 : decode cX5_rounds 28 = .ok (.iinc 4 1, 3) := dk_132 4 1 (dk_at dksX5_rounds_1 4 rfl rfl)
theorem dX5_rounds_31 : decode cX5_rounds 31 = .ok (.goto (-18), 3) := dk_167 255 238 (dk_at dksX5_rounds_1 7 rfl rfl)
theorem dX5_rounds_34 : decode cX5_rounds 34 = .ok (.aload_n 0, 1) := dk_42 (dk_at dksX5_rounds_1 10 rfl rfl)
theorem dX5_rounds_35 : decode cX5_rounds 35 = .ok (.getfield 84, 3) := dk_180 0 84 (dk_at dksX5_rounds_1 11 rfl rfl)
theorem dX5_rounds_38 : decode cX5_rounds 38 = .ok (.iload_n 3, 1) := dk_29 (dk_at dksX5_rounds_1 14 rfl rfl)
theorem dX5_rounds_39 : decode cX5_rounds 39 = .ok (.iaload, 1) := dk_46 (dk_at dksX5_rounds_1 15 rfl rfl)
theorem dX5_rounds_40 : decode cX5_rounds 40 = .ok (.iload_n 1, 1) := dk_27 (dk_at dksX5_rounds_1 16 rfl rfl)
theorem dX5_rounds_41 : decode cX5_rounds 41 = .ok (.if_icmp .le 5, 3) := dk_164 0 5 (dk_at dksX5_rounds_1 17 rfl rfl)
theorem dX5_rounds_44 : decode cX5_rounds 44 = .ok (.iconst 0, 1) := dk_3 (dk_at dksX5_rounds_1 20 rfl rfl)
theorem dX5_rounds_45 : decode cX5_rounds 45 = .ok (.ireturn, 1) := dk_172 (dk_at dksX5_rounds_1 21 rfl rfl)
theorem dX5_rounds_46 : decode cX5_rounds 46 = .ok (.aload_n 0, 1) := dk_42 (dk_at dksX5_rounds_1 22 rfl rfl)
theorem dX5_rounds_47 : decode cX5_rounds 47 = .ok (.getfield 87, 3) := dk_180 0 87 (dk_at dksX5_rounds_2 0 rfl rfl)
theorem dX5_rounds_50 : decode cX5_rounds 50 = .ok (.iload_n 3, 1) := dk_29 (dk_at dksX5_rounds_2 3 rfl rfl)
theorem dX5_rounds_51 : decode cX5_rounds 51 = .ok (.iconst 0, 1) := dk_3 (dk_at dksX5_rounds_2 4 rfl rfl)
theorem dX5_rounds_52 : decode cX5_rounds 52 = .ok (.iastore, 1) := dk_79 (dk_at dksX5_rounds_2 5 rfl rfl)
theorem dX5_rounds_53 : decode cX5_rounds 53 = .ok (.iconst 1, 1) := dk_4 (dk_at dksX5_rounds_2 6 rfl rfl)
theorem dX5_rounds_54 : decode cX5_rounds 54 = .ok (.istore 4, 2) := dk_54 4 (dk_at dksX5_rounds_2 7 rfl rfl)
theorem dX5_rounds_56 : decode cX5_rounds 56 = .ok (.iconst 1, 1) := dk_4 (dk_at dksX5_rounds_2 9 rfl rfl)
theorem dX5_rounds_57 : decode cX5_rounds 57 = .ok (.istore 5, 2) := dk_54 5 (dk_at dksX5_rounds_2 10 rfl rfl)
theorem dX5_rounds_59 : decode cX5_rounds 59 = .ok (.iconst 0, 1) := dk_3 (dk_at dksX5_rounds_2 12 rfl rfl)
theorem dX5_rounds_60 : decode cX5_rounds 60 = .ok (.istore 6, 2) := dk_54 6 (dk_at dksX5_rounds_2 13 rfl rfl)
theorem dX5_rounds_62 : decode cX5_rounds 62 = .ok (.iload 5, 2) := dk_21 5 (dk_at dksX5_rounds_2 15 rfl rfl)
theorem dX5_rounds_64 : decode cX5_rounds 64 = .ok (.ifCond .eq 127, 3) := dk_153 0 127 (dk_at dksX5_rounds_2 17 rfl rfl)
theorem dX5_rounds_67 : decode cX5_rounds 67 = .ok (.iconst 0, 1) := dk_3 (dk_at dksX5_rounds_2 20 rfl rfl)
theorem dX5_rounds_68 : decode cX5_rounds 68 = .ok (.istore 5, 2) := dk_54 5 (dk_at dksX5_rounds_2 21 rfl rfl)
theorem dX5_rounds_70 : decode cX5_rounds 70 = .ok (.iconst 0, 1) := dk_3 (dk_at dksX5_rounds_2 23 rfl rfl)
theorem dX5_rounds_71 : decode cX5_rounds 71 = .ok (.istore 7, 2) := dk_54 7 (dk_at dksX5_rounds_3 0 rfl rfl)
theorem dX5_rounds_73 : decode cX5_rounds 73 = .ok (.iload 7, 2) := dk_21 7 (dk_at dksX5_rounds_3 2 rfl rfl)
theorem dX5_rounds_75 : decode cX5_rounds 75 = .ok (.bipush 63, 2) := dk_16 63 (dk_at dksX5_rounds_3 4 rfl rfl)
theorem dX5_rounds_77 : decode cX5_rounds 77 = .ok (.if_icmp .ge 108, 3) := dk_162 0 108 (dk_at dksX5_rounds_3 6 rfl rfl)
theorem dX5_rounds_80 : decode cX5_rounds 80 = .ok (.iconst 0, 1) := dk_3 (dk_at dksX5_rounds_3 9 rfl rfl)
theorem dX5_rounds_81 : decode cX5_rounds 81 = .ok (.istore 8, 2) := dk_54 8 (dk_at dksX5_rounds_3 10 rfl rfl)
theorem dX5_rounds_83 : decode cX5_rounds 83 = .ok (.iload 8, 2) := dk_21 8 (dk_at dksX5_rounds_3 12 rfl rfl)
theorem dX5_rounds_85 : decode cX5_rounds 85 = .ok (.bipush 63, 2) := dk_16 63 (dk_at dksX5_rounds_3 14 rfl rfl)
theorem dX5_rounds_87 : decode cX5_rounds 87 = .ok (.if_icmp .ge 92, 3) := dk_162 0 92 (dk_at dksX5_rounds_3 16 rfl rfl)
theorem dX5_rounds_90 : decode cX5_rounds 90 = .ok (.aload_n 0, 1) := dk_42 (dk_at dksX5_rounds_3 19 rfl rfl)
theorem dX5_rounds_91 : decode cX5_rounds 91 = .ok (.getfield 87, 3) := dk_180 0 87 (dk_at dksX5_rounds_3 20 rfl rfl)
theorem dX5_rounds_94 : decode cX5_rounds 94 = .ok (.iload 7, 2) := dk_21 7 (dk_at dksX5_rounds_4 0 rfl rfl)
theorem dX5_rounds_96 : decode cX5_rounds 96 = .ok (.iaload, 1) := dk_46 (dk_at dksX5_rounds_4 2 rfl rfl)
theorem dX5_rounds_97 : decode cX5_rounds 97 = .ok (.iload 6, 2) := dk_21 6 (dk_at dksX5_rounds_4 3 rfl rfl)
theorem dX5_rounds_99 : decode cX5_rounds 99 = .ok (.if_icmp .ne 80, 3) := dk_160 0 80 (dk_at dksX5_rounds_4 5 rfl rfl)
theorem dX5_rounds_102 : decode cX5_rounds 102 = .ok (.aload_n 0, 1) := dk_42 (dk_at dksX5_rounds_4 8 rfl rfl)
theorem dX5_rounds_103 : decode cX5_rounds 103 = .ok (.getfield 87, 3) := dk_180 0 87 (dk_at dksX5_rounds_4 9 rfl rfl)
theorem dX5_rounds_106 : decode cX5_rounds 106 = .ok (.iload 8, 2) := dk_21 8 (dk_at dksX5_rounds_4 12 rfl rfl)
theorem dX5_rounds_108 : decode cX5_rounds 108 = .ok (.iaload, 1) := dk_46 (dk_at dksX5_rounds_4 14 rfl rfl)
theorem dX5_rounds_109 : decode cX5_rounds 109 = .ok (.iconst (-1), 1) := dk_2 (dk_at dksX5_rounds_4 15 rfl rfl)
theorem dX5_rounds_110 : decode cX5_rounds 110 = .ok (.if_icmp .ne 63, 3) := dk_160 0 63 (dk_at dksX5_rounds_4 16 rfl rfl)
theorem dX5_rounds_113 : decode cX5_rounds 113 = .ok (.iload 7, 2) := dk_21 7 (dk_at dksX5_rounds_4 19 rfl rfl)
theorem dX5_rounds_115 : decode cX5_rounds 115 = .ok (.iload 8, 2) := dk_21 8 (dk_at dksX5_rounds_4 21 rfl rfl)
theorem dX5_rounds_117 : decode cX5_rounds 117 = .ok (.invokestatic 333, 3) := dk_184 1 77 (dk_at dksX5_rounds_5 0 rfl rfl)
theorem dX5_rounds_120 : decode cX5_rounds 120 = .ok (.ifCond .eq 53, 3) := dk_153 0 53 (dk_at dksX5_rounds_5 3 rfl rfl)
theorem dX5_rounds_123 : decode cX5_rounds 123 = .ok (.aload_n 0, 1) := dk_42 (dk_at dksX5_rounds_5 6 rfl rfl)
theorem dX5_rounds_124 : decode cX5_rounds 124 = .ok (.getfield 84, 3) := dk_180 0 84 (dk_at dksX5_rounds_5 7 rfl rfl)
theorem dX5_rounds_127 : decode cX5_rounds 127 = .ok (.iload 8, 2) := dk_21 8 (dk_at dksX5_rounds_5 10 rfl rfl)
theorem dX5_rounds_129 : decode cX5_rounds 129 = .ok (.iaload, 1) := dk_46 (dk_at dksX5_rounds_5 12 rfl rfl)
theorem dX5_rounds_130 : decode cX5_rounds 130 = .ok (.iload_n 1, 1) := dk_27 (dk_at dksX5_rounds_5 13 rfl rfl)
theorem dX5_rounds_131 : decode cX5_rounds 131 = .ok (.if_icmp .gt 42, 3) := dk_163 0 42 (dk_at dksX5_rounds_5 14 rfl rfl)
theorem dX5_rounds_134 : decode cX5_rounds 134 = .ok (.aload_n 0, 1) := dk_42 (dk_at dksX5_rounds_5 17 rfl rfl)
theorem dX5_rounds_135 : decode cX5_rounds 135 = .ok (.getfield 84, 3) := dk_180 0 84 (dk_at dksX5_rounds_5 18 rfl rfl)
theorem dX5_rounds_138 : decode cX5_rounds 138 = .ok (.iload 8, 2) := dk_21 8 (dk_at dksX5_rounds_5 21 rfl rfl)
theorem dX5_rounds_140 : decode cX5_rounds 140 = .ok (.iaload, 1) := dk_46 (dk_at dksX5_rounds_5 23 rfl rfl)
theorem dX5_rounds_141 : decode cX5_rounds 141 = .ok (.aload_n 0, 1) := dk_42 (dk_at dksX5_rounds_6 0 rfl rfl)
theorem dX5_rounds_142 : decode cX5_rounds 142 = .ok (.getfield 84, 3) := dk_180 0 84 (dk_at dksX5_rounds_6 1 rfl rfl)
theorem dX5_rounds_145 : decode cX5_rounds 145 = .ok (.iload 7, 2) := dk_21 7 (dk_at dksX5_rounds_6 4 rfl rfl)
theorem dX5_rounds_147 : decode cX5_rounds 147 = .ok (.iaload, 1) := dk_46 (dk_at dksX5_rounds_6 6 rfl rfl)
theorem dX5_rounds_148 : decode cX5_rounds 148 = .ok (.isub, 1) := dk_100 (dk_at dksX5_rounds_6 7 rfl rfl)
theorem dX5_rounds_149 : decode cX5_rounds 149 = .ok (.iload_n 2, 1) := dk_28 (dk_at dksX5_rounds_6 8 rfl rfl)
theorem dX5_rounds_150 : decode cX5_rounds 150 = .ok (.if_icmp .gt 23, 3) := dk_163 0 23 (dk_at dksX5_rounds_6 9 rfl rfl)
theorem dX5_rounds_153 : decode cX5_rounds 153 = .ok (.aload_n 0, 1) := dk_42 (dk_at dksX5_rounds_6 12 rfl rfl)
theorem dX5_rounds_154 : decode cX5_rounds 154 = .ok (.getfield 87, 3) := dk_180 0 87 (dk_at dksX5_rounds_6 13 rfl rfl)
theorem dX5_rounds_157 : decode cX5_rounds 157 = .ok (.iload 8, 2) := dk_21 8 (dk_at dksX5_rounds_6 16 rfl rfl)
theorem dX5_rounds_159 : decode cX5_rounds 159 = .ok (.iload 6, 2) := dk_21 6 (dk_at dksX5_rounds_6 18 rfl rfl)
theorem dX5_rounds_161 : decode cX5_rounds 161 = .ok (.iconst 1, 1) := dk_4 (dk_at dksX5_rounds_6 20 rfl rfl)
theorem dX5_rounds_162 : decode cX5_rounds 162 = .ok (.iadd, 1) := dk_96 (dk_at dksX5_rounds_6 21 rfl rfl)
theorem dX5_rounds_163 : decode cX5_rounds 163 = .ok (.iastore, 1) := dk_79 (dk_at dksX5_rounds_6 22 rfl rfl)
theorem dX5_rounds_164 : decode cX5_rounds 164 = .ok (.iload 4, 2) := dk_21 4 (dk_at dksX5_rounds_7 0 rfl rfl)
theorem dX5_rounds_166 : decode cX5_rounds 166 = .ok (.iconst 1, 1) := dk_4 (dk_at dksX5_rounds_7 2 rfl rfl)
theorem dX5_rounds_167 : decode cX5_rounds 167 = .ok (.iadd, 1) := dk_96 (dk_at dksX5_rounds_7 3 rfl rfl)
theorem dX5_rounds_168 : decode cX5_rounds 168 = .ok (.istore 4, 2) := dk_54 4 (dk_at dksX5_rounds_7 4 rfl rfl)
theorem dX5_rounds_170 : decode cX5_rounds 170 = .ok (.iconst 1, 1) := dk_4 (dk_at dksX5_rounds_7 6 rfl rfl)
theorem dX5_rounds_171 : decode cX5_rounds 171 = .ok (.istore 5, 2) := dk_54 5 (dk_at dksX5_rounds_7 7 rfl rfl)
theorem dX5_rounds_173 : decode cX5_rounds 173 = .ok (.iinc 8 1, 3) := dk_132 8 1 (dk_at dksX5_rounds_7 9 rfl rfl)
theorem dX5_rounds_176 : decode cX5_rounds 176 = .ok (.goto (-93), 3) := dk_167 255 163 (dk_at dksX5_rounds_7 12 rfl rfl)
theorem dX5_rounds_179 : decode cX5_rounds 179 = .ok (.iinc 7 1, 3) := dk_132 7 1 (dk_at dksX5_rounds_7 15 rfl rfl)
theorem dX5_rounds_182 : decode cX5_rounds 182 = .ok (.goto (-109), 3) := dk_167 255 147 (dk_at dksX5_rounds_7 18 rfl rfl)
theorem dX5_rounds_185 : decode cX5_rounds 185 = .ok (.iinc 6 1, 3) := dk_132 6 1 (dk_at dksX5_rounds_7 21 rfl rfl)
theorem dX5_rounds_188 : decode cX5_rounds 188 = .ok (.goto (-126), 3) := dk_167 255 130 (dk_at dksX5_rounds_8 0 rfl rfl)
theorem dX5_rounds_191 : decode cX5_rounds 191 = .ok (.iload 4, 2) := dk_21 4 (dk_at dksX5_rounds_8 3 rfl rfl)
theorem dX5_rounds_193 : decode cX5_rounds 193 = .ok (.ireturn, 1) := dk_172 (dk_at dksX5_rounds_8 5 rfl rfl)
abbrev cX5_laysOpenings : ByteArray := prog_19_method_66_code
def yX5_laysOpenings : MethodName := ⟨RX5, "laysOpenings", "()V"⟩
def dkwX5_laysOpenings_1 : List UInt8 := [167, 255, 236, 177]
abbrev dktX5_laysOpenings_1 : List UInt8 := dkwX5_laysOpenings_1 ++ []
def dkwX5_laysOpenings_0 : List UInt8 := [3, 60, 27, 16, 63, 162, 0, 20, 42, 180, 0, 84, 27, 42, 27, 182, 1, 65, 79, 132, 1, 1]
abbrev dktX5_laysOpenings_0 : List UInt8 := dkwX5_laysOpenings_0 ++ dktX5_laysOpenings_1
theorem dksX5_laysOpenings_0 : cX5_laysOpenings.data.toList.drop 0 = dktX5_laysOpenings_0 := by decide +kernel
theorem dksX5_laysOpenings_1 : cX5_laysOpenings.data.toList.drop 22 = dktX5_laysOpenings_1 := dk_seg dksX5_laysOpenings_0 22 rfl rfl
theorem dX5_laysOpenings_0 : decode cX5_laysOpenings 0 = .ok (.iconst 0, 1) := dk_3 (dk_at dksX5_laysOpenings_0 0 rfl rfl)
theorem dX5_laysOpenings_1 : decode cX5_laysOpenings 1 = .ok (.istore_n 1, 1) := dk_60 (dk_at dksX5_laysOpenings_0 1 rfl rfl)
theorem dX5_laysOpenings_2 : decode cX5_laysOpenings 2 = .ok (.iload_n 1, 1) := dk_27 (dk_at dksX5_laysOpenings_0 2 rfl rfl)
theorem dX5_laysOpenings_3 : decode cX5_laysOpenings 3 = .ok (.bipush 63, 2) := dk_16 63 (dk_at dksX5_laysOpenings_0 3 rfl rfl)
theorem dX5_laysOpenings_5 : decode cX5_laysOpenings 5 = .ok (.if_icmp .ge 20, 3) := dk_162 0 20 (dk_at dksX5_laysOpenings_0 5 rfl rfl)
theorem dX5_laysOpenings_8 : decode cX5_laysOpenings 8 = .ok (.aload_n 0, 1) := dk_42 (dk_at dksX5_laysOpenings_0 8 rfl rfl)
theorem dX5_laysOpenings_9 : decode cX5_laysOpenings 9 = .ok (.getfield 84, 3) := dk_180 0 84 (dk_at dksX5_laysOpenings_0 9 rfl rfl)
theorem dX5_laysOpenings_12 : decode cX5_laysOpenings 12 = .ok (.iload_n 1, 1) := dk_27 (dk_at dksX5_laysOpenings_0 12 rfl rfl)
theorem dX5_laysOpenings_13 : decode cX5_laysOpenings 13 = .ok (.aload_n 0, 1) := dk_42 (dk_at dksX5_laysOpenings_0 13 rfl rfl)
theorem dX5_laysOpenings_14 : decode cX5_laysOpenings 14 = .ok (.iload_n 1, 1) := dk_27 (dk_at dksX5_laysOpenings_0 14 rfl rfl)
theorem dX5_laysOpenings_15 : decode cX5_laysOpenings 15 = .ok (.invokevirtual 321, 3) := dk_182 1 65 (dk_at dksX5_laysOpenings_0 15 rfl rfl)
theorem dX5_laysOpenings_18 : decode cX5_laysOpenings 18 = .ok (.iastore, 1) := dk_79 (dk_at dksX5_laysOpenings_0 18 rfl rfl)
theorem dX5_laysOpenings_19 : decode cX5_laysOpenings 19 = .ok (.iinc 1 1, 3) := dk_132 1 1 (dk_at dksX5_laysOpenings_0 19 rfl rfl)
theorem dX5_laysOpenings_22 : decode cX5_laysOpenings 22 = .ok (.goto (-20), 3) := dk_167 255 236 (dk_at dksX5_laysOpenings_1 0 rfl rfl)
theorem dX5_laysOpenings_25 : decode cX5_laysOpenings 25 = .ok (.return_, 1) := dk_177 (dk_at dksX5_laysOpenings_1 3 rfl rfl)
abbrev cX5_glideOf : ByteArray := prog_19_method_53_code
def yX5_glideOf : MethodName := ⟨RX5, "glideOf", "(II)I"⟩
def dkwX5_glideOf_0 : List UInt8 := [16, 9, 27, 6, 96, 104, 26, 96, 7, 96, 172]
abbrev dktX5_glideOf_0 : List UInt8 := dkwX5_glideOf_0 ++ []
theorem dksX5_glideOf_0 : cX5_glideOf.data.toList.drop 0 = dktX5_glideOf_0 := by decide +kernel
theorem dX5_glideOf_0 : decode cX5_glideOf 0 = .ok (.bipush 9, 2) := dk_16 9 (dk_at dksX5_glideOf_0 0 rfl rfl)
theorem dX5_glideOf_2 : decode cX5_glideOf 2 = .ok (.iload_n 1, 1) := dk_27 (dk_at dksX5_glideOf_0 2 rfl rfl)
theorem dX5_glideOf_3 : decode cX5_glideOf 3 = .ok (.iconst 3, 1) := dk_6 (dk_at dksX5_glideOf_0 3 rfl rfl)
theorem dX5_glideOf_4 : decode cX5_glideOf 4 = .ok (.iadd, 1) := dk_96 (dk_at dksX5_glideOf_0 4 rfl rfl)
theorem dX5_glideOf_5 : decode cX5_glideOf 5 = .ok (.imul, 1) := dk_104 (dk_at dksX5_glideOf_0 5 rfl rfl)
theorem dX5_glideOf_6 : decode cX5_glideOf 6 = .ok (.iload_n 0, 1) := dk_26 (dk_at dksX5_glideOf_0 6 rfl rfl)
theorem dX5_glideOf_7 : decode cX5_glideOf 7 = .ok (.iadd, 1) := dk_96 (dk_at dksX5_glideOf_0 7 rfl rfl)
theorem dX5_glideOf_8 : decode cX5_glideOf 8 = .ok (.iconst 4, 1) := dk_7 (dk_at dksX5_glideOf_0 8 rfl rfl)
theorem dX5_glideOf_9 : decode cX5_glideOf 9 = .ok (.iadd, 1) := dk_96 (dk_at dksX5_glideOf_0 9 rfl rfl)
theorem dX5_glideOf_10 : decode cX5_glideOf 10 = .ok (.ireturn, 1) := dk_172 (dk_at dksX5_glideOf_0 10 rfl rfl)
abbrev cX5_isNext : ByteArray := prog_19_method_67_code
def yX5_isNext : MethodName := ⟨RX5, "isNext", "(II)Z"⟩
def dkwX5_isNext_1 : List UInt8 := [29, 104, 96, 4, 160, 0, 7, 4, 167, 0, 4, 3, 172]
abbrev dktX5_isNext_1 : List UInt8 := dkwX5_isNext_1 ++ []
def dkwX5_isNext_0 : List UInt8 := [26, 16, 9, 112, 27, 16, 9, 112, 100, 61, 26, 16, 9, 108, 27, 16, 9, 108, 100, 62, 28, 28, 104, 29]
abbrev dktX5_isNext_0 : List UInt8 := dkwX5_isNext_0 ++ dktX5_isNext_1
theorem dksX5_isNext_0 : cX5_isNext.data.toList.drop 0 = dktX5_isNext_0 := by decide +kernel
theorem dksX5_isNext_1 : cX5_isNext.data.toList.drop 24 = dktX5_isNext_1 := dk_seg dksX5_isNext_0 24 rfl rfl
theorem dX5_isNext_0 : decode cX5_isNext 0 = .ok (.iload_n 0, 1) := dk_26 (dk_at dksX5_isNext_0 0 rfl rfl)
theorem dX5_isNext_1 : decode cX5_isNext 1 = .ok (.bipush 9, 2) := dk_16 9 (dk_at dksX5_isNext_0 1 rfl rfl)
theorem dX5_isNext_3 : decode cX5_isNext 3 = .ok (.irem, 1) := dk_112 (dk_at dksX5_isNext_0 3 rfl rfl)
theorem dX5_isNext_4 : decode cX5_isNext 4 = .ok (.iload_n 1, 1) := dk_27 (dk_at dksX5_isNext_0 4 rfl rfl)
theorem dX5_isNext_5 : decode cX5_isNext 5 = .ok (.bipush 9, 2) := dk_16 9 (dk_at dksX5_isNext_0 5 rfl rfl)
theorem dX5_isNext_7 : decode cX5_isNext 7 = .ok (.irem, 1) := dk_112 (dk_at dksX5_isNext_0 7 rfl rfl)
theorem dX5_isNext_8 : decode cX5_isNext 8 = .ok (.isub, 1) := dk_100 (dk_at dksX5_isNext_0 8 rfl rfl)
theorem dX5_isNext_9 : decode cX5_isNext 9 = .ok (.istore_n 2, 1) := dk_61 (dk_at dksX5_isNext_0 9 rfl rfl)
theorem dX5_isNext_10 : decode cX5_isNext 10 = .ok (.iload_n 0, 1) := dk_26 (dk_at dksX5_isNext_0 10 rfl rfl)
theorem dX5_isNext_11 : decode cX5_isNext 11 = .ok (.bipush 9, 2) := dk_16 9 (dk_at dksX5_isNext_0 11 rfl rfl)
theorem dX5_isNext_13 : decode cX5_isNext 13 = .ok (.idiv, 1) := dk_108 (dk_at dksX5_isNext_0 13 rfl rfl)
theorem dX5_isNext_14 : decode cX5_isNext 14 = .ok (.iload_n 1, 1) := dk_27 (dk_at dksX5_isNext_0 14 rfl rfl)
theorem dX5_isNext_15 : decode cX5_isNext 15 = .ok (.bipush 9, 2) := dk_16 9 (dk_at dksX5_isNext_0 15 rfl rfl)
theorem dX5_isNext_17 : decode cX5_isNext 17 = .ok (.idiv, 1) := dk_108 (dk_at dksX5_isNext_0 17 rfl rfl)
theorem dX5_isNext_18 : decode cX5_isNext 18 = .ok (.isub, 1) := dk_100 (dk_at dksX5_isNext_0 18 rfl rfl)
theorem dX5_isNext_19 : decode cX5_isNext 19 = .ok (.istore_n 3, 1) := dk_62 (dk_at dksX5_isNext_0 19 rfl rfl)
theorem dX5_isNext_20 : decode cX5_isNext 20 = .ok (.iload_n 2, 1) := dk_28 (dk_at dksX5_isNext_0 20 rfl rfl)
theorem dX5_isNext_21 : decode cX5_isNext 21 = .ok (.iload_n 2, 1) := dk_28 (dk_at dksX5_isNext_0 21 rfl rfl)
theorem dX5_isNext_22 : decode cX5_isNext 22 = .ok (.imul, 1) := dk_104 (dk_at dksX5_isNext_0 22 rfl rfl)
theorem dX5_isNext_23 : decode cX5_isNext 23 = .ok (.iload_n 3, 1) := dk_29 (dk_at dksX5_isNext_0 23 rfl rfl)
theorem dX5_isNext_24 : decode cX5_isNext 24 = .ok (.iload_n 3, 1) := dk_29 (dk_at dksX5_isNext_1 0 rfl rfl)
theorem dX5_isNext_25 : decode cX5_isNext 25 = .ok (.imul, 1) := dk_104 (dk_at dksX5_isNext_1 1 rfl rfl)
theorem dX5_isNext_26 : decode cX5_isNext 26 = .ok (.iadd, 1) := dk_96 (dk_at dksX5_isNext_1 2 rfl rfl)
theorem dX5_isNext_27 : decode cX5_isNext 27 = .ok (.iconst 1, 1) := dk_4 (dk_at dksX5_isNext_1 3 rfl rfl)
theorem dX5_isNext_28 : decode cX5_isNext 28 = .ok (.if_icmp .ne 7, 3) := dk_160 0 7 (dk_at dksX5_isNext_1 4 rfl rfl)
theorem dX5_isNext_31 : decode cX5_isNext 31 = .ok (.iconst 1, 1) := dk_4 (dk_at dksX5_isNext_1 7 rfl rfl)
theorem dX5_isNext_32 : decode cX5_isNext 32 = .ok (.goto 4, 3) := dk_167 0 4 (dk_at dksX5_isNext_1 8 rfl rfl)
theorem dX5_isNext_35 : decode cX5_isNext 35 = .ok (.iconst 0, 1) := dk_3 (dk_at dksX5_isNext_1 11 rfl rfl)
theorem dX5_isNext_36 : decode cX5_isNext 36 = .ok (.ireturn, 1) := dk_172 (dk_at dksX5_isNext_1 12 rfl rfl)
abbrev cX5_wayTo : ByteArray := prog_19_method_71_code
def yX5_wayTo : MethodName := ⟨RX5, "wayTo", "(IIII)I"⟩
def dkwX5_wayTo_3 : List UInt8 := [42, 180, 0, 87, 21, 5, 46, 172]
abbrev dktX5_wayTo_3 : List UInt8 := dkwX5_wayTo_3 ++ []
def dkwX5_wayTo_2 : List UInt8 := [42, 16, 50, 29, 182, 1, 80, 87, 42, 180, 0, 87, 21, 5, 46, 2, 160, 0, 8, 16, 254, 167, 0, 10]
abbrev dktX5_wayTo_2 : List UInt8 := dkwX5_wayTo_2 ++ dktX5_wayTo_3
def dkwX5_wayTo_1 : List UInt8 := [154, 0, 5, 2, 172, 27, 28, 184, 1, 74, 54, 5, 21, 4, 154, 0, 10, 42, 21, 5, 182, 1, 83, 172]
abbrev dktX5_wayTo_1 : List UInt8 := dkwX5_wayTo_1 ++ dktX5_wayTo_2
def dkwX5_wayTo_0 : List UInt8 := [27, 28, 184, 1, 47, 153, 0, 20, 29, 184, 1, 50, 153, 0, 13, 21, 4, 3, 4, 184, 0, 112]
abbrev dktX5_wayTo_0 : List UInt8 := dkwX5_wayTo_0 ++ dktX5_wayTo_1
theorem dksX5_wayTo_0 : cX5_wayTo.data.toList.drop 0 = dktX5_wayTo_0 := by decide +kernel
theorem dksX5_wayTo_1 : cX5_wayTo.data.toList.drop 22 = dktX5_wayTo_1 := dk_seg dksX5_wayTo_0 22 rfl rfl
theorem dksX5_wayTo_2 : cX5_wayTo.data.toList.drop 46 = dktX5_wayTo_2 := dk_seg dksX5_wayTo_1 24 rfl rfl
theorem dksX5_wayTo_3 : cX5_wayTo.data.toList.drop 70 = dktX5_wayTo_3 := dk_seg dksX5_wayTo_2 24 rfl rfl
theorem dX5_wayTo_0 : decode cX5_wayTo 0 = .ok (.iload_n 1, 1) := dk_27 (dk_at dksX5_wayTo_0 0 rfl rfl)
theorem dX5_wayTo_1 : decode cX5_wayTo 1 = .ok (.iload_n 2, 1) := dk_28 (dk_at dksX5_wayTo_0 1 rfl rfl)
theorem dX5_wayTo_2 : decode cX5_wayTo 2 = .ok (.invokestatic 303, 3) := dk_184 1 47 (dk_at dksX5_wayTo_0 2 rfl rfl)
theorem dX5_wayTo_5 : decode cX5_wayTo 5 = .ok (.ifCond .eq 20, 3) := dk_153 0 20 (dk_at dksX5_wayTo_0 5 rfl rfl)
theorem dX5_wayTo_8 : decode cX5_wayTo 8 = .ok (.iload_n 3, 1) := dk_29 (dk_at dksX5_wayTo_0 8 rfl rfl)
theorem dX5_wayTo_9 : decode cX5_wayTo 9 = .ok (.invokestatic 306, 3) := dk_184 1 50 (dk_at dksX5_wayTo_0 9 rfl rfl)
theorem dX5_wayTo_12 : decode cX5_wayTo 12 = .ok (.ifCond .eq 13, 3) := dk_153 0 13 (dk_at dksX5_wayTo_0 12 rfl rfl)
theorem dX5_wayTo_15 : decode cX5_wayTo 15 = .ok (.iload 4, 2) := dk_21 4 (dk_at dksX5_wayTo_0 15 rfl rfl)
theorem dX5_wayTo_17 : decode cX5_wayTo 17 = .ok (.iconst 0, 1) := dk_3 (dk_at dksX5_wayTo_0 17 rfl rfl)
theorem dX5_wayTo_18 : decode cX5_wayTo 18 = .ok (.iconst 1, 1) := dk_4 (dk_at dksX5_wayTo_0 18 rfl rfl)
theorem dX5_wayTo_19 : decode cX5_wayTo 19 = .ok (.invokestatic 112, 3) := dk_184 0 112 (dk_at dksX5_wayTo_0 19 rfl rfl)
theorem dX5_wayTo_22 : decode cX5_wayTo 22 = .ok (.ifCond .ne 5, 3) := dk_154 0 5 (dk_at dksX5_wayTo_1 0 rfl rfl)
theorem dX5_wayTo_25 : decode cX5_wayTo 25 = .ok (.iconst (-1), 1) := dk_2 (dk_at dksX5_wayTo_1 3 rfl rfl)
theorem dX5_wayTo_26 : decode cX5_wayTo 26 = .ok (.ireturn, 1) := dk_172 (dk_at dksX5_wayTo_1 4 rfl rfl)
theorem dX5_wayTo_27 : decode cX5_wayTo 27 = .ok (.iload_n 1, 1) := dk_27 (dk_at dksX5_wayTo_1 5 rfl rfl)
theorem dX5_wayTo_28 : decode cX5_wayTo 28 = .ok (.iload_n 2, 1) := dk_28 (dk_at dksX5_wayTo_1 6 rfl rfl)
theorem dX5_wayTo_29 : decode cX5_wayTo 29 = .ok (.invokestatic 330, 3) := dk_184 1 74 (dk_at dksX5_wayTo_1 7 rfl rfl)
theorem dX5_wayTo_32 : decode cX5_wayTo 32 = .ok (.istore 5, 2) := dk_54 5 (dk_at dksX5_wayTo_1 10 rfl rfl)
theorem dX5_wayTo_34 : decode cX5_wayTo 34 = .ok (.iload 4, 2) := dk_21 4 (dk_at dksX5_wayTo_1 12 rfl rfl)
theorem dX5_wayTo_36 : decode cX5_wayTo 36 = .ok (.ifCond .ne 10, 3) := dk_154 0 10 (dk_at dksX5_wayTo_1 14 rfl rfl)
theorem dX5_wayTo_39 : decode cX5_wayTo 39 = .ok (.aload_n 0, 1) := dk_42 (dk_at dksX5_wayTo_1 17 rfl rfl)
theorem dX5_wayTo_40 : decode cX5_wayTo 40 = .ok (.iload 5, 2) := dk_21 5 (dk_at dksX5_wayTo_1 18 rfl rfl)
theorem dX5_wayTo_42 : decode cX5_wayTo 42 = .ok (.invokevirtual 339, 3) := dk_182 1 83 (dk_at dksX5_wayTo_1 20 rfl rfl)
theorem dX5_wayTo_45 : decode cX5_wayTo 45 = .ok (.ireturn, 1) := dk_172 (dk_at dksX5_wayTo_1 23 rfl rfl)
theorem dX5_wayTo_46 : decode cX5_wayTo 46 = .ok (.aload_n 0, 1) := dk_42 (dk_at dksX5_wayTo_2 0 rfl rfl)
theorem dX5_wayTo_47 : decode cX5_wayTo 47 = .ok (.bipush 50, 2) := dk_16 50 (dk_at dksX5_wayTo_2 1 rfl rfl)
theorem dX5_wayTo_49 : decode cX5_wayTo 49 = .ok (.iload_n 3, 1) := dk_29 (dk_at dksX5_wayTo_2 3 rfl rfl)
theorem dX5_wayTo_50 : decode cX5_wayTo 50 = .ok (.invokevirtual 336, 3) := dk_182 1 80 (dk_at dksX5_wayTo_2 4 rfl rfl)
theorem dX5_wayTo_53 : decode cX5_wayTo 53 = .ok (.pop, 1) := dk_87 (dk_at dksX5_wayTo_2 7 rfl rfl)
theorem dX5_wayTo_54 : decode cX5_wayTo 54 = .ok (.aload_n 0, 1) := dk_42 (dk_at dksX5_wayTo_2 8 rfl rfl)
theorem dX5_wayTo_55 : decode cX5_wayTo 55 = .ok (.getfield 87, 3) := dk_180 0 87 (dk_at dksX5_wayTo_2 9 rfl rfl)
theorem dX5_wayTo_58 : decode cX5_wayTo 58 = .ok (.iload 5, 2) := dk_21 5 (dk_at dksX5_wayTo_2 12 rfl rfl)
theorem dX5_wayTo_60 : decode cX5_wayTo 60 = .ok (.iaload, 1) := dk_46 (dk_at dksX5_wayTo_2 14 rfl rfl)
theorem dX5_wayTo_61 : decode cX5_wayTo 61 = .ok (.iconst (-1), 1) := dk_2 (dk_at dksX5_wayTo_2 15 rfl rfl)
theorem dX5_wayTo_62 : decode cX5_wayTo 62 = .ok (.if_icmp .ne 8, 3) := dk_160 0 8 (dk_at dksX5_wayTo_2 16 rfl rfl)
theorem dX5_wayTo_65 : decode cX5_wayTo 65 = .ok (.bipush (-2), 2) := dk_16 254 (dk_at dksX5_wayTo_2 19 rfl rfl)
theorem dX5_wayTo_67 : decode cX5_wayTo 67 = .ok (.goto 10, 3) := dk_167 0 10 (dk_at dksX5_wayTo_2 21 rfl rfl)
theorem dX5_wayTo_70 : decode cX5_wayTo 70 = .ok (.aload_n 0, 1) := dk_42 (dk_at dksX5_wayTo_3 0 rfl rfl)
theorem dX5_wayTo_71 : decode cX5_wayTo 71 = .ok (.getfield 87, 3) := dk_180 0 87 (dk_at dksX5_wayTo_3 1 rfl rfl)
theorem dX5_wayTo_74 : decode cX5_wayTo 74 = .ok (.iload 5, 2) := dk_21 5 (dk_at dksX5_wayTo_3 4 rfl rfl)
theorem dX5_wayTo_76 : decode cX5_wayTo 76 = .ok (.iaload, 1) := dk_46 (dk_at dksX5_wayTo_3 6 rfl rfl)
theorem dX5_wayTo_77 : decode cX5_wayTo 77 = .ok (.ireturn, 1) := dk_172 (dk_at dksX5_wayTo_3 7 rfl rfl)
abbrev cX5_freest : ByteArray := prog_19_method_70_code
def yX5_freest : MethodName := ⟨RX5, "freest", "(I)I"⟩
def dkwX5_freest_2 : List UInt8 := [16, 50, 182, 1, 80, 87, 167, 255, 234, 28, 172]
abbrev dktX5_freest_2 : List UInt8 := dkwX5_freest_2 ++ []
def dkwX5_freest_1 : List UInt8 := [42, 28, 16, 50, 182, 1, 80, 87, 42, 180, 0, 87, 27, 46, 2, 160, 0, 18, 28, 4, 96, 61, 42, 28]
abbrev dktX5_freest_1 : List UInt8 := dkwX5_freest_1 ++ dktX5_freest_2
def dkwX5_freest_0 : List UInt8 := [42, 182, 1, 71, 42, 180, 0, 84, 27, 46, 42, 180, 0, 84, 3, 3, 184, 1, 74, 46, 184, 0, 242, 61]
abbrev dktX5_freest_0 : List UInt8 := dkwX5_freest_0 ++ dktX5_freest_1
theorem dksX5_freest_0 : cX5_freest.data.toList.drop 0 = dktX5_freest_0 := by decide +kernel
theorem dksX5_freest_1 : cX5_freest.data.toList.drop 24 = dktX5_freest_1 := dk_seg dksX5_freest_0 24 rfl rfl
theorem dksX5_freest_2 : cX5_freest.data.toList.drop 48 = dktX5_freest_2 := dk_seg dksX5_freest_1 24 rfl rfl
theorem dX5_freest_0 : decode cX5_freest 0 = .ok (.aload_n 0, 1) := dk_42 (dk_at dksX5_freest_0 0 rfl rfl)
theorem dX5_freest_1 : decode cX5_freest 1 = .ok (.invokevirtual 327, 3) := dk_182 1 71 (dk_at dksX5_freest_0 1 rfl rfl)
theorem dX5_freest_4 : decode cX5_freest 4 = .ok (.aload_n 0, 1) := dk_42 (dk_at dksX5_freest_0 4 rfl rfl)
theorem dX5_freest_5 : decode cX5_freest 5 = .ok (.getfield 84, 3) := dk_180 0 84 (dk_at dksX5_freest_0 5 rfl rfl)
theorem dX5_freest_8 : decode cX5_freest 8 = .ok (.iload_n 1, 1) := dk_27 (dk_at dksX5_freest_0 8 rfl rfl)
theorem dX5_freest_9 : decode cX5_freest 9 = .ok (.iaload, 1) := dk_46 (dk_at dksX5_freest_0 9 rfl rfl)
theorem dX5_freest_10 : decode cX5_freest 10 = .ok (.aload_n 0, 1) := dk_42 (dk_at dksX5_freest_0 10 rfl rfl)
theorem dX5_freest_11 : decode cX5_freest 11 = .ok (.getfield 84, 3) := dk_180 0 84 (dk_at dksX5_freest_0 11 rfl rfl)
theorem dX5_freest_14 : decode cX5_freest 14 = .ok (.iconst 0, 1) := dk_3 (dk_at dksX5_freest_0 14 rfl rfl)
theorem dX5_freest_15 : decode cX5_freest 15 = .ok (.iconst 0, 1) := dk_3 (dk_at dksX5_freest_0 15 rfl rfl)
theorem dX5_freest_16 : decode cX5_freest 16 = .ok (.invokestatic 330, 3) := dk_184 1 74 (dk_at dksX5_freest_0 16 rfl rfl)
theorem dX5_freest_19 : decode cX5_freest 19 = .ok (.iaload, 1) := dk_46 (dk_at dksX5_freest_0 19 rfl rfl)
theorem dX5_freest_20 : decode cX5_freest 20 = .ok (.invokestatic 242, 3) := dk_184 0 242 (dk_at dksX5_freest_0 20 rfl rfl)
theorem dX5_freest_23 : decode cX5_freest 23 = .ok (.istore_n 2, 1) := dk_61 (dk_at dksX5_freest_0 23 rfl rfl)
theorem dX5_freest_24 : decode cX5_freest 24 = .ok (.aload_n 0, 1) := dk_42 (dk_at dksX5_freest_1 0 rfl rfl)
theorem dX5_freest_25 : decode cX5_freest 25 = .ok (.iload_n 2, 1) := dk_28 (dk_at dksX5_freest_1 1 rfl rfl)
theorem dX5_freest_26 : decode cX5_freest 26 = .ok (.bipush 50, 2) := dk_16 50 (dk_at dksX5_freest_1 2 rfl rfl)
theorem dX5_freest_28 : decode cX5_freest 28 = .ok (.invokevirtual 336, 3) := dk_182 1 80 (dk_at dksX5_freest_1 4 rfl rfl)
theorem dX5_freest_31 : decode cX5_freest 31 = .ok (.pop, 1) := dk_87 (dk_at dksX5_freest_1 7 rfl rfl)
theorem dX5_freest_32 : decode cX5_freest 32 = .ok (.aload_n 0, 1) := dk_42 (dk_at dksX5_freest_1 8 rfl rfl)
theorem dX5_freest_33 : decode cX5_freest 33 = .ok (.getfield 87, 3) := dk_180 0 87 (dk_at dksX5_freest_1 9 rfl rfl)
theorem dX5_freest_36 : decode cX5_freest 36 = .ok (.iload_n 1, 1) := dk_27 (dk_at dksX5_freest_1 12 rfl rfl)
theorem dX5_freest_37 : decode cX5_freest 37 = .ok (.iaload, 1) := dk_46 (dk_at dksX5_freest_1 13 rfl rfl)
theorem dX5_freest_38 : decode cX5_freest 38 = .ok (.iconst (-1), 1) := dk_2 (dk_at dksX5_freest_1 14 rfl rfl)
theorem dX5_freest_39 : decode cX5_freest 39 = .ok (.if_icmp .ne 18, 3) := dk_160 0 18 (dk_at dksX5_freest_1 15 rfl rfl)
theorem dX5_freest_42 : decode cX5_freest 42 = .ok (.iload_n 2, 1) := dk_28 (dk_at dksX5_freest_1 18 rfl rfl)
theorem dX5_freest_43 : decode cX5_freest 43 = .ok (.iconst 1, 1) := dk_4 (dk_at dksX5_freest_1 19 rfl rfl)
theorem dX5_freest_44 : decode cX5_freest 44 = .ok (.iadd, 1) := dk_96 (dk_at dksX5_freest_1 20 rfl rfl)
theorem dX5_freest_45 : decode cX5_freest 45 = .ok (.istore_n 2, 1) := dk_61 (dk_at dksX5_freest_1 21 rfl rfl)
theorem dX5_freest_46 : decode cX5_freest 46 = .ok (.aload_n 0, 1) := dk_42 (dk_at dksX5_freest_1 22 rfl rfl)
theorem dX5_freest_47 : decode cX5_freest 47 = .ok (.iload_n 2, 1) := dk_28 (dk_at dksX5_freest_1 23 rfl rfl)
theorem dX5_freest_48 : decode cX5_freest 48 = .ok (.bipush 50, 2) := dk_16 50 (dk_at dksX5_freest_2 0 rfl rfl)
theorem dX5_freest_50 : decode cX5_freest 50 = .ok (.invokevirtual 336, 3) := dk_182 1 80 (dk_at dksX5_freest_2 2 rfl rfl)
theorem dX5_freest_53 : decode cX5_freest 53 = .ok (.pop, 1) := dk_87 (dk_at dksX5_freest_2 5 rfl rfl)
theorem dX5_freest_54 : decode cX5_freest 54 = .ok (.goto (-22), 3) := dk_167 255 234 (dk_at dksX5_freest_2 6 rfl rfl)
theorem dX5_freest_57 : decode cX5_freest 57 = .ok (.iload_n 2, 1) := dk_28 (dk_at dksX5_freest_2 9 rfl rfl)
theorem dX5_freest_58 : decode cX5_freest 58 = .ok (.ireturn, 1) := dk_172 (dk_at dksX5_freest_2 10 rfl rfl)
abbrev cX5_toBear : ByteArray := prog_19_method_74_code
def yX5_toBear : MethodName := ⟨RX5, "toBear", "(I)I"⟩
def dkwX5_toBear_4 : List UInt8 := [167, 0, 5, 16, 253, 172]
abbrev dktX5_toBear_4 : List UInt8 := dkwX5_toBear_4 ++ []
def dkwX5_toBear_3 : List UInt8 := [184, 0, 239, 61, 132, 4, 1, 167, 255, 207, 42, 3, 181, 0, 124, 29, 153, 0, 11, 42, 28, 182, 1, 92]
abbrev dktX5_toBear_3 : List UInt8 := dkwX5_toBear_3 ++ dktX5_toBear_4
def dkwX5_toBear_2 : List UInt8 := [162, 0, 7, 4, 167, 0, 4, 3, 62, 29, 153, 0, 18, 28, 42, 42, 21, 4, 182, 1, 89, 182, 1, 86]
abbrev dktX5_toBear_2 : List UInt8 := dkwX5_toBear_2 ++ dktX5_toBear_3
def dkwX5_toBear_1 : List UInt8 := [4, 62, 3, 54, 4, 21, 4, 27, 162, 0, 49, 29, 153, 0, 18, 42, 21, 4, 182, 1, 89, 16, 48]
abbrev dktX5_toBear_1 : List UInt8 := dkwX5_toBear_1 ++ dktX5_toBear_2
def dkwX5_toBear_0 : List UInt8 := [27, 4, 16, 16, 184, 0, 112, 153, 0, 11, 27, 42, 180, 0, 124, 164, 0, 5, 2, 172, 19, 1, 46, 61]
abbrev dktX5_toBear_0 : List UInt8 := dkwX5_toBear_0 ++ dktX5_toBear_1
theorem dksX5_toBear_0 : cX5_toBear.data.toList.drop 0 = dktX5_toBear_0 := by decide +kernel
theorem dksX5_toBear_1 : cX5_toBear.data.toList.drop 24 = dktX5_toBear_1 := dk_seg dksX5_toBear_0 24 rfl rfl
theorem dksX5_toBear_2 : cX5_toBear.data.toList.drop 47 = dktX5_toBear_2 := dk_seg dksX5_toBear_1 23 rfl rfl
theorem dksX5_toBear_3 : cX5_toBear.data.toList.drop 71 = dktX5_toBear_3 := dk_seg dksX5_toBear_2 24 rfl rfl
theorem dksX5_toBear_4 : cX5_toBear.data.toList.drop 95 = dktX5_toBear_4 := dk_seg dksX5_toBear_3 24 rfl rfl
theorem dX5_toBear_0 : decode cX5_toBear 0 = .ok (.iload_n 1, 1) := dk_27 (dk_at dksX5_toBear_0 0 rfl rfl)
theorem dX5_toBear_1 : decode cX5_toBear 1 = .ok (.iconst 1, 1) := dk_4 (dk_at dksX5_toBear_0 1 rfl rfl)
theorem dX5_toBear_2 : decode cX5_toBear 2 = .ok (.bipush 16, 2) := dk_16 16 (dk_at dksX5_toBear_0 2 rfl rfl)
theorem dX5_toBear_4 : decode cX5_toBear 4 = .ok (.invokestatic 112, 3) := dk_184 0 112 (dk_at dksX5_toBear_0 4 rfl rfl)
theorem dX5_toBear_7 : decode cX5_toBear 7 = .ok (.ifCond .eq 11, 3) := dk_153 0 11 (dk_at dksX5_toBear_0 7 rfl rfl)
theorem dX5_toBear_10 : decode cX5_toBear 10 = .ok (.iload_n 1, 1) := dk_27 (dk_at dksX5_toBear_0 10 rfl rfl)
theorem dX5_toBear_11 : decode cX5_toBear 11 = .ok (.aload_n 0, 1) := dk_42 (dk_at dksX5_toBear_0 11 rfl rfl)
theorem dX5_toBear_12 : decode cX5_toBear 12 = .ok (.getfield 124, 3) := dk_180 0 124 (dk_at dksX5_toBear_0 12 rfl rfl)
theorem dX5_toBear_15 : decode cX5_toBear 15 = .ok (.if_icmp .le 5, 3) := dk_164 0 5 (dk_at dksX5_toBear_0 15 rfl rfl)
theorem dX5_toBear_18 : decode cX5_toBear 18 = .ok (.iconst (-1), 1) := dk_2 (dk_at dksX5_toBear_0 18 rfl rfl)
theorem dX5_toBear_19 : decode cX5_toBear 19 = .ok (.ireturn, 1) := dk_172 (dk_at dksX5_toBear_0 19 rfl rfl)
theorem dX5_toBear_20 : decode cX5_toBear 20 = .ok (.ldc_w 302, 3) := dk_19 1 46 (dk_at dksX5_toBear_0 20 rfl rfl)
theorem dX5_toBear_23 : decode cX5_toBear 23 = .ok (.istore_n 2, 1) := dk_61 (dk_at dksX5_toBear_0 23 rfl rfl)
theorem dX5_toBear_24 : decode cX5_toBear 24 = .ok (.iconst 1, 1) := dk_4 (dk_at dksX5_toBear_1 0 rfl rfl)
theorem dX5_toBear_25 : decode cX5_toBear 25 = .ok (.istore_n 3, 1) := dk_62 (dk_at dksX5_toBear_1 1 rfl rfl)
theorem dX5_toBear_26 : decode cX5_toBear 26 = .ok (.iconst 0, 1) := dk_3 (dk_at dksX5_toBear_1 2 rfl rfl)
theorem dX5_toBear_27 : decode cX5_toBear 27 = .ok (.istore 4, 2) := dk_54 4 (dk_at dksX5_toBear_1 3 rfl rfl)
theorem dX5_toBear_29 : decode cX5_toBear 29 = .ok (.iload 4, 2) := dk_21 4 (dk_at dksX5_toBear_1 5 rfl rfl)
theorem dX5_toBear_31 : decode cX5_toBear 31 = .ok (.iload_n 1, 1) := dk_27 (dk_at dksX5_toBear_1 7 rfl rfl)
theorem dX5_toBear_32 : decode cX5_toBear 32 = .ok (.if_icmp .ge 49, 3) := dk_162 0 49 (dk_at dksX5_toBear_1 8 rfl rfl)
theorem dX5_toBear_35 : decode cX5_toBear 35 = .ok (.iload_n 3, 1) := dk_29 (dk_at dksX5_toBear_1 11 rfl rfl)
theorem dX5_toBear_36 : decode cX5_toBear 36 = .ok (.ifCond .eq 18, 3) := dk_153 0 18 (dk_at dksX5_toBear_1 12 rfl rfl)
theorem dX5_toBear_39 : decode cX5_toBear 39 = .ok (.aload_n 0, 1) := dk_42 (dk_at dksX5_toBear_1 15 rfl rfl)
theorem dX5_toBear_40 : decode cX5_toBear 40 = .ok (.iload 4, 2) := dk_21 4 (dk_at dksX5_toBear_1 16 rfl rfl)
theorem dX5_toBear_42 : decode cX5_toBear 42 = .ok (.invokevirtual 345, 3) := dk_182 1 89 (dk_at dksX5_toBear_1 18 rfl rfl)
theorem dX5_toBear_45 : decode cX5_toBear 45 = .ok (.bipush 48, 2) := dk_16 48 (dk_at dksX5_toBear_1 21 rfl rfl)
theorem dX5_toBear_47 : decode cX5_toBear 47 = .ok (.if_icmp .ge 7, 3) := dk_162 0 7 (dk_at dksX5_toBear_2 0 rfl rfl)
theorem dX5_toBear_50 : decode cX5_toBear 50 = .ok (.iconst 1, 1) := dk_4 (dk_at dksX5_toBear_2 3 rfl rfl)
theorem dX5_toBear_51 : decode cX5_toBear 51 = .ok (.goto 4, 3) := dk_167 0 4 (dk_at dksX5_toBear_2 4 rfl rfl)
theorem dX5_toBear_54 : decode cX5_toBear 54 = .ok (.iconst 0, 1) := dk_3 (dk_at dksX5_toBear_2 7 rfl rfl)
theorem dX5_toBear_55 : decode cX5_toBear 55 = .ok (.istore_n 3, 1) := dk_62 (dk_at dksX5_toBear_2 8 rfl rfl)
theorem dX5_toBear_56 : decode cX5_toBear 56 = .ok (.iload_n 3, 1) := dk_29 (dk_at dksX5_toBear_2 9 rfl rfl)
theorem dX5_toBear_57 : decode cX5_toBear 57 = .ok (.ifCond .eq 18, 3) := dk_153 0 18 (dk_at dksX5_toBear_2 10 rfl rfl)
theorem dX5_toBear_60 : decode cX5_toBear 60 = .ok (.iload_n 2, 1) := dk_28 (dk_at dksX5_toBear_2 13 rfl rfl)
theorem dX5_toBear_61 : decode cX5_toBear 61 = .ok (.aload_n 0, 1) := dk_42 (dk_at dksX5_toBear_2 14 rfl rfl)
theorem dX5_toBear_62 : decode cX5_toBear 62 = .ok (.aload_n 0, 1) := dk_42 (dk_at dksX5_toBear_2 15 rfl rfl)
theorem dX5_toBear_63 : decode cX5_toBear 63 = .ok (.iload 4, 2) := dk_21 4 (dk_at dksX5_toBear_2 16 rfl rfl)
theorem dX5_toBear_65 : decode cX5_toBear 65 = .ok (.invokevirtual 345, 3) := dk_182 1 89 (dk_at dksX5_toBear_2 18 rfl rfl)
theorem dX5_toBear_68 : decode cX5_toBear 68 = .ok (.invokevirtual 342, 3) := dk_182 1 86 (dk_at dksX5_toBear_2 21 rfl rfl)
theorem dX5_toBear_71 : decode cX5_toBear 71 = .ok (.invokestatic 239, 3) := dk_184 0 239 (dk_at dksX5_toBear_3 0 rfl rfl)
theorem dX5_toBear_74 : decode cX5_toBear 74 = .ok (.istore_n 2, 1) := dk_61 (dk_at dksX5_toBear_3 3 rfl rfl)
theorem dX5_toBear_75 : decode cX5_toBear 75 = .ok (.iinc 4 1, 3) := dk_132 4 1 (dk_at dksX5_toBear_3 4 rfl rfl)
theorem dX5_toBear_78 : decode cX5_toBear 78 = .ok (.goto (-49), 3) := dk_167 255 207 (dk_at dksX5_toBear_3 7 rfl rfl)
theorem dX5_toBear_81 : decode cX5_toBear 81 = .ok (.aload_n 0, 1) := dk_42 (dk_at dksX5_toBear_3 10 rfl rfl)
theorem dX5_toBear_82 : decode cX5_toBear 82 = .ok (.iconst 0, 1) := dk_3 (dk_at dksX5_toBear_3 11 rfl rfl)
theorem dX5_toBear_83 : decode cX5_toBear 83 = .ok (.putfield 124, 3) := dk_181 0 124 (dk_at dksX5_toBear_3 12 rfl rfl)
theorem dX5_toBear_86 : decode cX5_toBear 86 = .ok (.iload_n 3, 1) := dk_29 (dk_at dksX5_toBear_3 15 rfl rfl)
theorem dX5_toBear_87 : decode cX5_toBear 87 = .ok (.ifCond .eq 11, 3) := dk_153 0 11 (dk_at dksX5_toBear_3 16 rfl rfl)
theorem dX5_toBear_90 : decode cX5_toBear 90 = .ok (.aload_n 0, 1) := dk_42 (dk_at dksX5_toBear_3 19 rfl rfl)
theorem dX5_toBear_91 : decode cX5_toBear 91 = .ok (.iload_n 2, 1) := dk_28 (dk_at dksX5_toBear_3 20 rfl rfl)
theorem dX5_toBear_92 : decode cX5_toBear 92 = .ok (.invokevirtual 348, 3) := dk_182 1 92 (dk_at dksX5_toBear_3 21 rfl rfl)
theorem dX5_toBear_95 : decode cX5_toBear 95 = .ok (.goto 5, 3) := dk_167 0 5 (dk_at dksX5_toBear_4 0 rfl rfl)
theorem dX5_toBear_98 : decode cX5_toBear 98 = .ok (.bipush (-3), 2) := dk_16 253 (dk_at dksX5_toBear_4 3 rfl rfl)
theorem dX5_toBear_100 : decode cX5_toBear 100 = .ok (.ireturn, 1) := dk_172 (dk_at dksX5_toBear_4 5 rfl rfl)
abbrev cX5_octet : ByteArray := prog_19_method_17_code
def yX5_octet : MethodName := ⟨RX5, "octet", "(I)I"⟩
def dkwX5_octet_0 : List UInt8 := [42, 180, 0, 20, 27, 51, 17, 0, 255, 126, 172]
abbrev dktX5_octet_0 : List UInt8 := dkwX5_octet_0 ++ []
theorem dksX5_octet_0 : cX5_octet.data.toList.drop 0 = dktX5_octet_0 := by decide +kernel
theorem dX5_octet_0 : decode cX5_octet 0 = .ok (.aload_n 0, 1) := dk_42 (dk_at dksX5_octet_0 0 rfl rfl)
theorem dX5_octet_1 : decode cX5_octet 1 = .ok (.getfield 20, 3) := dk_180 0 20 (dk_at dksX5_octet_0 1 rfl rfl)
theorem dX5_octet_4 : decode cX5_octet 4 = .ok (.iload_n 1, 1) := dk_27 (dk_at dksX5_octet_0 4 rfl rfl)
theorem dX5_octet_5 : decode cX5_octet 5 = .ok (.baload, 1) := dk_51 (dk_at dksX5_octet_0 5 rfl rfl)
theorem dX5_octet_6 : decode cX5_octet 6 = .ok (.sipush 255, 3) := dk_17 0 255 (dk_at dksX5_octet_0 6 rfl rfl)
theorem dX5_octet_9 : decode cX5_octet 9 = .ok (.iand, 1) := dk_126 (dk_at dksX5_octet_0 9 rfl rfl)
theorem dX5_octet_10 : decode cX5_octet 10 = .ok (.ireturn, 1) := dk_172 (dk_at dksX5_octet_0 10 rfl rfl)
abbrev cX5_restAt : ByteArray := prog_19_method_72_code
def yX5_restAt : MethodName := ⟨RX5, "restAt", "(I)I"⟩
def dkwX5_restAt_0 : List UInt8 := [42, 27, 182, 1, 34, 42, 27, 182, 1, 37, 96, 172]
abbrev dktX5_restAt_0 : List UInt8 := dkwX5_restAt_0 ++ []
theorem dksX5_restAt_0 : cX5_restAt.data.toList.drop 0 = dktX5_restAt_0 := by decide +kernel
theorem dX5_restAt_0 : decode cX5_restAt 0 = .ok (.aload_n 0, 1) := dk_42 (dk_at dksX5_restAt_0 0 rfl rfl)
theorem dX5_restAt_1 : decode cX5_restAt 1 = .ok (.iload_n 1, 1) := dk_27 (dk_at dksX5_restAt_0 1 rfl rfl)
theorem dX5_restAt_2 : decode cX5_restAt 2 = .ok (.invokevirtual 290, 3) := dk_182 1 34 (dk_at dksX5_restAt_0 2 rfl rfl)
theorem dX5_restAt_5 : decode cX5_restAt 5 = .ok (.aload_n 0, 1) := dk_42 (dk_at dksX5_restAt_0 5 rfl rfl)
theorem dX5_restAt_6 : decode cX5_restAt 6 = .ok (.iload_n 1, 1) := dk_27 (dk_at dksX5_restAt_0 6 rfl rfl)
theorem dX5_restAt_7 : decode cX5_restAt 7 = .ok (.invokevirtual 293, 3) := dk_182 1 37 (dk_at dksX5_restAt_0 7 rfl rfl)
theorem dX5_restAt_10 : decode cX5_restAt 10 = .ok (.iadd, 1) := dk_96 (dk_at dksX5_restAt_0 10 rfl rfl)
theorem dX5_restAt_11 : decode cX5_restAt 11 = .ok (.ireturn, 1) := dk_172 (dk_at dksX5_restAt_0 11 rfl rfl)
abbrev cX5_strokesTo : ByteArray := prog_19_method_73_code
def yX5_strokesTo : MethodName := ⟨RX5, "strokesTo", "(I)I"⟩
def dkwX5_strokesTo_2 : List UInt8 := [167, 255, 212, 28, 172]
abbrev dktX5_strokesTo_2 : List UInt8 := dkwX5_strokesTo_2 ++ []
def dkwX5_strokesTo_1 : List UInt8 := [42, 180, 0, 16, 29, 51, 153, 0, 6, 16, 254, 172, 28, 3, 21, 4, 184, 0, 242, 96, 61, 132, 3, 1]
abbrev dktX5_strokesTo_1 : List UInt8 := dkwX5_strokesTo_1 ++ dktX5_strokesTo_2
def dkwX5_strokesTo_0 : List UInt8 := [3, 61, 3, 62, 29, 16, 48, 162, 0, 44, 42, 29, 182, 1, 86, 27, 100, 54, 4, 21, 4, 158, 0, 15]
abbrev dktX5_strokesTo_0 : List UInt8 := dkwX5_strokesTo_0 ++ dktX5_strokesTo_1
theorem dksX5_strokesTo_0 : cX5_strokesTo.data.toList.drop 0 = dktX5_strokesTo_0 := by decide +kernel
theorem dksX5_strokesTo_1 : cX5_strokesTo.data.toList.drop 24 = dktX5_strokesTo_1 := dk_seg dksX5_strokesTo_0 24 rfl rfl
theorem dksX5_strokesTo_2 : cX5_strokesTo.data.toList.drop 48 = dktX5_strokesTo_2 := dk_seg dksX5_strokesTo_1 24 rfl rfl
theorem dX5_strokesTo_0 : decode cX5_strokesTo 0 = .ok (.iconst 0, 1) := dk_3 (dk_at dksX5_strokesTo_0 0 rfl rfl)
theorem dX5_strokesTo_1 : decode cX5_strokesTo 1 = .ok (.istore_n 2, 1) := dk_61 (dk_at dksX5_strokesTo_0 1 rfl rfl)
theorem dX5_strokesTo_2 : decode cX5_strokesTo 2 = .ok (.iconst 0, 1) := dk_3 (dk_at dksX5_strokesTo_0 2 rfl rfl)
theorem dX5_strokesTo_3 : decode cX5_strokesTo 3 = .ok (.istore_n 3, 1) := dk_62 (dk_at dksX5_strokesTo_0 3 rfl rfl)
theorem dX5_strokesTo_4 : decode cX5_strokesTo 4 = .ok (.iload_n 3, 1) := dk_29 (dk_at dksX5_strokesTo_0 4 rfl rfl)
theorem dX5_strokesTo_5 : decode cX5_strokesTo 5 = .ok (.bipush 48, 2) := dk_16 48 (dk_at dksX5_strokesTo_0 5 rfl rfl)
theorem dX5_strokesTo_7 : decode cX5_strokesTo 7 = .ok (.if_icmp .ge 44, 3) := dk_162 0 44 (dk_at dksX5_strokesTo_0 7 rfl rfl)
theorem dX5_strokesTo_10 : decode cX5_strokesTo 10 = .ok (.aload_n 0, 1) := dk_42 (dk_at dksX5_strokesTo_0 10 rfl rfl)
theorem dX5_strokesTo_11 : decode cX5_strokesTo 11 = .ok (.iload_n 3, 1) := dk_29 (dk_at dksX5_strokesTo_0 11 rfl rfl)
theorem dX5_strokesTo_12 : decode cX5_strokesTo 12 = .ok (.invokevirtual 342, 3) := dk_182 1 86 (dk_at dksX5_strokesTo_0 12 rfl rfl)
theorem dX5_strokesTo_15 : decode cX5_strokesTo 15 = .ok (.iload_n 1, 1) := dk_27 (dk_at dksX5_strokesTo_0 15 rfl rfl)
theorem dX5_strokesTo_16 : decode cX5_strokesTo 16 = .ok (.isub, 1) := dk_100 (dk_at dksX5_strokesTo_0 16 rfl rfl)
theorem dX5_strokesTo_17 : decode cX5_strokesTo 17 = .ok (.istore 4, 2) := dk_54 4 (dk_at dksX5_strokesTo_0 17 rfl rfl)
theorem dX5_strokesTo_19 : decode cX5_strokesTo 19 = .ok (.iload 4, 2) := dk_21 4 (dk_at dksX5_strokesTo_0 19 rfl rfl)
theorem dX5_strokesTo_21 : decode cX5_strokesTo 21 = .ok (.ifCond .le 15, 3) := dk_158 0 15 (dk_at dksX5_strokesTo_0 21 rfl rfl)
theorem dX5_strokesTo_24 : decode cX5_strokesTo 24 = .ok (.aload_n 0, 1) := dk_42 (dk_at dksX5_strokesTo_1 0 rfl rfl)
theorem dX5_strokesTo_25 : decode cX5_strokesTo 25 = .ok (.getfield 16, 3) := dk_180 0 16 (dk_at dksX5_strokesTo_1 1 rfl rfl)
theorem dX5_strokesTo_28 : decode cX5_strokesTo 28 = .ok (.iload_n 3, 1) := dk_29 (dk_at dksX5_strokesTo_1 4 rfl rfl)
theorem dX5_strokesTo_29 : decode cX5_strokesTo 29 = .ok (.baload, 1) := dk_51 (dk_at dksX5_strokesTo_1 5 rfl rfl)
theorem dX5_strokesTo_30 : decode cX5_strokesTo 30 = .ok (.ifCond .eq 6, 3) := dk_153 0 6 (dk_at dksX5_strokesTo_1 6 rfl rfl)
theorem dX5_strokesTo_33 : decode cX5_strokesTo 33 = .ok (.bipush (-2), 2) := dk_16 254 (dk_at dksX5_strokesTo_1 9 rfl rfl)
theorem dX5_strokesTo_35 : decode cX5_strokesTo 35 = .ok (.ireturn, 1) := dk_172 (dk_at dksX5_strokesTo_1 11 rfl rfl)
theorem dX5_strokesTo_36 : decode cX5_strokesTo 36 = .ok (.iload_n 2, 1) := dk_28 (dk_at dksX5_strokesTo_1 12 rfl rfl)
theorem dX5_strokesTo_37 : decode cX5_strokesTo 37 = .ok (.iconst 0, 1) := dk_3 (dk_at dksX5_strokesTo_1 13 rfl rfl)
theorem dX5_strokesTo_38 : decode cX5_strokesTo 38 = .ok (.iload 4, 2) := dk_21 4 (dk_at dksX5_strokesTo_1 14 rfl rfl)
theorem dX5_strokesTo_40 : decode cX5_strokesTo 40 = .ok (.invokestatic 242, 3) := dk_184 0 242 (dk_at dksX5_strokesTo_1 16 rfl rfl)
theorem dX5_strokesTo_43 : decode cX5_strokesTo 43 = .ok (.iadd, 1) := dk_96 (dk_at dksX5_strokesTo_1 19 rfl rfl)
theorem dX5_strokesTo_44 : decode cX5_strokesTo 44 = .ok (.istore_n 2, 1) := dk_61 (dk_at dksX5_strokesTo_1 20 rfl rfl)
theorem dX5_strokesTo_45 : decode cX5_strokesTo 45 = .ok (.iinc 3 1, 3) := dk_132 3 1 (dk_at dksX5_strokesTo_1 21 rfl rfl)
theorem dX5_strokesTo_48 : decode cX5_strokesTo 48 = .ok (.goto (-44), 3) := dk_167 255 212 (dk_at dksX5_strokesTo_2 0 rfl rfl)
theorem dX5_strokesTo_51 : decode cX5_strokesTo 51 = .ok (.iload_n 2, 1) := dk_28 (dk_at dksX5_strokesTo_2 3 rfl rfl)
theorem dX5_strokesTo_52 : decode cX5_strokesTo 52 = .ok (.ireturn, 1) := dk_172 (dk_at dksX5_strokesTo_2 4 rfl rfl)
abbrev cX5_toLower : ByteArray := prog_19_method_75_code
def yX5_toLower : MethodName := ⟨RX5, "toLower", "(I)I"⟩
def dkwX5_toLower_0 : List UInt8 := [27, 184, 1, 50, 153, 0, 11, 42, 27, 182, 1, 92, 167, 0, 4, 2, 172]
abbrev dktX5_toLower_0 : List UInt8 := dkwX5_toLower_0 ++ []
theorem dksX5_toLower_0 : cX5_toLower.data.toList.drop 0 = dktX5_toLower_0 := by decide +kernel
theorem dX5_toLower_0 : decode cX5_toLower 0 = .ok (.iload_n 1, 1) := dk_27 (dk_at dksX5_toLower_0 0 rfl rfl)
theorem dX5_toLower_1 : decode cX5_toLower 1 = .ok (.invokestatic 306, 3) := dk_184 1 50 (dk_at dksX5_toLower_0 1 rfl rfl)
theorem dX5_toLower_4 : decode cX5_toLower 4 = .ok (.ifCond .eq 11, 3) := dk_153 0 11 (dk_at dksX5_toLower_0 4 rfl rfl)
theorem dX5_toLower_7 : decode cX5_toLower 7 = .ok (.aload_n 0, 1) := dk_42 (dk_at dksX5_toLower_0 7 rfl rfl)
theorem dX5_toLower_8 : decode cX5_toLower 8 = .ok (.iload_n 1, 1) := dk_27 (dk_at dksX5_toLower_0 8 rfl rfl)
theorem dX5_toLower_9 : decode cX5_toLower 9 = .ok (.invokevirtual 348, 3) := dk_182 1 92 (dk_at dksX5_toLower_0 9 rfl rfl)
theorem dX5_toLower_12 : decode cX5_toLower 12 = .ok (.goto 4, 3) := dk_167 0 4 (dk_at dksX5_toLower_0 12 rfl rfl)
theorem dX5_toLower_15 : decode cX5_toLower 15 = .ok (.iconst (-1), 1) := dk_2 (dk_at dksX5_toLower_0 15 rfl rfl)
theorem dX5_toLower_16 : decode cX5_toLower 16 = .ok (.ireturn, 1) := dk_172 (dk_at dksX5_toLower_0 16 rfl rfl)
abbrev cX5_anywhere : ByteArray := prog_19_method_77_code
def yX5_anywhere : MethodName := ⟨RX5, "anywhere", "(I)I"⟩
def dkwX5_anywhere_1 : List UInt8 := [182, 1, 95, 42, 3, 27, 29, 100, 182, 1, 95, 96, 184, 0, 239, 61, 132, 3, 1, 167, 255, 228, 28, 172]
abbrev dktX5_anywhere_1 : List UInt8 := dkwX5_anywhere_1 ++ []
def dkwX5_anywhere_0 : List UInt8 := [27, 184, 1, 50, 154, 0, 5, 2, 172, 19, 1, 46, 61, 3, 62, 29, 27, 163, 0, 29, 28, 42, 4, 29]
abbrev dktX5_anywhere_0 : List UInt8 := dkwX5_anywhere_0 ++ dktX5_anywhere_1
theorem dksX5_anywhere_0 : cX5_anywhere.data.toList.drop 0 = dktX5_anywhere_0 := by decide +kernel
theorem dksX5_anywhere_1 : cX5_anywhere.data.toList.drop 24 = dktX5_anywhere_1 := dk_seg dksX5_anywhere_0 24 rfl rfl
theorem dX5_anywhere_0 : decode cX5_anywhere 0 = .ok (.iload_n 1, 1) := dk_27 (dk_at dksX5_anywhere_0 0 rfl rfl)
theorem dX5_anywhere_1 : decode cX5_anywhere 1 = .ok (.invokestatic 306, 3) := dk_184 1 50 (dk_at dksX5_anywhere_0 1 rfl rfl)
theorem dX5_anywhere_4 : decode cX5_anywhere 4 = .ok (.ifCond .ne 5, 3) := dk_154 0 5 (dk_at dksX5_anywhere_0 4 rfl rfl)
theorem dX5_anywhere_7 : decode cX5_anywhere 7 = .ok (.iconst (-1), 1) := dk_2 (dk_at dksX5_anywhere_0 7 rfl rfl)
theorem dX5_anywhere_8 : decode cX5_anywhere 8 = .ok (.ireturn, 1) := dk_172 (dk_at dksX5_anywhere_0 8 rfl rfl)
theorem dX5_anywhere_9 : decode cX5_anywhere 9 = .ok (.ldc_w 302, 3) := dk_19 1 46 (dk_at dksX5_anywhere_0 9 rfl rfl)
theorem dX5_anywhere_12 : decode cX5_anywhere 12 = .ok (.istore_n 2, 1) := dk_61 (dk_at dksX5_anywhere_0 12 rfl rfl)
theorem dX5_anywhere_13 : decode cX5_anywhere 13 = .ok (.iconst 0, 1) := dk_3 (dk_at dksX5_anywhere_0 13 rfl rfl)
theorem dX5_anywhere_14 : decode cX5_anywhere 14 = .ok (.istore_n 3, 1) := dk_62 (dk_at dksX5_anywhere_0 14 rfl rfl)
theorem dX5_anywhere_15 : decode cX5_anywhere 15 = .ok (.iload_n 3, 1) := dk_29 (dk_at dksX5_anywhere_0 15 rfl rfl)
theorem dX5_anywhere_16 : decode cX5_anywhere 16 = .ok (.iload_n 1, 1) := dk_27 (dk_at dksX5_anywhere_0 16 rfl rfl)
theorem dX5_anywhere_17 : decode cX5_anywhere 17 = .ok (.if_icmp .gt 29, 3) := dk_163 0 29 (dk_at dksX5_anywhere_0 17 rfl rfl)
theorem dX5_anywhere_20 : decode cX5_anywhere 20 = .ok (.iload_n 2, 1) := dk_28 (dk_at dksX5_anywhere_0 20 rfl rfl)
theorem dX5_anywhere_21 : decode cX5_anywhere 21 = .ok (.aload_n 0, 1) := dk_42 (dk_at dksX5_anywhere_0 21 rfl rfl)
theorem dX5_anywhere_22 : decode cX5_anywhere 22 = .ok (.iconst 1, 1) := dk_4 (dk_at dksX5_anywhere_0 22 rfl rfl)
theorem dX5_anywhere_23 : decode cX5_anywhere 23 = .ok (.iload_n 3, 1) := dk_29 (dk_at dksX5_anywhere_0 23 rfl rfl)
theorem dX5_anywhere_24 : decode cX5_anywhere 24 = .ok (.invokevirtual 351, 3) := dk_182 1 95 (dk_at dksX5_anywhere_1 0 rfl rfl)
theorem dX5_anywhere_27 : decode cX5_anywhere 27 = .ok (.aload_n 0, 1) := dk_42 (dk_at dksX5_anywhere_1 3 rfl rfl)
theorem dX5_anywhere_28 : decode cX5_anywhere 28 = .ok (.iconst 0, 1) := dk_3 (dk_at dksX5_anywhere_1 4 rfl rfl)
theorem dX5_anywhere_29 : decode cX5_anywhere 29 = .ok (.iload_n 1, 1) := dk_27 (dk_at dksX5_anywhere_1 5 rfl rfl)
theorem dX5_anywhere_30 : decode cX5_anywhere 30 = .ok (.iload_n 3, 1) := dk_29 (dk_at dksX5_anywhere_1 6 rfl rfl)
theorem dX5_anywhere_31 : decode cX5_anywhere 31 = .ok (.isub, 1) := dk_100 (dk_at dksX5_anywhere_1 7 rfl rfl)
theorem dX5_anywhere_32 : decode cX5_anywhere 32 = .ok (.invokevirtual 351, 3) := dk_182 1 95 (dk_at dksX5_anywhere_1 8 rfl rfl)
theorem dX5_anywhere_35 : decode cX5_anywhere 35 = .ok (.iadd, 1) := dk_96 (dk_at dksX5_anywhere_1 11 rfl rfl)
theorem dX5_anywhere_36 : decode cX5_anywhere 36 = .ok (.invokestatic 239, 3) := dk_184 0 239 (dk_at dksX5_anywhere_1 12 rfl rfl)
theorem dX5_anywhere_39 : decode cX5_anywhere 39 = .ok (.istore_n 2, 1) := dk_61 (dk_at dksX5_anywhere_1 15 rfl rfl)
theorem dX5_anywhere_40 : decode cX5_anywhere 40 = .ok (.iinc 3 1, 3) := dk_132 3 1 (dk_at dksX5_anywhere_1 16 rfl rfl)
theorem dX5_anywhere_43 : decode cX5_anywhere 43 = .ok (.goto (-28), 3) := dk_167 255 228 (dk_at dksX5_anywhere_1 19 rfl rfl)
theorem dX5_anywhere_46 : decode cX5_anywhere 46 = .ok (.iload_n 2, 1) := dk_28 (dk_at dksX5_anywhere_1 22 rfl rfl)
theorem dX5_anywhere_47 : decode cX5_anywhere 47 = .ok (.ireturn, 1) := dk_172 (dk_at dksX5_anywhere_1 23 rfl rfl)
abbrev cX5_above : ByteArray := prog_19_method_76_code
def yX5_above : MethodName := ⟨RX5, "above", "(II)I"⟩
def dkwX5_above_1 : List UInt8 := [96, 46, 28, 100, 184, 0, 242, 96, 62, 132, 4, 1, 167, 255, 225, 29, 172]
abbrev dktX5_above_1 : List UInt8 := dkwX5_above_1 ++ []
def dkwX5_above_0 : List UInt8 := [3, 62, 3, 54, 4, 21, 4, 16, 48, 162, 0, 30, 29, 3, 42, 180, 0, 7, 16, 48, 27, 104, 21, 4]
abbrev dktX5_above_0 : List UInt8 := dkwX5_above_0 ++ dktX5_above_1
theorem dksX5_above_0 : cX5_above.data.toList.drop 0 = dktX5_above_0 := by decide +kernel
theorem dksX5_above_1 : cX5_above.data.toList.drop 24 = dktX5_above_1 := dk_seg dksX5_above_0 24 rfl rfl
theorem dX5_above_0 : decode cX5_above 0 = .ok (.iconst 0, 1) := dk_3 (dk_at dksX5_above_0 0 rfl rfl)
theorem dX5_above_1 : decode cX5_above 1 = .ok (.istore_n 3, 1) := dk_62 (dk_at dksX5_above_0 1 rfl rfl)
theorem dX5_above_2 : decode cX5_above 2 = .ok (.iconst 0, 1) := dk_3 (dk_at dksX5_above_0 2 rfl rfl)
theorem dX5_above_3 : decode cX5_above 3 = .ok (.istore 4, 2) := dk_54 4 (dk_at dksX5_above_0 3 rfl rfl)
theorem dX5_above_5 : decode cX5_above 5 = .ok (.iload 4, 2) := dk_21 4 (dk_at dksX5_above_0 5 rfl rfl)
theorem dX5_above_7 : decode cX5_above 7 = .ok (.bipush 48, 2) := dk_16 48 (dk_at dksX5_above_0 7 rfl rfl)
theorem dX5_above_9 : decode cX5_above 9 = .ok (.if_icmp .ge 30, 3) := dk_162 0 30 (dk_at dksX5_above_0 9 rfl rfl)
theorem dX5_above_12 : decode cX5_above 12 = .ok (.iload_n 3, 1) := dk_29 (dk_at dksX5_above_0 12 rfl rfl)
theorem dX5_above_13 : decode cX5_above 13 = .ok (.iconst 0, 1) := dk_3 (dk_at dksX5_above_0 13 rfl rfl)
theorem dX5_above_14 : decode cX5_above 14 = .ok (.aload_n 0, 1) := dk_42 (dk_at dksX5_above_0 14 rfl rfl)
theorem dX5_above_15 : decode cX5_above 15 = .ok (.getfield 7, 3) := dk_180 0 7 (dk_at dksX5_above_0 15 rfl rfl)
theorem dX5_above_18 : decode cX5_above 18 = .ok (.bipush 48, 2) := dk_16 48 (dk_at dksX5_above_0 18 rfl rfl)
theorem dX5_above_20 : decode cX5_above 20 = .ok (.iload_n 1, 1) := dk_27 (dk_at dksX5_above_0 20 rfl rfl)
theorem dX5_above_21 : decode cX5_above 21 = .ok (.imul, 1) := dk_104 (dk_at dksX5_above_0 21 rfl rfl)
theorem dX5_above_22 : decode cX5_above 22 = .ok (.iload 4, 2) := dk_21 4 (dk_at dksX5_above_0 22 rfl rfl)
theorem dX5_above_24 : decode cX5_above 24 = .ok (.iadd, 1) := dk_96 (dk_at dksX5_above_1 0 rfl rfl)
theorem dX5_above_25 : decode cX5_above 25 = .ok (.iaload, 1) := dk_46 (dk_at dksX5_above_1 1 rfl rfl)
theorem dX5_above_26 : decode cX5_above 26 = .ok (.iload_n 2, 1) := dk_28 (dk_at dksX5_above_1 2 rfl rfl)
theorem dX5_above_27 : decode cX5_above 27 = .ok (.isub, 1) := dk_100 (dk_at dksX5_above_1 3 rfl rfl)
theorem dX5_above_28 : decode cX5_above 28 = .ok (.invokestatic 242, 3) := dk_184 0 242 (dk_at dksX5_above_1 4 rfl rfl)
theorem dX5_above_31 : decode cX5_above 31 = .ok (.iadd, 1) := dk_96 (dk_at dksX5_above_1 7 rfl rfl)
theorem dX5_above_32 : decode cX5_above 32 = .ok (.istore_n 3, 1) := dk_62 (dk_at dksX5_above_1 8 rfl rfl)
theorem dX5_above_33 : decode cX5_above 33 = .ok (.iinc 4 1, 3) := dk_132 4 1 (dk_at dksX5_above_1 9 rfl rfl)
theorem dX5_above_36 : decode cX5_above 36 = .ok (.goto (-31), 3) := dk_167 255 225 (dk_at dksX5_above_1 12 rfl rfl)
theorem dX5_above_39 : decode cX5_above 39 = .ok (.iload_n 3, 1) := dk_29 (dk_at dksX5_above_1 15 rfl rfl)
theorem dX5_above_40 : decode cX5_above 40 = .ok (.ireturn, 1) := dk_172 (dk_at dksX5_above_1 16 rfl rfl)
abbrev cX5_grind : ByteArray := prog_19_method_79_code
def yX5_grind : MethodName := ⟨RX5, "grind", "(I)I"⟩
def dkwX5_grind_3 : List UInt8 := [182, 1, 98, 132, 3, 1, 167, 255, 199, 28, 172]
abbrev dktX5_grind_3 : List UInt8 := dkwX5_grind_3 ++ []
def dkwX5_grind_2 : List UInt8 := [21, 4, 182, 1, 34, 42, 21, 4, 182, 1, 37, 161, 0, 7, 4, 167, 0, 4, 3, 21, 4, 4]
abbrev dktX5_grind_2 : List UInt8 := dkwX5_grind_2 ++ dktX5_grind_3
def dkwX5_grind_1 : List UInt8 := [54, 4, 42, 21, 4, 182, 1, 86, 27, 163, 0, 12, 21, 4, 4, 96, 54, 4, 167, 255, 240, 42, 42]
abbrev dktX5_grind_1 : List UInt8 := dkwX5_grind_1 ++ dktX5_grind_2
def dkwX5_grind_0 : List UInt8 := [27, 184, 1, 50, 154, 0, 5, 2, 172, 42, 27, 182, 1, 92, 61, 3, 62, 29, 28, 162, 0, 58, 3]
abbrev dktX5_grind_0 : List UInt8 := dkwX5_grind_0 ++ dktX5_grind_1
theorem dksX5_grind_0 : cX5_grind.data.toList.drop 0 = dktX5_grind_0 := by decide +kernel
theorem dksX5_grind_1 : cX5_grind.data.toList.drop 23 = dktX5_grind_1 := dk_seg dksX5_grind_0 23 rfl rfl
theorem dksX5_grind_2 : cX5_grind.data.toList.drop 46 = dktX5_grind_2 := dk_seg dksX5_grind_1 23 rfl rfl
theorem dksX5_grind_3 : cX5_grind.data.toList.drop 68 = dktX5_grind_3 := dk_seg dksX5_grind_2 22 rfl rfl
theorem dX5_grind_0 : decode cX5_grind 0 = .ok (.iload_n 1, 1) := dk_27 (dk_at dksX5_grind_0 0 rfl rfl)
theorem dX5_grind_1 : decode cX5_grind 1 = .ok (.invokestatic 306, 3) := dk_184 1 50 (dk_at dksX5_grind_0 1 rfl rfl)
theorem dX5_grind_4 : decode cX5_grind 4 = .ok (.ifCond .ne 5, 3) := dk_154 0 5 (dk_at dksX5_grind_0 4 rfl rfl)
theorem dX5_grind_7 : decode cX5_grind 7 = .ok (.iconst (-1), 1) := dk_2 (dk_at dksX5_grind_0 7 rfl rfl)
theorem dX5_grind_8 : decode cX5_grind 8 = .ok (.ireturn, 1) := dk_172 (dk_at dksX5_grind_0 8 rfl rfl)
theorem dX5_grind_9 : decode cX5_grind 9 = .ok (.aload_n 0, 1) := dk_42 (dk_at dksX5_grind_0 9 rfl rfl)
theorem dX5_grind_10 : decode cX5_grind 10 = .ok (.iload_n 1, 1) := dk_27 (dk_at dksX5_grind_0 10 rfl rfl)
theorem dX5_grind_11 : decode cX5_grind 11 = .ok (.invokevirtual 348, 3) := dk_182 1 92 (dk_at dksX5_grind_0 11 rfl rfl)
theorem dX5_grind_14 : decode cX5_grind 14 = .ok (.istore_n 2, 1) := dk_61 (dk_at dksX5_grind_0 14 rfl rfl)
theorem dX5_grind_15 : decode cX5_grind 15 = .ok (.iconst 0, 1) := dk_3 (dk_at dksX5_grind_0 15 rfl rfl)
theorem dX5_grind_16 : decode cX5_grind 16 = .ok (.istore_n 3, 1) := dk_62 (dk_at dksX5_grind_0 16 rfl rfl)
theorem dX5_grind_17 : decode cX5_grind 17 = .ok (.iload_n 3, 1) := dk_29 (dk_at dksX5_grind_0 17 rfl rfl)
theorem dX5_grind_18 : decode cX5_grind 18 = .ok (.iload_n 2, 1) := dk_28 (dk_at dksX5_grind_0 18 rfl rfl)
theorem dX5_grind_19 : decode cX5_grind 19 = .ok (.if_icmp .ge 58, 3) := dk_162 0 58 (dk_at dksX5_grind_0 19 rfl rfl)
theorem dX5_grind_22 : decode cX5_grind 22 = .ok (.iconst 0, 1) := dk_3 (dk_at dksX5_grind_0 22 rfl rfl)
theorem dX5_grind_23 : decode cX5_grind 23 = .ok (.istore 4, 2) := dk_54 4 (dk_at dksX5_grind_1 0 rfl rfl)
theorem dX5_grind_25 : decode cX5_grind 25 = .ok (.aload_n 0, 1) := dk_42 (dk_at dksX5_grind_1 2 rfl rfl)
theorem dX5_grind_26 : decode cX5_grind 26 = .ok (.iload 4, 2) := dk_21 4 (dk_at dksX5_grind_1 3 rfl rfl)
theorem dX5_grind_28 : decode cX5_grind 28 = .ok (.invokevirtual 342, 3) := dk_182 1 86 (dk_at dksX5_grind_1 5 rfl rfl)
theorem dX5_grind_31 : decode cX5_grind 31 = .ok (.iload_n 1, 1) := dk_27 (dk_at dksX5_grind_1 8 rfl rfl)
theorem dX5_grind_32 : decode cX5_grind 32 = .ok (.if_icmp .gt 12, 3) := dk_163 0 12 (dk_at dksX5_grind_1 9 rfl rfl)
theorem dX5_grind_35 : decode cX5_grind 35 = .ok (.iload 4, 2) := dk_21 4 (dk_at dksX5_grind_1 12 rfl rfl)
theorem dX5_grind_37 : decode cX5_grind 37 = .ok (.iconst 1, 1) := dk_4 (dk_at dksX5_grind_1 14 rfl rfl)
theorem dX5_grind_38 : decode cX5_grind 38 = .ok (.iadd, 1) := dk_96 (dk_at dksX5_grind_1 15 rfl rfl)
theorem dX5_grind_39 : decode cX5_grind 39 = .ok (.istore 4, 2) := dk_54 4 (dk_at dksX5_grind_1 16 rfl rfl)
theorem dX5_grind_41 : decode cX5_grind 41 = .ok (.goto (-16), 3) := dk_167 255 240 (dk_at dksX5_grind_1 18 rfl rfl)
theorem dX5_grind_44 : decode cX5_grind 44 = .ok (.aload_n 0, 1) := dk_42 (dk_at dksX5_grind_1 21 rfl rfl)
theorem dX5_grind_45 : decode cX5_grind 45 = .ok (.aload_n 0, 1) := dk_42 (dk_at dksX5_grind_1 22 rfl rfl)
theorem dX5_grind_46 : decode cX5_grind 46 = .ok (.iload 4, 2) := dk_21 4 (dk_at dksX5_grind_2 0 rfl rfl)
theorem dX5_grind_48 : decode cX5_grind 48 = .ok (.invokevirtual 290, 3) := dk_182 1 34 (dk_at dksX5_grind_2 2 rfl rfl)
theorem dX5_grind_51 : decode cX5_grind 51 = .ok (.aload_n 0, 1) := dk_42 (dk_at dksX5_grind_2 5 rfl rfl)
theorem dX5_grind_52 : decode cX5_grind 52 = .ok (.iload 4, 2) := dk_21 4 (dk_at dksX5_grind_2 6 rfl rfl)
theorem dX5_grind_54 : decode cX5_grind 54 = .ok (.invokevirtual 293, 3) := dk_182 1 37 (dk_at dksX5_grind_2 8 rfl rfl)
theorem dX5_grind_57 : decode cX5_grind 57 = .ok (.if_icmp .lt 7, 3) := dk_161 0 7 (dk_at dksX5_grind_2 11 rfl rfl)
theorem dX5_grind_60 : decode cX5_grind 60 = .ok (.iconst 1, 1) := dk_4 (dk_at dksX5_grind_2 14 rfl rfl)
theorem dX5_grind_61 : decode cX5_grind 61 = .ok (.goto 4, 3) := dk_167 0 4 (dk_at dksX5_grind_2 15 rfl rfl)
theorem dX5_grind_64 : decode cX5_grind 64 = .ok (.iconst 0, 1) := dk_3 (dk_at dksX5_grind_2 18 rfl rfl)
theorem dX5_grind_65 : decode cX5_grind 65 = .ok (.iload 4, 2) := dk_21 4 (dk_at dksX5_grind_2 19 rfl rfl)
theorem dX5_grind_67 : decode cX5_grind 67 = .ok (.iconst 1, 1) := dk_4 (dk_at dksX5_grind_2 21 rfl rfl)
theorem dX5_grind_68 : decode cX5_grind 68 = .ok (.invokevirtual 354, 3) := dk_182 1 98 (dk_at dksX5_grind_3 0 rfl rfl)
theorem dX5_grind_71 : decode cX5_grind 71 = .ok (.iinc 3 1, 3) := dk_132 3 1 (dk_at dksX5_grind_3 3 rfl rfl)
theorem dX5_grind_74 : decode cX5_grind 74 = .ok (.goto (-57), 3) := dk_167 255 199 (dk_at dksX5_grind_3 6 rfl rfl)
theorem dX5_grind_77 : decode cX5_grind 77 = .ok (.iload_n 2, 1) := dk_28 (dk_at dksX5_grind_3 9 rfl rfl)
theorem dX5_grind_78 : decode cX5_grind 78 = .ok (.ireturn, 1) := dk_172 (dk_at dksX5_grind_3 10 rfl rfl)
abbrev cX5_takes1 : ByteArray := prog_19_method_78_code
def yX5_takes1 : MethodName := ⟨RX5, "takes1", "(III)V"⟩
def dkwX5_takes1_1 : List UInt8 := [42, 180, 0, 13, 27, 42, 180, 0, 13, 27, 46, 29, 96, 79, 177]
abbrev dktX5_takes1_1 : List UInt8 := dkwX5_takes1_1 ++ []
def dkwX5_takes1_0 : List UInt8 := [42, 180, 0, 7, 16, 48, 27, 104, 28, 96, 42, 180, 0, 7, 16, 48, 27, 104, 28, 96, 46, 29, 100, 79]
abbrev dktX5_takes1_0 : List UInt8 := dkwX5_takes1_0 ++ dktX5_takes1_1
theorem dksX5_takes1_0 : cX5_takes1.data.toList.drop 0 = dktX5_takes1_0 := by decide +kernel
theorem dksX5_takes1_1 : cX5_takes1.data.toList.drop 24 = dktX5_takes1_1 := dk_seg dksX5_takes1_0 24 rfl rfl
theorem dX5_takes1_0 : decode cX5_takes1 0 = .ok (.aload_n 0, 1) := dk_42 (dk_at dksX5_takes1_0 0 rfl rfl)
theorem dX5_takes1_1 : decode cX5_takes1 1 = .ok (.getfield 7, 3) := dk_180 0 7 (dk_at dksX5_takes1_0 1 rfl rfl)
theorem dX5_takes1_4 : decode cX5_takes1 4 = .ok (.bipush 48, 2) := dk_16 48 (dk_at dksX5_takes1_0 4 rfl rfl)
theorem dX5_takes1_6 : decode cX5_takes1 6 = .ok (.iload_n 1, 1) := dk_27 (dk_at dksX5_takes1_0 6 rfl rfl)
theorem dX5_takes1_7 : decode cX5_takes1 7 = .ok (.imul, 1) := dk_104 (dk_at dksX5_takes1_0 7 rfl rfl)
theorem dX5_takes1_8 : decode cX5_takes1 8 = .ok (.iload_n 2, 1) := dk_28 (dk_at dksX5_takes1_0 8 rfl rfl)
theorem dX5_takes1_9 : decode cX5_takes1 9 = .ok (.iadd, 1) := dk_96 (dk_at dksX5_takes1_0 9 rfl rfl)
theorem dX5_takes1_10 : decode cX5_takes1 10 = .ok (.aload_n 0, 1) := dk_42 (dk_at dksX5_takes1_0 10 rfl rfl)
theorem dX5_takes1_11 : decode cX5_takes1 11 = .ok (.getfield 7, 3) := dk_180 0 7 (dk_at dksX5_takes1_0 11 rfl rfl)
theorem dX5_takes1_14 : decode cX5_takes1 14 = .ok (.bipush 48, 2) := dk_16 48 (dk_at dksX5_takes1_0 14 rfl rfl)
theorem dX5_takes1_16 : decode cX5_takes1 16 = .ok (.iload_n 1, 1) := dk_27 (dk_at dksX5_takes1_0 16 rfl rfl)
theorem dX5_takes1_17 : decode cX5_takes1 17 = .ok (.imul, 1) := dk_104 (dk_at dksX5_takes1_0 17 rfl rfl)
theorem dX5_takes1_18 : decode cX5_takes1 18 = .ok (.iload_n 2, 1) := dk_28 (dk_at dksX5_takes1_0 18 rfl rfl)
theorem dX5_takes1_19 : decode cX5_takes1 19 = .ok (.iadd, 1) := dk_96 (dk_at dksX5_takes1_0 19 rfl rfl)
theorem dX5_takes1_20 : decode cX5_takes1 20 = .ok (.iaload, 1) := dk_46 (dk_at dksX5_takes1_0 20 rfl rfl)
theorem dX5_takes1_21 : decode cX5_takes1 21 = .ok (.iload_n 3, 1) := dk_29 (dk_at dksX5_takes1_0 21 rfl rfl)
theorem dX5_takes1_22 : decode cX5_takes1 22 = .ok (.isub, 1) := dk_100 (dk_at dksX5_takes1_0 22 rfl rfl)
theorem dX5_takes1_23 : decode cX5_takes1 23 = .ok (.iastore, 1) := dk_79 (dk_at dksX5_takes1_0 23 rfl rfl)
theorem dX5_takes1_24 : decode cX5_takes1 24 = .ok (.aload_n 0, 1) := dk_42 (dk_at dksX5_takes1_1 0 rfl rfl)
theorem dX5_takes1_25 : decode cX5_takes1 25 = .ok (.getfield 13, 3) := dk_180 0 13 (dk_at dksX5_takes1_1 1 rfl rfl)
theorem dX5_takes1_28 : decode cX5_takes1 28 = .ok (.iload_n 1, 1) := dk_27 (dk_at dksX5_takes1_1 4 rfl rfl)
theorem dX5_takes1_29 : decode cX5_takes1 29 = .ok (.aload_n 0, 1) := dk_42 (dk_at dksX5_takes1_1 5 rfl rfl)
theorem dX5_takes1_30 : decode cX5_takes1 30 = .ok (.getfield 13, 3) := dk_180 0 13 (dk_at dksX5_takes1_1 6 rfl rfl)
theorem dX5_takes1_33 : decode cX5_takes1 33 = .ok (.iload_n 1, 1) := dk_27 (dk_at dksX5_takes1_1 9 rfl rfl)
theorem dX5_takes1_34 : decode cX5_takes1 34 = .ok (.iaload, 1) := dk_46 (dk_at dksX5_takes1_1 10 rfl rfl)
theorem dX5_takes1_35 : decode cX5_takes1 35 = .ok (.iload_n 3, 1) := dk_29 (dk_at dksX5_takes1_1 11 rfl rfl)
theorem dX5_takes1_36 : decode cX5_takes1 36 = .ok (.iadd, 1) := dk_96 (dk_at dksX5_takes1_1 12 rfl rfl)
theorem dX5_takes1_37 : decode cX5_takes1 37 = .ok (.iastore, 1) := dk_79 (dk_at dksX5_takes1_1 13 rfl rfl)
theorem dX5_takes1_38 : decode cX5_takes1 38 = .ok (.return_, 1) := dk_177 (dk_at dksX5_takes1_1 14 rfl rfl)
abbrev cX5_spots : ByteArray := prog_19_method_83_code
def yX5_spots : MethodName := ⟨RX5, "spots", "(IIII)I"⟩
def dkwX5_spots_3 : List UInt8 := [21, 4, 154, 0, 10, 42, 180, 1, 108, 167, 0, 7, 42, 180, 1, 111, 172]
abbrev dktX5_spots_3 : List UInt8 := dkwX5_spots_3 ++ []
def dkwX5_spots_2 : List UInt8 := [180, 0, 90, 21, 5, 42, 180, 0, 81, 21, 5, 51, 84, 132, 5, 1, 167, 255, 232, 42, 182, 1, 114]
abbrev dktX5_spots_2 : List UInt8 := dkwX5_spots_2 ++ dktX5_spots_3
def dkwX5_spots_1 : List UInt8 := [154, 0, 5, 2, 172, 42, 27, 28, 29, 182, 1, 53, 87, 3, 54, 5, 21, 5, 16, 48, 162, 0, 23, 42]
abbrev dktX5_spots_1 : List UInt8 := dkwX5_spots_1 ++ dktX5_spots_2
def dkwX5_spots_0 : List UInt8 := [27, 28, 184, 1, 47, 153, 0, 20, 29, 184, 1, 50, 153, 0, 13, 21, 4, 3, 4, 184, 0, 112]
abbrev dktX5_spots_0 : List UInt8 := dkwX5_spots_0 ++ dktX5_spots_1
theorem dksX5_spots_0 : cX5_spots.data.toList.drop 0 = dktX5_spots_0 := by decide +kernel
theorem dksX5_spots_1 : cX5_spots.data.toList.drop 22 = dktX5_spots_1 := dk_seg dksX5_spots_0 22 rfl rfl
theorem dksX5_spots_2 : cX5_spots.data.toList.drop 46 = dktX5_spots_2 := dk_seg dksX5_spots_1 24 rfl rfl
theorem dksX5_spots_3 : cX5_spots.data.toList.drop 69 = dktX5_spots_3 := dk_seg dksX5_spots_2 23 rfl rfl
theorem dX5_spots_0 : decode cX5_spots 0 = .ok (.iload_n 1, 1) := dk_27 (dk_at dksX5_spots_0 0 rfl rfl)
theorem dX5_spots_1 : decode cX5_spots 1 = .ok (.iload_n 2, 1) := dk_28 (dk_at dksX5_spots_0 1 rfl rfl)
theorem dX5_spots_2 : decode cX5_spots 2 = .ok (.invokestatic 303, 3) := dk_184 1 47 (dk_at dksX5_spots_0 2 rfl rfl)
theorem dX5_spots_5 : decode cX5_spots 5 = .ok (.ifCond .eq 20, 3) := dk_153 0 20 (dk_at dksX5_spots_0 5 rfl rfl)
theorem dX5_spots_8 : decode cX5_spots 8 = .ok (.iload_n 3, 1) := dk_29 (dk_at dksX5_spots_0 8 rfl rfl)
theorem dX5_spots_9 : decode cX5_spots 9 = .ok (.invokestatic 306, 3) := dk_184 1 50 (dk_at dksX5_spots_0 9 rfl rfl)
theorem dX5_spots_12 : decode cX5_spots 12 = .ok (.ifCond .eq 13, 3) := dk_153 0 13 (dk_at dksX5_spots_0 12 rfl rfl)
theorem dX5_spots_15 : decode cX5_spots 15 = .ok (.iload 4, 2) := dk_21 4 (dk_at dksX5_spots_0 15 rfl rfl)
theorem dX5_spots_17 : decode cX5_spots 17 = .ok (.iconst 0, 1) := dk_3 (dk_at dksX5_spots_0 17 rfl rfl)
theorem dX5_spots_18 : decode cX5_spots 18 = .ok (.iconst 1, 1) := dk_4 (dk_at dksX5_spots_0 18 rfl rfl)
theorem dX5_spots_19 : decode cX5_spots 19 = .ok (.invokestatic 112, 3) := dk_184 0 112 (dk_at dksX5_spots_0 19 rfl rfl)
theorem dX5_spots_22 : decode cX5_spots 22 = .ok (.ifCond .ne 5, 3) := dk_154 0 5 (dk_at dksX5_spots_1 0 rfl rfl)
theorem dX5_spots_25 : decode cX5_spots 25 = .ok (.iconst (-1), 1) := dk_2 (dk_at dksX5_spots_1 3 rfl rfl)
theorem dX5_spots_26 : decode cX5_spots 26 = .ok (.ireturn, 1) := dk_172 (dk_at dksX5_spots_1 4 rfl rfl)
theorem dX5_spots_27 : decode cX5_spots 27 = .ok (.aload_n 0, 1) := dk_42 (dk_at dksX5_spots_1 5 rfl rfl)
theorem dX5_spots_28 : decode cX5_spots 28 = .ok (.iload_n 1, 1) := dk_27 (dk_at dksX5_spots_1 6 rfl rfl)
theorem dX5_spots_29 : decode cX5_spots 29 = .ok (.iload_n 2, 1) := dk_28 (dk_at dksX5_spots_1 7 rfl rfl)
theorem dX5_spots_30 : decode cX5_spots 30 = .ok (.iload_n 3, 1) := dk_29 (dk_at dksX5_spots_1 8 rfl rfl)
theorem dX5_spots_31 : decode cX5_spots 31 = .ok (.invokevirtual 309, 3) := dk_182 1 53 (dk_at dksX5_spots_1 9 rfl rfl)
theorem dX5_spots_34 : decode cX5_spots 34 = .ok (.pop, 1) := dk_87 (dk_at dksX5_spots_1 12 rfl rfl)
theorem dX5_spots_35 : decode cX5_spots 35 = .ok (.iconst 0, 1) := dk_3 (dk_at dksX5_spots_1 13 rfl rfl)
theorem dX5_spots_36 : decode cX5_spots 36 = .ok (.istore 5, 2) := dk_54 5 (dk_at dksX5_spots_1 14 rfl rfl)
theorem dX5_spots_38 : decode cX5_spots 38 = .ok (.iload 5, 2) := dk_21 5 (dk_at dksX5_spots_1 16 rfl rfl)
theorem dX5_spots_40 : decode cX5_spots 40 = .ok (.bipush 48, 2) := dk_16 48 (dk_at dksX5_spots_1 18 rfl rfl)
theorem dX5_spots_42 : decode cX5_spots 42 = .ok (.if_icmp .ge 23, 3) := dk_162 0 23 (dk_at dksX5_spots_1 20 rfl rfl)
theorem dX5_spots_45 : decode cX5_spots 45 = .ok (.aload_n 0, 1) := dk_42 (dk_at dksX5_spots_1 23 rfl rfl)
theorem dX5_spots_46 : decode cX5_spots 46 = .ok (.getfield 90, 3) := dk_180 0 90 (dk_at dksX5_spots_2 0 rfl rfl)
theorem dX5_spots_49 : decode cX5_spots 49 = .ok (.iload 5, 2) := dk_21 5 (dk_at dksX5_spots_2 3 rfl rfl)
theorem dX5_spots_51 : decode cX5_spots 51 = .ok (.aload_n 0, 1) := dk_42 (dk_at dksX5_spots_2 5 rfl rfl)
theorem dX5_spots_52 : decode cX5_spots 52 = .ok (.getfield 81, 3) := dk_180 0 81 (dk_at dksX5_spots_2 6 rfl rfl)
theorem dX5_spots_55 : decode cX5_spots 55 = .ok (.iload 5, 2) := dk_21 5 (dk_at dksX5_spots_2 9 rfl rfl)
theorem dX5_spots_57 : decode cX5_spots 57 = .ok (.baload, 1) := dk_51 (dk_at dksX5_spots_2 11 rfl rfl)
theorem dX5_spots_58 : decode cX5_spots 58 = .ok (.bastore, 1) := dk_84 (dk_at dksX5_spots_2 12 rfl rfl)
theorem dX5_spots_59 : decode cX5_spots 59 = .ok (.iinc 5 1, 3) := dk_132 5 1 (dk_at dksX5_spots_2 13 rfl rfl)
theorem dX5_spots_62 : decode cX5_spots 62 = .ok (.goto (-24), 3) := dk_167 255 232 (dk_at dksX5_spots_2 16 rfl rfl)
theorem dX5_spots_65 : decode cX5_spots 65 = .ok (.aload_n 0, 1) := dk_42 (dk_at dksX5_spots_2 19 rfl rfl)
theorem dX5_spots_66 : decode cX5_spots 66 = .ok (.invokevirtual 370, 3) := dk_182 1 114 (dk_at dksX5_spots_2 20 rfl rfl)
theorem dX5_spots_69 : decode cX5_spots 69 = .ok (.iload 4, 2) := dk_21 4 (dk_at dksX5_spots_3 0 rfl rfl)
theorem dX5_spots_71 : decode cX5_spots 71 = .ok (.ifCond .ne 10, 3) := dk_154 0 10 (dk_at dksX5_spots_3 2 rfl rfl)
theorem dX5_spots_74 : decode cX5_spots 74 = .ok (.aload_n 0, 1) := dk_42 (dk_at dksX5_spots_3 5 rfl rfl)
theorem dX5_spots_75 : decode cX5_spots 75 = .ok (.getfield 364, 3) := dk_180 1 108 (dk_at dksX5_spots_3 6 rfl rfl)
theorem dX5_spots_78 : decode cX5_spots 78 = .ok (.goto 7, 3) := dk_167 0 7 (dk_at dksX5_spots_3 9 rfl rfl)
theorem dX5_spots_81 : decode cX5_spots 81 = .ok (.aload_n 0, 1) := dk_42 (dk_at dksX5_spots_3 12 rfl rfl)
theorem dX5_spots_82 : decode cX5_spots 82 = .ok (.getfield 367, 3) := dk_180 1 111 (dk_at dksX5_spots_3 13 rfl rfl)
theorem dX5_spots_85 : decode cX5_spots 85 = .ok (.ireturn, 1) := dk_172 (dk_at dksX5_spots_3 16 rfl rfl)
abbrev cX5_gathers : ByteArray := prog_19_method_82_code
def yX5_gathers : MethodName := ⟨RX5, "gathers", "()V"⟩
def dkwX5_gathers_7 : List UInt8 := [184, 0, 242, 181, 1, 111, 132, 2, 1, 167, 255, 178, 177]
abbrev dktX5_gathers_7 : List UInt8 := dkwX5_gathers_7 ++ []
def dkwX5_gathers_6 : List UInt8 := [167, 255, 221, 29, 158, 0, 13, 42, 42, 180, 1, 108, 4, 96, 181, 1, 108, 42, 42, 180, 1, 111, 29]
abbrev dktX5_gathers_6 : List UInt8 := dkwX5_gathers_6 ++ dktX5_gathers_7
def dkwX5_gathers_5 : List UInt8 := [51, 153, 0, 18, 42, 180, 0, 93, 21, 4, 46, 28, 160, 0, 7, 29, 4, 96, 62, 132, 4, 1]
abbrev dktX5_gathers_5 : List UInt8 := dkwX5_gathers_5 ++ dktX5_gathers_6
def dkwX5_gathers_4 : List UInt8 := [28, 16, 48, 162, 0, 78, 3, 62, 3, 54, 4, 21, 4, 16, 48, 162, 0, 34, 42, 180, 0, 90, 21, 4]
abbrev dktX5_gathers_4 : List UInt8 := dkwX5_gathers_4 ++ dktX5_gathers_5
def dkwX5_gathers_3 : List UInt8 := [79, 4, 60, 132, 2, 1, 167, 255, 209, 167, 255, 198, 42, 3, 181, 1, 108, 42, 3, 181, 1, 111, 3, 61]
abbrev dktX5_gathers_3 : List UInt8 := dkwX5_gathers_3 ++ dktX5_gathers_4
def dkwX5_gathers_2 : List UInt8 := [182, 1, 105, 167, 0, 4, 28, 62, 29, 42, 180, 0, 93, 28, 46, 162, 0, 12, 42, 180, 0, 93, 28, 29]
abbrev dktX5_gathers_2 : List UInt8 := dkwX5_gathers_2 ++ dktX5_gathers_3
def dkwX5_gathers_1 : List UInt8 := [153, 0, 60, 3, 60, 3, 61, 28, 16, 48, 162, 0, 47, 42, 180, 0, 90, 28, 51, 153, 0, 11, 42, 28]
abbrev dktX5_gathers_1 : List UInt8 := dkwX5_gathers_1 ++ dktX5_gathers_2
def dkwX5_gathers_0 : List UInt8 := [3, 60, 27, 16, 48, 162, 0, 16, 42, 180, 0, 93, 27, 27, 79, 132, 1, 1, 167, 255, 240, 4, 60, 27]
abbrev dktX5_gathers_0 : List UInt8 := dkwX5_gathers_0 ++ dktX5_gathers_1
theorem dksX5_gathers_0 : cX5_gathers.data.toList.drop 0 = dktX5_gathers_0 := by decide +kernel
theorem dksX5_gathers_1 : cX5_gathers.data.toList.drop 24 = dktX5_gathers_1 := dk_seg dksX5_gathers_0 24 rfl rfl
theorem dksX5_gathers_2 : cX5_gathers.data.toList.drop 48 = dktX5_gathers_2 := dk_seg dksX5_gathers_1 24 rfl rfl
theorem dksX5_gathers_3 : cX5_gathers.data.toList.drop 72 = dktX5_gathers_3 := dk_seg dksX5_gathers_2 24 rfl rfl
theorem dksX5_gathers_4 : cX5_gathers.data.toList.drop 96 = dktX5_gathers_4 := dk_seg dksX5_gathers_3 24 rfl rfl
theorem dksX5_gathers_5 : cX5_gathers.data.toList.drop 120 = dktX5_gathers_5 := dk_seg dksX5_gathers_4 24 rfl rfl
theorem dksX5_gathers_6 : cX5_gathers.data.toList.drop 142 = dktX5_gathers_6 := dk_seg dksX5_gathers_5 22 rfl rfl
theorem dksX5_gathers_7 : cX5_gathers.data.toList.drop 165 = dktX5_gathers_7 := dk_seg dksX5_gathers_6 23 rfl rfl
theorem dX5_gathers_0 : decode cX5_gathers 0 = .ok (.iconst 0, 1) := dk_3 (dk_at dksX5_gathers_0 0 rfl rfl)
theorem dX5_gathers_1 : decode cX5_gathers 1 = .ok (.istore_n 1, 1) := dk_60 (dk_at dksX5_gathers_0 1 rfl rfl)
theorem dX5_gathers_2 : decode cX5_gathers 2 = .ok (.iload_n 1, 1) := dk_27 (dk_at dksX5_gathers_0 2 rfl rfl)
theorem dX5_gathers_3 : decode cX5_gathers 3 = .ok (.bipush 48, 2) := dk_16 48 (dk_at dksX5_gathers_0 3 rfl rfl)
theorem dX5_gathers_5 : decode cX5_gathers 5 = .ok (.if_icmp .ge 16, 3) := dk_162 0 16 (dk_at dksX5_gathers_0 5 rfl rfl)
theorem dX5_gathers_8 : decode cX5_gathers 8 = .ok (.aload_n 0, 1) := dk_42 (dk_at dksX5_gathers_0 8 rfl rfl)
theorem dX5_gathers_9 : decode cX5_gathers 9 = .ok (.getfield 93, 3) := dk_180 0 93 (dk_at dksX5_gathers_0 9 rfl rfl)
theorem dX5_gathers_12 : decode cX5_gathers 12 = .ok (.iload_n 1, 1) := dk_27 (dk_at dksX5_gathers_0 12 rfl rfl)
theorem dX5_gathers_13 : decode cX5_gathers 13 = .ok (.iload_n 1, 1) := dk_27 (dk_at dksX5_gathers_0 13 rfl rfl)
theorem dX5_gathers_14 : decode cX5_gathers 14 = .ok (.iastore, 1) := dk_79 (dk_at dksX5_gathers_0 14 rfl rfl)
theorem dX5_gathers_15 : decode cX5_gathers 15 = .ok (.iinc 1 1, 3) := dk_132 1 1 (dk_at dksX5_gathers_0 15 rfl rfl)
theorem dX5_gathers_18 : decode cX5_gathers 18 = .ok (.goto (-16), 3) := dk_167 255 240 (dk_at dksX5_gathers_0 18 rfl rfl)
theorem dX5_gathers_21 : decode cX5_gathers 21 = .ok (.iconst 1, 1) := dk_4 (dk_at dksX5_gathers_0 21 rfl rfl)
theorem dX5_gathers_22 : decode cX5_gathers 22 = .ok (.istore_n 1, 1) := dk_60 (dk_at dksX5_gathers_0 22 rfl rfl)
theorem dX5_gathers_23 : decode cX5_gathers 23 = .ok (.iload_n 1, 1) := dk_27 (dk_at dksX5_gathers_0 23 rfl rfl)
theorem dX5_gathers_24 : decode cX5_gathers 24 = .ok (.ifCond .eq 60, 3) := dk_153 0 60 (dk_at dksX5_gathers_1 0 rfl rfl)
theorem dX5_gathers_27 : decode cX5_gathers 27 = .ok (.iconst 0, 1) := dk_3 (dk_at dksX5_gathers_1 3 rfl rfl)
theorem dX5_gathers_28 : decode cX5_gathers 28 = .ok (.istore_n 1, 1) := dk_60 (dk_at dksX5_gathers_1 4 rfl rfl)
theorem dX5_gathers_29 : decode cX5_gathers 29 = .ok (.iconst 0, 1) := dk_3 (dk_at dksX5_gathers_1 5 rfl rfl)
theorem dX5_gathers_30 : decode cX5_gathers 30 = .ok (.istore_n 2, 1) := dk_61 (dk_at dksX5_gathers_1 6 rfl rfl)
theorem dX5_gathers_31 : decode cX5_gathers 31 = .ok (.iload_n 2, 1) := dk_28 (dk_at dksX5_gathers_1 7 rfl rfl)
theorem dX5_gathers_32 : decode cX5_gathers 32 = .ok (.bipush 48, 2) := dk_16 48 (dk_at dksX5_gathers_1 8 rfl rfl)
theorem dX5_gathers_34 : decode cX5_gathers 34 = .ok (.if_icmp .ge 47, 3) := dk_162 0 47 (dk_at dksX5_gathers_1 10 rfl rfl)
theorem dX5_gathers_37 : decode cX5_gathers 37 = .ok (.aload_n 0, 1) := dk_42 (dk_at dksX5_gathers_1 13 rfl rfl)
theorem dX5_gathers_38 : decode cX5_gathers 38 = .ok (.getfield 90, 3) := dk_180 0 90 (dk_at dksX5_gathers_1 14 rfl rfl)
theorem dX5_gathers_41 : decode cX5_gathers 41 = .ok (.iload_n 2, 1) := dk_28 (dk_at dksX5_gathers_1 17 rfl rfl)
theorem dX5_gathers_42 : decode cX5_gathers 42 = .ok (.baload, 1) := dk_51 (dk_at dksX5_gathers_1 18 rfl rfl)
theorem dX5_gathers_43 : decode cX5_gathers 43 = .ok (.ifCond .eq 11, 3) := dk_153 0 11 (dk_at dksX5_gathers_1 19 rfl rfl)
theorem dX5_gathers_46 : decode cX5_gathers 46 = .ok (.aload_n 0, 1) := dk_42 (dk_at dksX5_gathers_1 22 rfl rfl)
theorem dX5_gathers_47 : decode cX5_gathers 47 = .ok (.iload_n 2, 1) := dk_28 (dk_at dksX5_gathers_1 23 rfl rfl)
theorem dX5_gathers_48 : decode cX5_gathers 48 = .ok (.invokevirtual 361, 3) := dk_182 1 105 (dk_at dksX5_gathers_2 0 rfl rfl)
theorem dX5_gathers_51 : decode cX5_gathers 51 = .ok (.goto 4, 3) := dk_167 0 4 (dk_at dksX5_gathers_2 3 rfl rfl)
theorem dX5_gathers_54 : decode cX5_gathers 54 = .ok (.iload_n 2, 1) := dk_28 (dk_at dksX5_gathers_2 6 rfl rfl)
theorem dX5_gathers_55 : decode cX5_gathers 55 = .ok (.istore_n 3, 1) := dk_62 (dk_at dksX5_gathers_2 7 rfl rfl)
theorem dX5_gathers_56 : decode cX5_gathers 56 = .ok (.iload_n 3, 1) := dk_29 (dk_at dksX5_gathers_2 8 rfl rfl)
theorem dX5_gathers_57 : decode cX5_gathers 57 = .ok (.aload_n 0, 1) := dk_42 (dk_at dksX5_gathers_2 9 rfl rfl)
theorem dX5_gathers_58 : decode cX5_gathers 58 = .ok (.getfield 93, 3) := dk_180 0 93 (dk_at dksX5_gathers_2 10 rfl rfl)
theorem dX5_gathers_61 : decode cX5_gathers 61 = .ok (.iload_n 2, 1) := dk_28 (dk_at dksX5_gathers_2 13 rfl rfl)
theorem dX5_gathers_62 : decode cX5_gathers 62 = .ok (.iaload, 1) := dk_46 (dk_at dksX5_gathers_2 14 rfl rfl)
theorem dX5_gathers_63 : decode cX5_gathers 63 = .ok (.if_icmp .ge 12, 3) := dk_162 0 12 (dk_at dksX5_gathers_2 15 rfl rfl)
theorem dX5_gathers_66 : decode cX5_gathers 66 = .ok (.aload_n 0, 1) := dk_42 (dk_at dksX5_gathers_2 18 rfl rfl)
theorem dX5_gathers_67 : decode cX5_gathers 67 = .ok (.getfield 93, 3) := dk_180 0 93 (dk_at dksX5_gathers_2 19 rfl rfl)
theorem dX5_gathers_70 : decode cX5_gathers 70 = .ok (.iload_n 2, 1) := dk_28 (dk_at dksX5_gathers_2 22 rfl rfl)
theorem dX5_gathers_71 : decode cX5_gathers 71 = .ok (.iload_n 3, 1) := dk_29 (dk_at dksX5_gathers_2 23 rfl rfl)
theorem dX5_gathers_72 : decode cX5_gathers 72 = .ok (.iastore, 1) := dk_79 (dk_at dksX5_gathers_3 0 rfl rfl)
theorem dX5_gathers_73 : decode cX5_gathers 73 = .ok (.iconst 1, 1) := dk_4 (dk_at dksX5_gathers_3 1 rfl rfl)
theorem dX5_gathers_74 : decode cX5_gathers 74 = .ok (.istore_n 1, 1) := dk_60 (dk_at dksX5_gathers_3 2 rfl rfl)
theorem dX5_gathers_75 : decode cX5_gathers 75 = .ok (.iinc 2 1, 3) := dk_132 2 1 (dk_at dksX5_gathers_3 3 rfl rfl)
theorem dX5_gathers_78 : decode cX5_gathers 78 = .ok (.goto (-47), 3) := dk_167 255 209 (dk_at dksX5_gathers_3 6 rfl rfl)
theorem dX5_gathers_81 : decode cX5_gathers 81 = .ok (.goto (-58), 3) := dk_167 255 198 (dk_at dksX5_gathers_3 9 rfl rfl)
theorem dX5_gathers_84 : decode cX5_gathers 84 = .ok (.aload_n 0, 1) := dk_42 (dk_at dksX5_gathers_3 12 rfl rfl)
theorem dX5_gathers_85 : decode cX5_gathers 85 = .ok (.iconst 0, 1) := dk_3 (dk_at dksX5_gathers_3 13 rfl rfl)
theorem dX5_gathers_86 : decode cX5_gathers 86 = .ok (.putfield 364, 3) := dk_181 1 108 (dk_at dksX5_gathers_3 14 rfl rfl)
theorem dX5_gathers_89 : decode cX5_gathers 89 = .ok (.aload_n 0, 1) := dk_42 (dk_at dksX5_gathers_3 17 rfl rfl)
theorem dX5_gathers_90 : decode cX5_gathers 90 = .ok (.iconst 0, 1) := dk_3 (dk_at dksX5_gathers_3 18 rfl rfl)
theorem dX5_gathers_91 : decode cX5_gathers 91 = .ok (.putfield 367, 3) := dk_181 1 111 (dk_at dksX5_gathers_3 19 rfl rfl)
theorem dX5_gathers_94 : decode cX5_gathers 94 = .ok (.iconst 0, 1) := dk_3 (dk_at dksX5_gathers_3 22 rfl rfl)
theorem dX5_gathers_95 : decode cX5_gathers 95 = .ok (.istore_n 2, 1) := dk_61 (dk_at dksX5_gathers_3 23 rfl rfl)
theorem dX5_gathers_96 : decode cX5_gathers 96 = .ok (.iload_n 2, 1) := dk_28 (dk_at dksX5_gathers_4 0 rfl rfl)
theorem dX5_gathers_97 : decode cX5_gathers 97 = .ok (.bipush 48, 2) := dk_16 48 (dk_at dksX5_gathers_4 1 rfl rfl)
theorem dX5_gathers_99 : decode cX5_gathers 99 = .ok (.if_icmp .ge 78, 3) := dk_162 0 78 (dk_at dksX5_gathers_4 3 rfl rfl)
theorem dX5_gathers_102 : decode cX5_gathers 102 = .ok (.iconst 0, 1) := dk_3 (dk_at dksX5_gathers_4 6 rfl rfl)
theorem dX5_gathers_103 : decode cX5_gathers 103 = .ok (.istore_n 3, 1) := dk_62 (dk_at dksX5_gathers_4 7 rfl rfl)
theorem dX5_gathers_104 : decode cX5_gathers 104 = .ok (.iconst 0, 1) := dk_3 (dk_at dksX5_gathers_4 8 rfl rfl)
theorem dX5_gathers_105 : decode cX5_gathers 105 = .ok (.istore 4, 2) := dk_54 4 (dk_at dksX5_gathers_4 9 rfl rfl)
theorem dX5_gathers_107 : decode cX5_gathers 107 = .ok (.iload 4, 2) := dk_21 4 (dk_at dksX5_gathers_4 11 rfl rfl)
theorem dX5_gathers_109 : decode cX5_gathers 109 = .ok (.bipush 48, 2) := dk_16 48 (dk_at dksX5_gathers_4 13 rfl rfl)
theorem dX5_gathers_111 : decode cX5_gathers 111 = .ok (.if_icmp .ge 34, 3) := dk_162 0 34 (dk_at dksX5_gathers_4 15 rfl rfl)
theorem dX5_gathers_114 : decode cX5_gathers 114 = .ok (.aload_n 0, 1) := dk_42 (dk_at dksX5_gathers_4 18 rfl rfl)
theorem dX5_gathers_115 : decode cX5_gathers 115 = .ok (.getfield 90, 3) := dk_180 0 90 (dk_at dksX5_gathers_4 19 rfl rfl)
theorem dX5_gathers_118 : decode cX5_gathers 118 = .ok (.iload 4, 2) := dk_21 4 (dk_at dksX5_gathers_4 22 rfl rfl)
theorem dX5_gathers_120 : decode cX5_gathers 120 = .ok (.baload, 1) := dk_51 (dk_at dksX5_gathers_5 0 rfl rfl)
theorem dX5_gathers_121 : decode cX5_gathers 121 = .ok (.ifCond .eq 18, 3) := dk_153 0 18 (dk_at dksX5_gathers_5 1 rfl rfl)
theorem dX5_gathers_124 : decode cX5_gathers 124 = .ok (.aload_n 0, 1) := dk_42 (dk_at dksX5_gathers_5 4 rfl rfl)
theorem dX5_gathers_125 : decode cX5_gathers 125 = .ok (.getfield 93, 3) := dk_180 0 93 (dk_at dksX5_gathers_5 5 rfl rfl)
theorem dX5_gathers_128 : decode cX5_gathers 128 = .ok (.iload 4, 2) := dk_21 4 (dk_at dksX5_gathers_5 8 rfl rfl)
theorem dX5_gathers_130 : decode cX5_gathers 130 = .ok (.iaload, 1) := dk_46 (dk_at dksX5_gathers_5 10 rfl rfl)
theorem dX5_gathers_131 : decode cX5_gathers 131 = .ok (.iload_n 2, 1) := dk_28 (dk_at dksX5_gathers_5 11 rfl rfl)
theorem dX5_gathers_132 : decode cX5_gathers 132 = .ok (.if_icmp .ne 7, 3) := dk_160 0 7 (dk_at dksX5_gathers_5 12 rfl rfl)
theorem dX5_gathers_135 : decode cX5_gathers 135 = .ok (.iload_n 3, 1) := dk_29 (dk_at dksX5_gathers_5 15 rfl rfl)
theorem dX5_gathers_136 : decode cX5_gathers 136 = .ok (.iconst 1, 1) := dk_4 (dk_at dksX5_gathers_5 16 rfl rfl)
theorem dX5_gathers_137 : decode cX5_gathers 137 = .ok (.iadd, 1) := dk_96 (dk_at dksX5_gathers_5 17 rfl rfl)
theorem dX5_gathers_138 : decode cX5_gathers 138 = .ok (.istore_n 3, 1) := dk_62 (dk_at dksX5_gathers_5 18 rfl rfl)
theorem dX5_gathers_139 : decode cX5_gathers 139 = .ok (.iinc 4 1, 3) := dk_132 4 1 (dk_at dksX5_gathers_5 19 rfl rfl)
theorem dX5_gathers_142 : decode cX5_gathers 142 = .ok (.goto (-35), 3) := dk_167 255 221 (dk_at dksX5_gathers_6 0 rfl rfl)
theorem dX5_gathers_145 : decode cX5_gathers 145 = .ok (.iload_n 3, 1) := dk_29 (dk_at dksX5_gathers_6 3 rfl rfl)
theorem dX5_gathers_146 : decode cX5_gathers 146 = .ok (.ifCond .le 13, 3) := dk_158 0 13 (dk_at dksX5_gathers_6 4 rfl rfl)
theorem dX5_gathers_149 : decode cX5_gathers 149 = .ok (.aload_n 0, 1) := dk_42 (dk_at dksX5_gathers_6 7 rfl rfl)
theorem dX5_gathers_150 : decode cX5_gathers 150 = .ok (.aload_n 0, 1) := dk_42 (dk_at dksX5_gathers_6 8 rfl rfl)
theorem dX5_gathers_151 : decode cX5_gathers 151 = .ok (.getfield 364, 3) := dk_180 1 108 (dk_at dksX5_gathers_6 9 rfl rfl)
theorem dX5_gathers_154 : decode cX5_gathers 154 = .ok (.iconst 1, 1) := dk_4 (dk_at dksX5_gathers_6 12 rfl rfl)
theorem dX5_gathers_155 : decode cX5_gathers 155 = .ok (.iadd, 1) := dk_96 (dk_at dksX5_gathers_6 13 rfl rfl)
theorem dX5_gathers_156 : decode cX5_gathers 156 = .ok (.putfield 364, 3) := dk_181 1 108 (dk_at dksX5_gathers_6 14 rfl rfl)
theorem dX5_gathers_159 : decode cX5_gathers 159 = .ok (.aload_n 0, 1) := dk_42 (dk_at dksX5_gathers_6 17 rfl rfl)
theorem dX5_gathers_160 : decode cX5_gathers 160 = .ok (.aload_n 0, 1) := dk_42 (dk_at dksX5_gathers_6 18 rfl rfl)
theorem dX5_gathers_161 : decode cX5_gathers 161 = .ok (.getfield 367, 3) := dk_180 1 111 (dk_at dksX5_gathers_6 19 rfl rfl)
theorem dX5_gathers_164 : decode cX5_gathers 164 = .ok (.iload_n 3, 1) := dk_29 (dk_at dksX5_gathers_6 22 rfl rfl)
theorem dX5_gathers_165 : decode cX5_gathers 165 = .ok (.invokestatic 242, 3) := dk_184 0 242 (dk_at dksX5_gathers_7 0 rfl rfl)
theorem dX5_gathers_168 : decode cX5_gathers 168 = .ok (.putfield 367, 3) := dk_181 1 111 (dk_at dksX5_gathers_7 3 rfl rfl)
theorem dX5_gathers_171 : decode cX5_gathers 171 = .ok (.iinc 2 1, 3) := dk_132 2 1 (dk_at dksX5_gathers_7 6 rfl rfl)
theorem dX5_gathers_174 : decode cX5_gathers 174 = .ok (.goto (-78), 3) := dk_167 255 178 (dk_at dksX5_gathers_7 9 rfl rfl)
theorem dX5_gathers_177 : decode cX5_gathers 177 = .ok (.return_, 1) := dk_177 (dk_at dksX5_gathers_7 12 rfl rfl)
abbrev cX5_lowestBeside : ByteArray := prog_19_method_81_code
def yX5_lowestBeside : MethodName := ⟨RX5, "lowestBeside", "(I)I"⟩
def dkwX5_lowestBeside_2 : List UInt8 := [61, 132, 3, 1, 167, 255, 213, 28, 172]
abbrev dktX5_lowestBeside_2 : List UInt8 := dkwX5_lowestBeside_2 ++ []
def dkwX5_lowestBeside_1 : List UInt8 := [159, 0, 25, 42, 180, 0, 90, 21, 4, 51, 153, 0, 15, 28, 42, 180, 0, 93, 21, 4, 46, 184, 0, 239]
abbrev dktX5_lowestBeside_1 : List UInt8 := dkwX5_lowestBeside_1 ++ dktX5_lowestBeside_2
def dkwX5_lowestBeside_0 : List UInt8 := [42, 180, 0, 93, 27, 46, 61, 3, 62, 29, 7, 162, 0, 44, 27, 29, 184, 1, 102, 54, 4, 21, 4, 2]
abbrev dktX5_lowestBeside_0 : List UInt8 := dkwX5_lowestBeside_0 ++ dktX5_lowestBeside_1
theorem dksX5_lowestBeside_0 : cX5_lowestBeside.data.toList.drop 0 = dktX5_lowestBeside_0 := by decide +kernel
theorem dksX5_lowestBeside_1 : cX5_lowestBeside.data.toList.drop 24 = dktX5_lowestBeside_1 := dk_seg dksX5_lowestBeside_0 24 rfl rfl
theorem dksX5_lowestBeside_2 : cX5_lowestBeside.data.toList.drop 48 = dktX5_lowestBeside_2 := dk_seg dksX5_lowestBeside_1 24 rfl rfl
theorem dX5_lowestBeside_0 : decode cX5_lowestBeside 0 = .ok (.aload_n 0, 1) := dk_42 (dk_at dksX5_lowestBeside_0 0 rfl rfl)
theorem dX5_lowestBeside_1 : decode cX5_lowestBeside 1 = .ok (.getfield 93, 3) := dk_180 0 93 (dk_at dksX5_lowestBeside_0 1 rfl rfl)
theorem dX5_lowestBeside_4 : decode cX5_lowestBeside 4 = .ok (.iload_n 1, 1) := dk_27 (dk_at dksX5_lowestBeside_0 4 rfl rfl)
theorem dX5_lowestBeside_5 : decode cX5_lowestBeside 5 = .ok (.iaload, 1) := dk_46 (dk_at dksX5_lowestBeside_0 5 rfl rfl)
theorem dX5_lowestBeside_6 : decode cX5_lowestBeside 6 = .ok (.istore_n 2, 1) := dk_61 (dk_at dksX5_lowestBeside_0 6 rfl rfl)
theorem dX5_lowestBeside_7 : decode cX5_lowestBeside 7 = .ok (.iconst 0, 1) := dk_3 (dk_at dksX5_lowestBeside_0 7 rfl rfl)
theorem dX5_lowestBeside_8 : decode cX5_lowestBeside 8 = .ok (.istore_n 3, 1) := dk_62 (dk_at dksX5_lowestBeside_0 8 rfl rfl)
theorem dX5_lowestBeside_9 : decode cX5_lowestBeside 9 = .ok (.iload_n 3, 1) := dk_29 (dk_at dksX5_lowestBeside_0 9 rfl rfl)
theorem dX5_lowestBeside_10 : decode cX5_lowestBeside 10 = .ok (.iconst 4, 1) := dk_7 (dk_at dksX5_lowestBeside_0 10 rfl rfl)
theorem dX5_lowestBeside_11 : decode cX5_lowestBeside 11 = .ok (.if_icmp .ge 44, 3) := dk_162 0 44 (dk_at dksX5_lowestBeside_0 11 rfl rfl)
theorem dX5_lowestBeside_14 : decode cX5_lowestBeside 14 = .ok (.iload_n 1, 1) := dk_27 (dk_at dksX5_lowestBeside_0 14 rfl rfl)
theorem dX5_lowestBeside_15 : decode cX5_lowestBeside 15 = .ok (.iload_n 3, 1) := dk_29 (dk_at dksX5_lowestBeside_0 15 rfl rfl)
theorem dX5_lowestBeside_16 : decode cX5_lowestBeside 16 = .ok (.invokestatic 358, 3) := dk_184 1 102 (dk_at dksX5_lowestBeside_0 16 rfl rfl)
theorem dX5_lowestBeside_19 : decode cX5_lowestBeside 19 = .ok (.istore 4, 2) := dk_54 4 (dk_at dksX5_lowestBeside_0 19 rfl rfl)
theorem dX5_lowestBeside_21 : decode cX5_lowestBeside 21 = .ok (.iload 4, 2) := dk_21 4 (dk_at dksX5_lowestBeside_0 21 rfl rfl)
theorem dX5_lowestBeside_23 : decode cX5_lowestBeside 23 = .ok (.iconst (-1), 1) := dk_2 (dk_at dksX5_lowestBeside_0 23 rfl rfl)
theorem dX5_lowestBeside_24 : decode cX5_lowestBeside 24 = .ok (.if_icmp .eq 25, 3) := dk_159 0 25 (dk_at dksX5_lowestBeside_1 0 rfl rfl)
theorem dX5_lowestBeside_27 : decode cX5_lowestBeside 27 = .ok (.aload_n 0, 1) := dk_42 (dk_at dksX5_lowestBeside_1 3 rfl rfl)
theorem dX5_lowestBeside_28 : decode cX5_lowestBeside 28 = .ok (.getfield 90, 3) := dk_180 0 90 (dk_at dksX5_lowestBeside_1 4 rfl rfl)
theorem dX5_lowestBeside_31 : decode cX5_lowestBeside 31 = .ok (.iload 4, 2) := dk_21 4 (dk_at dksX5_lowestBeside_1 7 rfl rfl)
theorem dX5_lowestBeside_33 : decode cX5_lowestBeside 33 = .ok (.baload, 1) := dk_51 (dk_at dksX5_lowestBeside_1 9 rfl rfl)
theorem dX5_lowestBeside_34 : decode cX5_lowestBeside 34 = .ok (.ifCond .eq 15, 3) := dk_153 0 15 (dk_at dksX5_lowestBeside_1 10 rfl rfl)
theorem dX5_lowestBeside_37 : decode cX5_lowestBeside 37 = .ok (.iload_n 2, 1) := dk_28 (dk_at dksX5_lowestBeside_1 13 rfl rfl)
theorem dX5_lowestBeside_38 : decode cX5_lowestBeside 38 = .ok (.aload_n 0, 1) := dk_42 (dk_at dksX5_lowestBeside_1 14 rfl rfl)
theorem dX5_lowestBeside_39 : decode cX5_lowestBeside 39 = .ok (.getfield 93, 3) := dk_180 0 93 (dk_at dksX5_lowestBeside_1 15 rfl rfl)
theorem dX5_lowestBeside_42 : decode cX5_lowestBeside 42 = .ok (.iload 4, 2) := dk_21 4 (dk_at dksX5_lowestBeside_1 18 rfl rfl)
theorem dX5_lowestBeside_44 : decode cX5_lowestBeside 44 = .ok (.iaload, 1) := dk_46 (dk_at dksX5_lowestBeside_1 20 rfl rfl)
theorem dX5_lowestBeside_45 : decode cX5_lowestBeside 45 = .ok (.invokestatic 239, 3) := dk_184 0 239 (dk_at dksX5_lowestBeside_1 21 rfl rfl)
theorem dX5_lowestBeside_48 : decode cX5_lowestBeside 48 = .ok (.istore_n 2, 1) := dk_61 (dk_at dksX5_lowestBeside_2 0 rfl rfl)
theorem dX5_lowestBeside_49 : decode cX5_lowestBeside 49 = .ok (.iinc 3 1, 3) := dk_132 3 1 (dk_at dksX5_lowestBeside_2 1 rfl rfl)
theorem dX5_lowestBeside_52 : decode cX5_lowestBeside 52 = .ok (.goto (-43), 3) := dk_167 255 213 (dk_at dksX5_lowestBeside_2 4 rfl rfl)
theorem dX5_lowestBeside_55 : decode cX5_lowestBeside 55 = .ok (.iload_n 2, 1) := dk_28 (dk_at dksX5_lowestBeside_2 7 rfl rfl)
theorem dX5_lowestBeside_56 : decode cX5_lowestBeside 56 = .ok (.ireturn, 1) := dk_172 (dk_at dksX5_lowestBeside_2 8 rfl rfl)
abbrev cX5_beside : ByteArray := prog_19_method_80_code
def yX5_beside : MethodName := ⟨RX5, "beside", "(II)I"⟩
def dkwX5_beside_3 : List UInt8 := [28, 96, 167, 0, 4, 2, 172]
abbrev dktX5_beside_3 : List UInt8 := dkwX5_beside_3 ++ []
def dkwX5_beside_2 : List UInt8 := [62, 28, 3, 16, 7, 184, 0, 112, 153, 0, 21, 29, 3, 8, 184, 0, 112, 153, 0, 12, 16, 8, 29, 104]
abbrev dktX5_beside_2 : List UInt8 := dkwX5_beside_2 ++ dktX5_beside_3
def dkwX5_beside_1 : List UInt8 := [26, 16, 8, 108, 27, 5, 160, 0, 7, 4, 167, 0, 13, 27, 6, 160, 0, 7, 2, 167, 0, 4, 3, 96]
abbrev dktX5_beside_1 : List UInt8 := dkwX5_beside_1 ++ dktX5_beside_2
def dkwX5_beside_0 : List UInt8 := [26, 16, 8, 112, 27, 154, 0, 7, 4, 167, 0, 13, 27, 4, 160, 0, 7, 2, 167, 0, 4, 3, 96, 61]
abbrev dktX5_beside_0 : List UInt8 := dkwX5_beside_0 ++ dktX5_beside_1
theorem dksX5_beside_0 : cX5_beside.data.toList.drop 0 = dktX5_beside_0 := by decide +kernel
theorem dksX5_beside_1 : cX5_beside.data.toList.drop 24 = dktX5_beside_1 := dk_seg dksX5_beside_0 24 rfl rfl
theorem dksX5_beside_2 : cX5_beside.data.toList.drop 48 = dktX5_beside_2 := dk_seg dksX5_beside_1 24 rfl rfl
theorem dksX5_beside_3 : cX5_beside.data.toList.drop 72 = dktX5_beside_3 := dk_seg dksX5_beside_2 24 rfl rfl
theorem dX5_beside_0 : decode cX5_beside 0 = .ok (.iload_n 0, 1) := dk_26 (dk_at dksX5_beside_0 0 rfl rfl)
theorem dX5_beside_1 : decode cX5_beside 1 = .ok (.bipush 8, 2) := dk_16 8 (dk_at dksX5_beside_0 1 rfl rfl)
theorem dX5_beside_3 : decode cX5_beside 3 = .ok (.irem, 1) := dk_112 (dk_at dksX5_beside_0 3 rfl rfl)
theorem dX5_beside_4 : decode cX5_beside 4 = .ok (.iload_n 1, 1) := dk_27 (dk_at dksX5_beside_0 4 rfl rfl)
theorem dX5_beside_5 : decode cX5_beside 5 = .ok (.ifCond .ne 7, 3) := dk_154 0 7 (dk_at dksX5_beside_0 5 rfl rfl)
theorem dX5_beside_8 : decode cX5_beside 8 = .ok (.iconst 1, 1) := dk_4 (dk_at dksX5_beside_0 8 rfl rfl)
theorem dX5_beside_9 : decode cX5_beside 9 = .ok (.goto 13, 3) := dk_167 0 13 (dk_at dksX5_beside_0 9 rfl rfl)
theorem dX5_beside_12 : decode cX5_beside 12 = .ok (.iload_n 1, 1) := dk_27 (dk_at dksX5_beside_0 12 rfl rfl)
theorem dX5_beside_13 : decode cX5_beside 13 = .ok (.iconst 1, 1) := dk_4 (dk_at dksX5_beside_0 13 rfl rfl)
theorem dX5_beside_14 : decode cX5_beside 14 = .ok (.if_icmp .ne 7, 3) := dk_160 0 7 (dk_at dksX5_beside_0 14 rfl rfl)
theorem dX5_beside_17 : decode cX5_beside 17 = .ok (.iconst (-1), 1) := dk_2 (dk_at dksX5_beside_0 17 rfl rfl)
theorem dX5_beside_18 : decode cX5_beside 18 = .ok (.goto 4, 3) := dk_167 0 4 (dk_at dksX5_beside_0 18 rfl rfl)
theorem dX5_beside_21 : decode cX5_beside 21 = .ok (.iconst 0, 1) := dk_3 (dk_at dksX5_beside_0 21 rfl rfl)
theorem dX5_beside_22 : decode cX5_beside 22 = .ok (.iadd, 1) := dk_96 (dk_at dksX5_beside_0 22 rfl rfl)
theorem dX5_beside_23 : decode cX5_beside 23 = .ok (.istore_n 2, 1) := dk_61 (dk_at dksX5_beside_0 23 rfl rfl)
theorem dX5_beside_24 : decode cX5_beside 24 = .ok (.iload_n 0, 1) := dk_26 (dk_at dksX5_beside_1 0 rfl rfl)
theorem dX5_beside_25 : decode cX5_beside 25 = .ok (.bipush 8, 2) := dk_16 8 (dk_at dksX5_beside_1 1 rfl rfl)
theorem dX5_beside_27 : decode cX5_beside 27 = .ok (.idiv, 1) := dk_108 (dk_at dksX5_beside_1 3 rfl rfl)
theorem dX5_beside_28 : decode cX5_beside 28 = .ok (.iload_n 1, 1) := dk_27 (dk_at dksX5_beside_1 4 rfl rfl)
theorem dX5_beside_29 : decode cX5_beside 29 = .ok (.iconst 2, 1) := dk_5 (dk_at dksX5_beside_1 5 rfl rfl)
theorem dX5_beside_30 : decode cX5_beside 30 = .ok (.if_icmp .ne 7, 3) := dk_160 0 7 (dk_at dksX5_beside_1 6 rfl rfl)
theorem dX5_beside_33 : decode cX5_beside 33 = .ok (.iconst 1, 1) := dk_4 (dk_at dksX5_beside_1 9 rfl rfl)
theorem dX5_beside_34 : decode cX5_beside 34 = .ok (.goto 13, 3) := dk_167 0 13 (dk_at dksX5_beside_1 10 rfl rfl)
theorem dX5_beside_37 : decode cX5_beside 37 = .ok (.iload_n 1, 1) := dk_27 (dk_at dksX5_beside_1 13 rfl rfl)
theorem dX5_beside_38 : decode cX5_beside 38 = .ok (.iconst 3, 1) := dk_6 (dk_at dksX5_beside_1 14 rfl rfl)
theorem dX5_beside_39 : decode cX5_beside 39 = .ok (.if_icmp .ne 7, 3) := dk_160 0 7 (dk_at dksX5_beside_1 15 rfl rfl)
theorem dX5_beside_42 : decode cX5_beside 42 = .ok (.iconst (-1), 1) := dk_2 (dk_at dksX5_beside_1 18 rfl rfl)
theorem dX5_beside_43 : decode cX5_beside 43 = .ok (.goto 4, 3) := dk_167 0 4 (dk_at dksX5_beside_1 19 rfl rfl)
theorem dX5_beside_46 : decode cX5_beside 46 = .ok (.iconst 0, 1) := dk_3 (dk_at dksX5_beside_1 22 rfl rfl)
theorem dX5_beside_47 : decode cX5_beside 47 = .ok (.iadd, 1) := dk_96 (dk_at dksX5_beside_1 23 rfl rfl)
theorem dX5_beside_48 : decode cX5_beside 48 = .ok (.istore_n 3, 1) := dk_62 (dk_at dksX5_beside_2 0 rfl rfl)
theorem dX5_beside_49 : decode cX5_beside 49 = .ok (.iload_n 2, 1) := dk_28 (dk_at dksX5_beside_2 1 rfl rfl)
theorem dX5_beside_50 : decode cX5_beside 50 = .ok (.iconst 0, 1) := dk_3 (dk_at dksX5_beside_2 2 rfl rfl)
theorem dX5_beside_51 : decode cX5_beside 51 = .ok (.bipush 7, 2) := dk_16 7 (dk_at dksX5_beside_2 3 rfl rfl)
theorem dX5_beside_53 : decode cX5_beside 53 = .ok (.invokestatic 112, 3) := dk_184 0 112 (dk_at dksX5_beside_2 5 rfl rfl)
theorem dX5_beside_56 : decode cX5_beside 56 = .ok (.ifCond .eq 21, 3) := dk_153 0 21 (dk_at dksX5_beside_2 8 rfl rfl)
theorem dX5_beside_59 : decode cX5_beside 59 = .ok (.iload_n 3, 1) := dk_29 (dk_at dksX5_beside_2 11 rfl rfl)
theorem dX5_beside_60 : decode cX5_beside 60 = .ok (.iconst 0, 1) := dk_3 (dk_at dksX5_beside_2 12 rfl rfl)
theorem dX5_beside_61 : decode cX5_beside 61 = .ok (.iconst 5, 1) := dk_8 (dk_at dksX5_beside_2 13 rfl rfl)
theorem dX5_beside_62 : decode cX5_beside 62 = .ok (.invokestatic 112, 3) := dk_184 0 112 (dk_at dksX5_beside_2 14 rfl rfl)
theorem dX5_beside_65 : decode cX5_beside 65 = .ok (.ifCond .eq 12, 3) := dk_153 0 12 (dk_at dksX5_beside_2 17 rfl rfl)
theorem dX5_beside_68 : decode cX5_beside 68 = .ok (.bipush 8, 2) := dk_16 8 (dk_at dksX5_beside_2 20 rfl rfl)
theorem dX5_beside_70 : decode cX5_beside 70 = .ok (.iload_n 3, 1) := dk_29 (dk_at dksX5_beside_2 22 rfl rfl)
theorem dX5_beside_71 : decode cX5_beside 71 = .ok (.imul, 1) := dk_104 (dk_at dksX5_beside_2 23 rfl rfl)
theorem dX5_beside_72 : decode cX5_beside 72 = .ok (.iload_n 2, 1) := dk_28 (dk_at dksX5_beside_3 0 rfl rfl)
theorem dX5_beside_73 : decode cX5_beside 73 = .ok (.iadd, 1) := dk_96 (dk_at dksX5_beside_3 1 rfl rfl)
theorem dX5_beside_74 : decode cX5_beside 74 = .ok (.goto 4, 3) := dk_167 0 4 (dk_at dksX5_beside_3 2 rfl rfl)
theorem dX5_beside_77 : decode cX5_beside 77 = .ok (.iconst (-1), 1) := dk_2 (dk_at dksX5_beside_3 5 rfl rfl)
theorem dX5_beside_78 : decode cX5_beside 78 = .ok (.ireturn, 1) := dk_172 (dk_at dksX5_beside_3 6 rfl rfl)
abbrev cX5_pieces : ByteArray := prog_19_method_84_code
def yX5_pieces : MethodName := ⟨RX5, "pieces", "(III)I"⟩
def dkwX5_pieces_3 : List UInt8 := [167, 255, 218, 42, 182, 1, 114, 29, 154, 0, 10, 42, 180, 1, 108, 167, 0, 7, 42, 180, 1, 111, 172]
abbrev dktX5_pieces_3 : List UInt8 := dkwX5_pieces_3 ++ []
def dkwX5_pieces_2 : List UInt8 := [180, 0, 7, 16, 48, 27, 104, 21, 4, 96, 46, 28, 161, 0, 7, 4, 167, 0, 4, 3, 84, 132, 4, 1]
abbrev dktX5_pieces_2 : List UInt8 := dkwX5_pieces_2 ++ dktX5_pieces_3
def dkwX5_pieces_1 : List UInt8 := [154, 0, 5, 2, 172, 3, 54, 4, 21, 4, 16, 48, 162, 0, 37, 42, 180, 0, 90, 21, 4, 42]
abbrev dktX5_pieces_1 : List UInt8 := dkwX5_pieces_1 ++ dktX5_pieces_2
def dkwX5_pieces_0 : List UInt8 := [27, 184, 0, 117, 153, 0, 22, 28, 3, 16, 25, 184, 0, 112, 153, 0, 12, 29, 3, 4, 184, 0, 112]
abbrev dktX5_pieces_0 : List UInt8 := dkwX5_pieces_0 ++ dktX5_pieces_1
theorem dksX5_pieces_0 : cX5_pieces.data.toList.drop 0 = dktX5_pieces_0 := by decide +kernel
theorem dksX5_pieces_1 : cX5_pieces.data.toList.drop 23 = dktX5_pieces_1 := dk_seg dksX5_pieces_0 23 rfl rfl
theorem dksX5_pieces_2 : cX5_pieces.data.toList.drop 45 = dktX5_pieces_2 := dk_seg dksX5_pieces_1 22 rfl rfl
theorem dksX5_pieces_3 : cX5_pieces.data.toList.drop 69 = dktX5_pieces_3 := dk_seg dksX5_pieces_2 24 rfl rfl
theorem dX5_pieces_0 : decode cX5_pieces 0 = .ok (.iload_n 1, 1) := dk_27 (dk_at dksX5_pieces_0 0 rfl rfl)
theorem dX5_pieces_1 : decode cX5_pieces 1 = .ok (.invokestatic 117, 3) := dk_184 0 117 (dk_at dksX5_pieces_0 1 rfl rfl)
theorem dX5_pieces_4 : decode cX5_pieces 4 = .ok (.ifCond .eq 22, 3) := dk_153 0 22 (dk_at dksX5_pieces_0 4 rfl rfl)
theorem dX5_pieces_7 : decode cX5_pieces 7 = .ok (.iload_n 2, 1) := dk_28 (dk_at dksX5_pieces_0 7 rfl rfl)
theorem dX5_pieces_8 : decode cX5_pieces 8 = .ok (.iconst 0, 1) := dk_3 (dk_at dksX5_pieces_0 8 rfl rfl)
theorem dX5_pieces_9 : decode cX5_pieces 9 = .ok (.bipush 25, 2) := dk_16 25 (dk_at dksX5_pieces_0 9 rfl rfl)
theorem dX5_pieces_11 : decode cX5_pieces 11 = .ok (.invokestatic 112, 3) := dk_184 0 112 (dk_at dksX5_pieces_0 11 rfl rfl)
theorem dX5_pieces_14 : decode cX5_pieces 14 = .ok (.ifCond .eq 12, 3) := dk_153 0 12 (dk_at dksX5_pieces_0 14 rfl rfl)
theorem dX5_pieces_17 : decode cX5_pieces 17 = .ok (.iload_n 3, 1) := dk_29 (dk_at dksX5_pieces_0 17 rfl rfl)
theorem dX5_pieces_18 : decode cX5_pieces 18 = .ok (.iconst 0, 1) := dk_3 (dk_at dksX5_pieces_0 18 rfl rfl)
theorem dX5_pieces_19 : decode cX5_pieces 19 = .ok (.iconst 1, 1) := dk_4 (dk_at dksX5_pieces_0 19 rfl rfl)
theorem dX5_pieces_20 : decode cX5_pieces 20 = .ok (.invokestatic 112, 3) := dk_184 0 112 (dk_at dksX5_pieces_0 20 rfl rfl)
theorem dX5_pieces_23 : decode cX5_pieces 23 = .ok (.ifCond .ne 5, 3) := dk_154 0 5 (dk_at dksX5_pieces_1 0 rfl rfl)
theorem dX5_pieces_26 : decode cX5_pieces 26 = .ok (.iconst (-1), 1) := dk_2 (dk_at dksX5_pieces_1 3 rfl rfl)
theorem dX5_pieces_27 : decode cX5_pieces 27 = .ok (.ireturn, 1) := dk_172 (dk_at dksX5_pieces_1 4 rfl rfl)
theorem dX5_pieces_28 : decode cX5_pieces 28 = .ok (.iconst 0, 1) := dk_3 (dk_at dksX5_pieces_1 5 rfl rfl)
theorem dX5_pieces_29 : decode cX5_pieces 29 = .ok (.istore 4, 2) := dk_54 4 (dk_at dksX5_pieces_1 6 rfl rfl)
theorem dX5_pieces_31 : decode cX5_pieces 31 = .ok (.iload 4, 2) := dk_21 4 (dk_at dksX5_pieces_1 8 rfl rfl)
theorem dX5_pieces_33 : decode cX5_pieces 33 = .ok (.bipush 48, 2) := dk_16 48 (dk_at dksX5_pieces_1 10 rfl rfl)
theorem dX5_pieces_35 : decode cX5_pieces 35 = .ok (.if_icmp .ge 37, 3) := dk_162 0 37 (dk_at dksX5_pieces_1 12 rfl rfl)
theorem dX5_pieces_38 : decode cX5_pieces 38 = .ok (.aload_n 0, 1) := dk_42 (dk_at dksX5_pieces_1 15 rfl rfl)
theorem dX5_pieces_39 : decode cX5_pieces 39 = .ok (.getfield 90, 3) := dk_180 0 90 (dk_at dksX5_pieces_1 16 rfl rfl)
theorem dX5_pieces_42 : decode cX5_pieces 42 = .ok (.iload 4, 2) := dk_21 4 (dk_at dksX5_pieces_1 19 rfl rfl)
theorem dX5_pieces_44 : decode cX5_pieces 44 = .ok (.aload_n 0, 1) := dk_42 (dk_at dksX5_pieces_1 21 rfl rfl)
theorem dX5_pieces_45 : decode cX5_pieces 45 = .ok (.getfield 7, 3) := dk_180 0 7 (dk_at dksX5_pieces_2 0 rfl rfl)
theorem dX5_pieces_48 : decode cX5_pieces 48 = .ok (.bipush 48, 2) := dk_16 48 (dk_at dksX5_pieces_2 3 rfl rfl)
theorem dX5_pieces_50 : decode cX5_pieces 50 = .ok (.iload_n 1, 1) := dk_27 (dk_at dksX5_pieces_2 5 rfl rfl)
theorem dX5_pieces_51 : decode cX5_pieces 51 = .ok (.imul, 1) := dk_104 (dk_at dksX5_pieces_2 6 rfl rfl)
theorem dX5_pieces_52 : decode cX5_pieces 52 = .ok (.iload 4, 2) := dk_21 4 (dk_at dksX5_pieces_2 7 rfl rfl)
theorem dX5_pieces_54 : decode cX5_pieces 54 = .ok (.iadd, 1) := dk_96 (dk_at dksX5_pieces_2 9 rfl rfl)
theorem dX5_pieces_55 : decode cX5_pieces 55 = .ok (.iaload, 1) := dk_46 (dk_at dksX5_pieces_2 10 rfl rfl)
theorem dX5_pieces_56 : decode cX5_pieces 56 = .ok (.iload_n 2, 1) := dk_28 (dk_at dksX5_pieces_2 11 rfl rfl)
theorem dX5_pieces_57 : decode cX5_pieces 57 = .ok (.if_icmp .lt 7, 3) := dk_161 0 7 (dk_at dksX5_pieces_2 12 rfl rfl)
theorem dX5_pieces_60 : decode cX5_pieces 60 = .ok (.iconst 1, 1) := dk_4 (dk_at dksX5_pieces_2 15 rfl rfl)
theorem dX5_pieces_61 : decode cX5_pieces 61 = .ok (.goto 4, 3) := dk_167 0 4 (dk_at dksX5_pieces_2 16 rfl rfl)
theorem dX5_pieces_64 : decode cX5_pieces 64 = .ok (.iconst 0, 1) := dk_3 (dk_at dksX5_pieces_2 19 rfl rfl)
theorem dX5_pieces_65 : decode cX5_pieces 65 = .ok (.bastore, 1) := dk_84 (dk_at dksX5_pieces_2 20 rfl rfl)
theorem dX5_pieces_66 : decode cX5_pieces 66 = .ok (.iinc 4 1, 3) := dk_132 4 1 (dk_at dksX5_pieces_2 21 rfl rfl)
theorem dX5_pieces_69 : decode cX5_pieces 69 = .ok (.goto (-38), 3) := dk_167 255 218 (dk_at dksX5_pieces_3 0 rfl rfl)
theorem dX5_pieces_72 : decode cX5_pieces 72 = .ok (.aload_n 0, 1) := dk_42 (dk_at dksX5_pieces_3 3 rfl rfl)
theorem dX5_pieces_73 : decode cX5_pieces 73 = .ok (.invokevirtual 370, 3) := dk_182 1 114 (dk_at dksX5_pieces_3 4 rfl rfl)
theorem dX5_pieces_76 : decode cX5_pieces 76 = .ok (.iload_n 3, 1) := dk_29 (dk_at dksX5_pieces_3 7 rfl rfl)
theorem dX5_pieces_77 : decode cX5_pieces 77 = .ok (.ifCond .ne 10, 3) := dk_154 0 10 (dk_at dksX5_pieces_3 8 rfl rfl)
theorem dX5_pieces_80 : decode cX5_pieces 80 = .ok (.aload_n 0, 1) := dk_42 (dk_at dksX5_pieces_3 11 rfl rfl)
theorem dX5_pieces_81 : decode cX5_pieces 81 = .ok (.getfield 364, 3) := dk_180 1 108 (dk_at dksX5_pieces_3 12 rfl rfl)
theorem dX5_pieces_84 : decode cX5_pieces 84 = .ok (.goto 7, 3) := dk_167 0 7 (dk_at dksX5_pieces_3 15 rfl rfl)
theorem dX5_pieces_87 : decode cX5_pieces 87 = .ok (.aload_n 0, 1) := dk_42 (dk_at dksX5_pieces_3 18 rfl rfl)
theorem dX5_pieces_88 : decode cX5_pieces 88 = .ok (.getfield 367, 3) := dk_180 1 111 (dk_at dksX5_pieces_3 19 rfl rfl)
theorem dX5_pieces_91 : decode cX5_pieces 91 = .ok (.ireturn, 1) := dk_172 (dk_at dksX5_pieces_3 22 rfl rfl)
abbrev cX5_tripods : ByteArray := prog_19_method_92_code
def yX5_tripods : MethodName := ⟨RX5, "tripods", "()I"⟩
def dkwX5_tripods_3 : List UInt8 := [60, 132, 4, 1, 167, 255, 215, 132, 3, 1, 167, 255, 196, 132, 2, 1, 167, 255, 178, 27, 172]
abbrev dktX5_tripods_3 : List UInt8 := dkwX5_tripods_3 ++ []
def dkwX5_tripods_2 : List UInt8 := [28, 46, 42, 180, 0, 96, 29, 46, 42, 180, 0, 96, 21, 4, 46, 184, 1, 135, 153, 0, 7, 27, 4, 96]
abbrev dktX5_tripods_2 : List UInt8 := dkwX5_tripods_2 ++ dktX5_tripods_3
def dkwX5_tripods_1 : List UInt8 := [180, 1, 117, 162, 0, 58, 29, 4, 96, 54, 4, 21, 4, 42, 180, 1, 117, 162, 0, 38, 42, 180, 0, 96]
abbrev dktX5_tripods_1 : List UInt8 := dkwX5_tripods_1 ++ dktX5_tripods_2
def dkwX5_tripods_0 : List UInt8 := [42, 182, 1, 132, 3, 60, 3, 61, 28, 42, 180, 1, 117, 162, 0, 76, 28, 4, 96, 62, 29, 42]
abbrev dktX5_tripods_0 : List UInt8 := dkwX5_tripods_0 ++ dktX5_tripods_1
theorem dksX5_tripods_0 : cX5_tripods.data.toList.drop 0 = dktX5_tripods_0 := by decide +kernel
theorem dksX5_tripods_1 : cX5_tripods.data.toList.drop 22 = dktX5_tripods_1 := dk_seg dksX5_tripods_0 22 rfl rfl
theorem dksX5_tripods_2 : cX5_tripods.data.toList.drop 46 = dktX5_tripods_2 := dk_seg dksX5_tripods_1 24 rfl rfl
theorem dksX5_tripods_3 : cX5_tripods.data.toList.drop 70 = dktX5_tripods_3 := dk_seg dksX5_tripods_2 24 rfl rfl
theorem dX5_tripods_0 : decode cX5_tripods 0 = .ok (.aload_n 0, 1) := dk_42 (dk_at dksX5_tripods_0 0 rfl rfl)
theorem dX5_tripods_1 : decode cX5_tripods 1 = .ok (.invokevirtual 388, 3) := dk_182 1 132 (dk_at dksX5_tripods_0 1 rfl rfl)
theorem dX5_tripods_4 : decode cX5_tripods 4 = .ok (.iconst 0, 1) := dk_3 (dk_at dksX5_tripods_0 4 rfl rfl)
theorem dX5_tripods_5 : decode cX5_tripods 5 = .ok (.istore_n 1, 1) := dk_60 (dk_at dksX5_tripods_0 5 rfl rfl)
theorem dX5_tripods_6 : decode cX5_tripods 6 = .ok (.iconst 0, 1) := dk_3 (dk_at dksX5_tripods_0 6 rfl rfl)
theorem dX5_tripods_7 : decode cX5_tripods 7 = .ok (.istore_n 2, 1) := dk_61 (dk_at dksX5_tripods_0 7 rfl rfl)
theorem dX5_tripods_8 : decode cX5_tripods 8 = .ok (.iload_n 2, 1) := dk_28 (dk_at dksX5_tripods_0 8 rfl rfl)
theorem dX5_tripods_9 : decode cX5_tripods 9 = .ok (.aload_n 0, 1) := dk_42 (dk_at dksX5_tripods_0 9 rfl rfl)
theorem dX5_tripods_10 : decode cX5_tripods 10 = .ok (.getfield 373, 3) := dk_180 1 117 (dk_at dksX5_tripods_0 10 rfl rfl)
theorem dX5_tripods_13 : decode cX5_tripods 13 = .ok (.if_icmp .ge 76, 3) := dk_162 0 76 (dk_at dksX5_tripods_0 13 rfl rfl)
theorem dX5_tripods_16 : decode cX5_tripods 16 = .ok (.iload_n 2, 1) := dk_28 (dk_at dksX5_tripods_0 16 rfl rfl)
theorem dX5_tripods_17 : decode cX5_tripods 17 = .ok (.iconst 1, 1) := dk_4 (dk_at dksX5_tripods_0 17 rfl rfl)
theorem dX5_tripods_18 : decode cX5_tripods 18 = .ok (.iadd, 1) := dk_96 (dk_at dksX5_tripods_0 18 rfl rfl)
theorem dX5_tripods_19 : decode cX5_tripods 19 = .ok (.istore_n 3, 1) := dk_62 (dk_at dksX5_tripods_0 19 rfl rfl)
theorem dX5_tripods_20 : decode cX5_tripods 20 = .ok (.iload_n 3, 1) := dk_29 (dk_at dksX5_tripods_0 20 rfl rfl)
theorem dX5_tripods_21 : decode cX5_tripods 21 = .ok (.aload_n 0, 1) := dk_42 (dk_at dksX5_tripods_0 21 rfl rfl)
theorem dX5_tripods_22 : decode cX5_tripods 22 = .ok (.getfield 373, 3) := dk_180 1 117 (dk_at dksX5_tripods_1 0 rfl rfl)
theorem dX5_tripods_25 : decode cX5_tripods 25 = .ok (.if_icmp .ge 58, 3) := dk_162 0 58 (dk_at dksX5_tripods_1 3 rfl rfl)
theorem dX5_tripods_28 : decode cX5_tripods 28 = .ok (.iload_n 3, 1) := dk_29 (dk_at dksX5_tripods_1 6 rfl rfl)
theorem dX5_tripods_29 : decode cX5_tripods 29 = .ok (.iconst 1, 1) := dk_4 (dk_at dksX5_tripods_1 7 rfl rfl)
theorem dX5_tripods_30 : decode cX5_tripods 30 = .ok (.iadd, 1) := dk_96 (dk_at dksX5_tripods_1 8 rfl rfl)
theorem dX5_tripods_31 : decode cX5_tripods 31 = .ok (.istore 4, 2) := dk_54 4 (dk_at dksX5_tripods_1 9 rfl rfl)
theorem dX5_tripods_33 : decode cX5_tripods 33 = .ok (.iload 4, 2) := dk_21 4 (dk_at dksX5_tripods_1 11 rfl rfl)
theorem dX5_tripods_35 : decode cX5_tripods 35 = .ok (.aload_n 0, 1) := dk_42 (dk_at dksX5_tripods_1 13 rfl rfl)
theorem dX5_tripods_36 : decode cX5_tripods 36 = .ok (.getfield 373, 3) := dk_180 1 117 (dk_at dksX5_tripods_1 14 rfl rfl)
theorem dX5_tripods_39 : decode cX5_tripods 39 = .ok (.if_icmp .ge 38, 3) := dk_162 0 38 (dk_at dksX5_tripods_1 17 rfl rfl)
theorem dX5_tripods_42 : decode cX5_tripods 42 = .ok (.aload_n 0, 1) := dk_42 (dk_at dksX5_tripods_1 20 rfl rfl)
theorem dX5_tripods_43 : decode cX5_tripods 43 = .ok (.getfield 96, 3) := dk_180 0 96 (dk_at dksX5_tripods_1 21 rfl rfl)
theorem dX5_tripods_46 : decode cX5_tripods 46 = .ok (.iload_n 2, 1) := dk_28 (dk_at dksX5_tripods_2 0 rfl rfl)
theorem dX5_tripods_47 : decode cX5_tripods 47 = .ok (.iaload, 1) := dk_46 (dk_at dksX5_tripods_2 1 rfl rfl)
theorem dX5_tripods_48 : decode cX5_tripods 48 = .ok (.aload_n 0, 1) := dk_42 (dk_at dksX5_tripods_2 2 rfl rfl)
theorem dX5_tripods_49 : decode cX5_tripods 49 = .ok (.getfield 96, 3) := dk_180 0 96 (dk_at dksX5_tripods_2 3 rfl rfl)
theorem dX5_tripods_52 : decode cX5_tripods 52 = .ok (.iload_n 3, 1) := dk_29 (dk_at dksX5_tripods_2 6 rfl rfl)
theorem dX5_tripods_53 : decode cX5_tripods 53 = .ok (.iaload, 1) := dk_46 (dk_at dksX5_tripods_2 7 rfl rfl)
theorem dX5_tripods_54 : decode cX5_tripods 54 = .ok (.aload_n 0, 1) := dk_42 (dk_at dksX5_tripods_2 8 rfl rfl)
theorem dX5_tripods_55 : decode cX5_tripods 55 = .ok (.getfield 96, 3) := dk_180 0 96 (dk_at dksX5_tripods_2 9 rfl rfl)
theorem dX5_tripods_58 : decode cX5_tripods 58 = .ok (.iload 4, 2) := dk_21 4 (dk_at dksX5_tripods_2 12 rfl rfl)
theorem dX5_tripods_60 : decode cX5_tripods 60 = .ok (.iaload, 1) := dk_46 (dk_at dksX5_tripods_2 14 rfl rfl)
theorem dX5_tripods_61 : decode cX5_tripods 61 = .ok (.invokestatic 391, 3) := dk_184 1 135 (dk_at dksX5_tripods_2 15 rfl rfl)
theorem dX5_tripods_64 : decode cX5_tripods 64 = .ok (.ifCond .eq 7, 3) := dk_153 0 7 (dk_at dksX5_tripods_2 18 rfl rfl)
theorem dX5_tripods_67 : decode cX5_tripods 67 = .ok (.iload_n 1, 1) := dk_27 (dk_at dksX5_tripods_2 21 rfl rfl)
theorem dX5_tripods_68 : decode cX5_tripods 68 = .ok (.iconst 1, 1) := dk_4 (dk_at dksX5_tripods_2 22 rfl rfl)
theorem dX5_tripods_69 : decode cX5_tripods 69 = .ok (.iadd, 1) := dk_96 (dk_at dksX5_tripods_2 23 rfl rfl)
theorem dX5_tripods_70 : decode cX5_tripods 70 = .ok (.istore_n 1, 1) := dk_60 (dk_at dksX5_tripods_3 0 rfl rfl)
theorem dX5_tripods_71 : decode cX5_tripods 71 = .ok (.iinc 4 1, 3) := dk_132 4 1 (dk_at dksX5_tripods_3 1 rfl rfl)
theorem dX5_tripods_74 : decode cX5_tripods 74 = .ok (.goto (-41), 3) := dk_167 255 215 (dk_at dksX5_tripods_3 4 rfl rfl)
theorem dX5_tripods_77 : decode cX5_tripods 77 = .ok (.iinc 3 1, 3) := dk_132 3 1 (dk_at dksX5_tripods_3 7 rfl rfl)
theorem dX5_tripods_80 : decode cX5_tripods 80 = .ok (.goto (-60), 3) := dk_167 255 196 (dk_at dksX5_tripods_3 10 rfl rfl)
theorem dX5_tripods_83 : decode cX5_tripods 83 = .ok (.iinc 2 1, 3) := dk_132 2 1 (dk_at dksX5_tripods_3 13 rfl rfl)
theorem dX5_tripods_86 : decode cX5_tripods 86 = .ok (.goto (-78), 3) := dk_167 255 178 (dk_at dksX5_tripods_3 16 rfl rfl)
theorem dX5_tripods_89 : decode cX5_tripods 89 = .ok (.iload_n 1, 1) := dk_27 (dk_at dksX5_tripods_3 19 rfl rfl)
theorem dX5_tripods_90 : decode cX5_tripods 90 = .ok (.ireturn, 1) := dk_172 (dk_at dksX5_tripods_3 20 rfl rfl)
abbrev cX5_laysTouching : ByteArray := prog_19_method_85_code
def yX5_laysTouching : MethodName := ⟨RX5, "laysTouching", "()V"⟩
def dkwX5_laysTouching_2 : List UInt8 := [96, 181, 1, 117, 132, 1, 1, 167, 255, 218, 177]
abbrev dktX5_laysTouching_2 : List UInt8 := dkwX5_laysTouching_2 ++ []
def dkwX5_laysTouching_1 : List UInt8 := [180, 0, 81, 27, 51, 153, 0, 23, 42, 180, 0, 96, 42, 180, 1, 117, 27, 79, 42, 42, 180, 1, 117, 4]
abbrev dktX5_laysTouching_1 : List UInt8 := dkwX5_laysTouching_1 ++ dktX5_laysTouching_2
def dkwX5_laysTouching_0 : List UInt8 := [42, 3, 3, 3, 182, 1, 53, 87, 42, 3, 181, 1, 117, 3, 60, 27, 16, 48, 162, 0, 38, 42]
abbrev dktX5_laysTouching_0 : List UInt8 := dkwX5_laysTouching_0 ++ dktX5_laysTouching_1
theorem dksX5_laysTouching_0 : cX5_laysTouching.data.toList.drop 0 = dktX5_laysTouching_0 := by decide +kernel
theorem dksX5_laysTouching_1 : cX5_laysTouching.data.toList.drop 22 = dktX5_laysTouching_1 := dk_seg dksX5_laysTouching_0 22 rfl rfl
theorem dksX5_laysTouching_2 : cX5_laysTouching.data.toList.drop 46 = dktX5_laysTouching_2 := dk_seg dksX5_laysTouching_1 24 rfl rfl
theorem dX5_laysTouching_0 : decode cX5_laysTouching 0 = .ok (.aload_n 0, 1) := dk_42 (dk_at dksX5_laysTouching_0 0 rfl rfl)
theorem dX5_laysTouching_1 : decode cX5_laysTouching 1 = .ok (.iconst 0, 1) := dk_3 (dk_at dksX5_laysTouching_0 1 rfl rfl)
theorem dX5_laysTouching_2 : decode cX5_laysTouching 2 = .ok (.iconst 0, 1) := dk_3 (dk_at dksX5_laysTouching_0 2 rfl rfl)
theorem dX5_laysTouching_3 : decode cX5_laysTouching 3 = .ok (.iconst 0, 1) := dk_3 (dk_at dksX5_laysTouching_0 3 rfl rfl)
theorem dX5_laysTouching_4 : decode cX5_laysTouching 4 = .ok (.invokevirtual 309, 3) := dk_182 1 53 (dk_at dksX5_laysTouching_0 4 rfl rfl)
theorem dX5_laysTouching_7 : decode cX5_laysTouching 7 = .ok (.pop, 1) := dk_87 (dk_at dksX5_laysTouching_0 7 rfl rfl)
theorem dX5_laysTouching_8 : decode cX5_laysTouching 8 = .ok (.aload_n 0, 1) := dk_42 (dk_at dksX5_laysTouching_0 8 rfl rfl)
theorem dX5_laysTouching_9 : decode cX5_laysTouching 9 = .ok (.iconst 0, 1) := dk_3 (dk_at dksX5_laysTouching_0 9 rfl rfl)
theorem dX5_laysTouching_10 : decode cX5_laysTouching 10 = .ok (.putfield 373, 3) := dk_181 1 117 (dk_at dksX5_laysTouching_0 10 rfl rfl)
theorem dX5_laysTouching_13 : decode cX5_laysTouching 13 = .ok (.iconst 0, 1) := dk_3 (dk_at dksX5_laysTouching_0 13 rfl rfl)
theorem dX5_laysTouching_14 : decode cX5_laysTouching 14 = .ok (.istore_n 1, 1) := dk_60 (dk_at dksX5_laysTouching_0 14 rfl rfl)
theorem dX5_laysTouching_15 : decode cX5_laysTouching 15 = .ok (.iload_n 1, 1) := dk_27 (dk_at dksX5_laysTouching_0 15 rfl rfl)
theorem dX5_laysTouching_16 : decode cX5_laysTouching 16 = .ok (.bipush 48, 2) := dk_16 48 (dk_at dksX5_laysTouching_0 16 rfl rfl)
theorem dX5_laysTouching_18 : decode cX5_laysTouching 18 = .ok (.if_icmp .ge 38, 3) := dk_162 0 38 (dk_at dksX5_laysTouching_0 18 rfl rfl)
theorem dX5_laysTouching_21 : decode cX5_laysTouching 21 = .ok (.aload_n 0, 1) := dk_42 (dk_at dksX5_laysTouching_0 21 rfl rfl)
theorem dX5_laysTouching_22 : decode cX5_laysTouching 22 = .ok (.getfield 81, 3) := dk_180 0 81 (dk_at dksX5_laysTouching_1 0 rfl rfl)
theorem dX5_laysTouching_25 : decode cX5_laysTouching 25 = .ok (.iload_n 1, 1) := dk_27 (dk_at dksX5_laysTouching_1 3 rfl rfl)
theorem dX5_laysTouching_26 : decode cX5_laysTouching 26 = .ok (.baload, 1) := dk_51 (dk_at dksX5_laysTouching_1 4 rfl rfl)
theorem dX5_laysTouching_27 : decode cX5_laysTouching 27 = .ok (.ifCond .eq 23, 3) := dk_153 0 23 (dk_at dksX5_laysTouching_1 5 rfl rfl)
theorem dX5_laysTouching_30 : decode cX5_laysTouching 30 = .ok (.aload_n 0, 1) := dk_42 (dk_at dksX5_laysTouching_1 8 rfl rfl)
theorem dX5_laysTouching_31 : decode cX5_laysTouching 31 = .ok (.getfield 96, 3) := dk_180 0 96 (dk_at dksX5_laysTouching_1 9 rfl rfl)
theorem dX5_laysTouching_34 : decode cX5_laysTouching 34 = .ok (.aload_n 0, 1) := dk_42 (dk_at dksX5_laysTouching_1 12 rfl rfl)
theorem dX5_laysTouching_35 : decode cX5_laysTouching 35 = .ok (.getfield 373, 3) := dk_180 1 117 (dk_at dksX5_laysTouching_1 13 rfl rfl)
theorem dX5_laysTouching_38 : decode cX5_laysTouching 38 = .ok (.iload_n 1, 1) := dk_27 (dk_at dksX5_laysTouching_1 16 rfl rfl)
theorem dX5_laysTouching_39 : decode cX5_laysTouching 39 = .ok (.iastore, 1) := dk_79 (dk_at dksX5_laysTouching_1 17 rfl rfl)
theorem dX5_laysTouching_40 : decode cX5_laysTouching 40 = .ok (.aload_n 0, 1) := dk_42 (dk_at dksX5_laysTouching_1 18 rfl rfl)
theorem dX5_laysTouching_41 : decode cX5_laysTouching 41 = .ok (.aload_n 0, 1) := dk_42 (dk_at dksX5_laysTouching_1 19 rfl rfl)
theorem dX5_laysTouching_42 : decode cX5_laysTouching 42 = .ok (.getfield 373, 3) := dk_180 1 117 (dk_at dksX5_laysTouching_1 20 rfl rfl)
theorem dX5_laysTouching_45 : decode cX5_laysTouching 45 = .ok (.iconst 1, 1) := dk_4 (dk_at dksX5_laysTouching_1 23 rfl rfl)
theorem dX5_laysTouching_46 : decode cX5_laysTouching 46 = .ok (.iadd, 1) := dk_96 (dk_at dksX5_laysTouching_2 0 rfl rfl)
theorem dX5_laysTouching_47 : decode cX5_laysTouching 47 = .ok (.putfield 373, 3) := dk_181 1 117 (dk_at dksX5_laysTouching_2 1 rfl rfl)
theorem dX5_laysTouching_50 : decode cX5_laysTouching 50 = .ok (.iinc 1 1, 3) := dk_132 1 1 (dk_at dksX5_laysTouching_2 4 rfl rfl)
theorem dX5_laysTouching_53 : decode cX5_laysTouching 53 = .ok (.goto (-38), 3) := dk_167 255 218 (dk_at dksX5_laysTouching_2 7 rfl rfl)
theorem dX5_laysTouching_56 : decode cX5_laysTouching 56 = .ok (.return_, 1) := dk_177 (dk_at dksX5_laysTouching_2 10 rfl rfl)
abbrev cX5_holdsMiddle : ByteArray := prog_19_method_91_code
def yX5_holdsMiddle : MethodName := ⟨RX5, "holdsMiddle", "(III)Z"⟩
def dkwX5_holdsMiddle_2 : List UInt8 := [157, 0, 17, 21, 4, 157, 0, 12, 21, 5, 157, 0, 7, 4, 167, 0, 4, 3, 172]
abbrev dktX5_holdsMiddle_2 : List UInt8 := dkwX5_holdsMiddle_2 ++ []
def dkwX5_holdsMiddle_1 : List UInt8 := [28, 26, 184, 1, 126, 54, 5, 29, 155, 0, 13, 21, 4, 155, 0, 8, 21, 5, 156, 0, 17, 29]
abbrev dktX5_holdsMiddle_1 : List UInt8 := dkwX5_holdsMiddle_1 ++ dktX5_holdsMiddle_2
def dkwX5_holdsMiddle_0 : List UInt8 := [26, 27, 28, 184, 1, 129, 154, 0, 5, 3, 172, 26, 27, 184, 1, 126, 62, 27, 28, 184, 1, 126, 54, 4]
abbrev dktX5_holdsMiddle_0 : List UInt8 := dkwX5_holdsMiddle_0 ++ dktX5_holdsMiddle_1
theorem dksX5_holdsMiddle_0 : cX5_holdsMiddle.data.toList.drop 0 = dktX5_holdsMiddle_0 := by decide +kernel
theorem dksX5_holdsMiddle_1 : cX5_holdsMiddle.data.toList.drop 24 = dktX5_holdsMiddle_1 := dk_seg dksX5_holdsMiddle_0 24 rfl rfl
theorem dksX5_holdsMiddle_2 : cX5_holdsMiddle.data.toList.drop 46 = dktX5_holdsMiddle_2 := dk_seg dksX5_holdsMiddle_1 22 rfl rfl
theorem dX5_holdsMiddle_0 : decode cX5_holdsMiddle 0 = .ok (.iload_n 0, 1) := dk_26 (dk_at dksX5_holdsMiddle_0 0 rfl rfl)
theorem dX5_holdsMiddle_1 : decode cX5_holdsMiddle 1 = .ok (.iload_n 1, 1) := dk_27 (dk_at dksX5_holdsMiddle_0 1 rfl rfl)
theorem dX5_holdsMiddle_2 : decode cX5_holdsMiddle 2 = .ok (.iload_n 2, 1) := dk_28 (dk_at dksX5_holdsMiddle_0 2 rfl rfl)
theorem dX5_holdsMiddle_3 : decode cX5_holdsMiddle 3 = .ok (.invokestatic 385, 3) := dk_184 1 129 (dk_at dksX5_holdsMiddle_0 3 rfl rfl)
theorem dX5_holdsMiddle_6 : decode cX5_holdsMiddle 6 = .ok (.ifCond .ne 5, 3) := dk_154 0 5 (dk_at dksX5_holdsMiddle_0 6 rfl rfl)
theorem dX5_holdsMiddle_9 : decode cX5_holdsMiddle 9 = .ok (.iconst 0, 1) := dk_3 (dk_at dksX5_holdsMiddle_0 9 rfl rfl)
theorem dX5_holdsMiddle_10 : decode cX5_holdsMiddle 10 = .ok (.ireturn, 1) := dk_172 (dk_at dksX5_holdsMiddle_0 10 rfl rfl)
theorem dX5_holdsMiddle_11 : decode cX5_holdsMiddle 11 = .ok (.iload_n 0, 1) := dk_26 (dk_at dksX5_holdsMiddle_0 11 rfl rfl)
theorem dX5_holdsMiddle_12 : decode cX5_holdsMiddle 12 = .ok (.iload_n 1, 1) := dk_27 (dk_at dksX5_holdsMiddle_0 12 rfl rfl)
theorem dX5_holdsMiddle_13 : decode cX5_holdsMiddle 13 = .ok (.invokestatic 382, 3) := dk_184 1 126 (dk_at dksX5_holdsMiddle_0 13 rfl rfl)
theorem dX5_holdsMiddle_16 : decode cX5_holdsMiddle 16 = .ok (.istore_n 3, 1) := dk_62 (dk_at dksX5_holdsMiddle_0 16 rfl rfl)
theorem dX5_holdsMiddle_17 : decode cX5_holdsMiddle 17 = .ok (.iload_n 1, 1) := dk_27 (dk_at dksX5_holdsMiddle_0 17 rfl rfl)
theorem dX5_holdsMiddle_18 : decode cX5_holdsMiddle 18 = .ok (.iload_n 2, 1) := dk_28 (dk_at dksX5_holdsMiddle_0 18 rfl rfl)
theorem dX5_holdsMiddle_19 : decode cX5_holdsMiddle 19 = .ok (.invokestatic 382, 3) := dk_184 1 126 (dk_at dksX5_holdsMiddle_0 19 rfl rfl)
theorem dX5_holdsMiddle_22 : decode cX5_holdsMiddle 22 = .ok (.istore 4, 2) := dk_54 4 (dk_at dksX5_holdsMiddle_0 22 rfl rfl)
theorem dX5_holdsMiddle_24 : decode cX5_holdsMiddle 24 = .ok (.iload_n 2, 1) := dk_28 (dk_at dksX5_holdsMiddle_1 0 rfl rfl)
theorem dX5_holdsMiddle_25 : decode cX5_holdsMiddle 25 = .ok (.iload_n 0, 1) := dk_26 (dk_at dksX5_holdsMiddle_1 1 rfl rfl)
theorem dX5_holdsMiddle_26 : decode cX5_holdsMiddle 26 = .ok (.invokestatic 382, 3) := dk_184 1 126 (dk_at dksX5_holdsMiddle_1 2 rfl rfl)
theorem dX5_holdsMiddle_29 : decode cX5_holdsMiddle 29 = .ok (.istore 5, 2) := dk_54 5 (dk_at dksX5_holdsMiddle_1 5 rfl rfl)
theorem dX5_holdsMiddle_31 : decode cX5_holdsMiddle 31 = .ok (.iload_n 3, 1) := dk_29 (dk_at dksX5_holdsMiddle_1 7 rfl rfl)
theorem dX5_holdsMiddle_32 : decode cX5_holdsMiddle 32 = .ok (.ifCond .lt 13, 3) := dk_155 0 13 (dk_at dksX5_holdsMiddle_1 8 rfl rfl)
theorem dX5_holdsMiddle_35 : decode cX5_holdsMiddle 35 = .ok (.iload 4, 2) := dk_21 4 (dk_at dksX5_holdsMiddle_1 11 rfl rfl)
theorem dX5_holdsMiddle_37 : decode cX5_holdsMiddle 37 = .ok (.ifCond .lt 8, 3) := dk_155 0 8 (dk_at dksX5_holdsMiddle_1 13 rfl rfl)
theorem dX5_holdsMiddle_40 : decode cX5_holdsMiddle 40 = .ok (.iload 5, 2) := dk_21 5 (dk_at dksX5_holdsMiddle_1 16 rfl rfl)
theorem dX5_holdsMiddle_42 : decode cX5_holdsMiddle 42 = .ok (.ifCond .ge 17, 3) := dk_156 0 17 (dk_at dksX5_holdsMiddle_1 18 rfl rfl)
theorem dX5_holdsMiddle_45 : decode cX5_holdsMiddle 45 = .ok (.iload_n 3, 1) := dk_29 (dk_at dksX5_holdsMiddle_1 21 rfl rfl)
theorem dX5_holdsMiddle_46 : decode cX5_holdsMiddle 46 = .ok (.ifCond .gt 17, 3) := dk_157 0 17 (dk_at dksX5_holdsMiddle_2 0 rfl rfl)
theorem dX5_holdsMiddle_49 : decode cX5_holdsMiddle 49 = .ok (.iload 4, 2) := dk_21 4 (dk_at dksX5_holdsMiddle_2 3 rfl rfl)
theorem dX5_holdsMiddle_51 : decode cX5_holdsMiddle 51 = .ok (.ifCond .gt 12, 3) := dk_157 0 12 (dk_at dksX5_holdsMiddle_2 5 rfl rfl)
theorem dX5_holdsMiddle_54 : decode cX5_holdsMiddle 54 = .ok (.iload 5, 2) := dk_21 5 (dk_at dksX5_holdsMiddle_2 8 rfl rfl)
theorem dX5_holdsMiddle_56 : decode cX5_holdsMiddle 56 = .ok (.ifCond .gt 7, 3) := dk_157 0 7 (dk_at dksX5_holdsMiddle_2 10 rfl rfl)
theorem dX5_holdsMiddle_59 : decode cX5_holdsMiddle 59 = .ok (.iconst 1, 1) := dk_4 (dk_at dksX5_holdsMiddle_2 13 rfl rfl)
theorem dX5_holdsMiddle_60 : decode cX5_holdsMiddle 60 = .ok (.goto 4, 3) := dk_167 0 4 (dk_at dksX5_holdsMiddle_2 14 rfl rfl)
theorem dX5_holdsMiddle_63 : decode cX5_holdsMiddle 63 = .ok (.iconst 0, 1) := dk_3 (dk_at dksX5_holdsMiddle_2 17 rfl rfl)
theorem dX5_holdsMiddle_64 : decode cX5_holdsMiddle 64 = .ok (.ireturn, 1) := dk_172 (dk_at dksX5_holdsMiddle_2 18 rfl rfl)
abbrev cX5_round3 : ByteArray := prog_19_method_89_code
def yX5_round3 : MethodName := ⟨RX5, "round3", "(III)I"⟩
def dkwX5_round3_2 : List UInt8 := [21, 4, 21, 5, 104, 100, 172]
abbrev dktX5_round3_2 : List UInt8 := dkwX5_round3_2 ++ []
def dkwX5_round3_1 : List UInt8 := [112, 26, 16, 8, 112, 100, 54, 5, 28, 16, 8, 108, 26, 16, 8, 108, 100, 54, 6, 29, 21, 6, 104]
abbrev dktX5_round3_1 : List UInt8 := dkwX5_round3_1 ++ dktX5_round3_2
def dkwX5_round3_0 : List UInt8 := [27, 16, 8, 112, 26, 16, 8, 112, 100, 62, 27, 16, 8, 108, 26, 16, 8, 108, 100, 54, 4, 28, 16, 8]
abbrev dktX5_round3_0 : List UInt8 := dkwX5_round3_0 ++ dktX5_round3_1
theorem dksX5_round3_0 : cX5_round3.data.toList.drop 0 = dktX5_round3_0 := by decide +kernel
theorem dksX5_round3_1 : cX5_round3.data.toList.drop 24 = dktX5_round3_1 := dk_seg dksX5_round3_0 24 rfl rfl
theorem dksX5_round3_2 : cX5_round3.data.toList.drop 47 = dktX5_round3_2 := dk_seg dksX5_round3_1 23 rfl rfl
theorem dX5_round3_0 : decode cX5_round3 0 = .ok (.iload_n 1, 1) := dk_27 (dk_at dksX5_round3_0 0 rfl rfl)
theorem dX5_round3_1 : decode cX5_round3 1 = .ok (.bipush 8, 2) := dk_16 8 (dk_at dksX5_round3_0 1 rfl rfl)
theorem dX5_round3_3 : decode cX5_round3 3 = .ok (.irem, 1) := dk_112 (dk_at dksX5_round3_0 3 rfl rfl)
theorem dX5_round3_4 : decode cX5_round3 4 = .ok (.iload_n 0, 1) := dk_26 (dk_at dksX5_round3_0 4 rfl rfl)
theorem dX5_round3_5 : decode cX5_round3 5 = .ok (.bipush 8, 2) := dk_16 8 (dk_at dksX5_round3_0 5 rfl rfl)
theorem dX5_round3_7 : decode cX5_round3 7 = .ok (.irem, 1) := dk_112 (dk_at dksX5_round3_0 7 rfl rfl)
theorem dX5_round3_8 : decode cX5_round3 8 = .ok (.isub, 1) := dk_100 (dk_at dksX5_round3_0 8 rfl rfl)
theorem dX5_round3_9 : decode cX5_round3 9 = .ok (.istore_n 3, 1) := dk_62 (dk_at dksX5_round3_0 9 rfl rfl)
theorem dX5_round3_10 : decode cX5_round3 10 = .ok (.iload_n 1, 1) := dk_27 (dk_at dksX5_round3_0 10 rfl rfl)
theorem dX5_round3_11 : decode cX5_round3 11 = .ok (.bipush 8, 2) := dk_16 8 (dk_at dksX5_round3_0 11 rfl rfl)
theorem dX5_round3_13 : decode cX5_round3 13 = .ok (.idiv, 1) := dk_108 (dk_at dksX5_round3_0 13 rfl rfl)
theorem dX5_round3_14 : decode cX5_round3 14 = .ok (.iload_n 0, 1) := dk_26 (dk_at dksX5_round3_0 14 rfl rfl)
theorem dX5_round3_15 : decode cX5_round3 15 = .ok (.bipush 8, 2) := dk_16 8 (dk_at dksX5_round3_0 15 rfl rfl)
theorem dX5_round3_17 : decode cX5_round3 17 = .ok (.idiv, 1) := dk_108 (dk_at dksX5_round3_0 17 rfl rfl)
theorem dX5_round3_18 : decode cX5_round3 18 = .ok (.isub, 1) := dk_100 (dk_at dksX5_round3_0 18 rfl rfl)
theorem dX5_round3_19 : decode cX5_round3 19 = .ok (.istore 4, 2) := dk_54 4 (dk_at dksX5_round3_0 19 rfl rfl)
theorem dX5_round3_21 : decode cX5_round3 21 = .ok (.iload_n 2, 1) := dk_28 (dk_at dksX5_round3_0 21 rfl rfl)
theorem dX5_round3_22 : decode cX5_round3 22 = .ok (.bipush 8, 2) := dk_16 8 (dk_at dksX5_round3_0 22 rfl rfl)
theorem dX5_round3_24 : decode cX5_round3 24 = .ok (.irem, 1) := dk_112 (dk_at dksX5_round3_1 0 rfl rfl)
theorem dX5_round3_25 : decode cX5_round3 25 = .ok (.iload_n 0, 1) := dk_26 (dk_at dksX5_round3_1 1 rfl rfl)
theorem dX5_round3_26 : decode cX5_round3 26 = .ok (.bipush 8, 2) := dk_16 8 (dk_at dksX5_round3_1 2 rfl rfl)
theorem dX5_round3_28 : decode cX5_round3 28 = .ok (.irem, 1) := dk_112 (dk_at dksX5_round3_1 4 rfl rfl)
theorem dX5_round3_29 : decode cX5_round3 29 = .ok (.isub, 1) := dk_100 (dk_at dksX5_round3_1 5 rfl rfl)
theorem dX5_round3_30 : decode cX5_round3 30 = .ok (.istore 5, 2) := dk_54 5 (dk_at dksX5_round3_1 6 rfl rfl)
theorem dX5_round3_32 : decode cX5_round3 32 = .ok (.iload_n 2, 1) := dk_28 (dk_at dksX5_round3_1 8 rfl rfl)
theorem dX5_round3_33 : decode cX5_round3 33 = .ok (.bipush 8, 2) := dk_16 8 (dk_at dksX5_round3_1 9 rfl rfl)
theorem dX5_round3_35 : decode cX5_round3 35 = .ok (.idiv, 1) := dk_108 (dk_at dksX5_round3_1 11 rfl rfl)
theorem dX5_round3_36 : decode cX5_round3 36 = .ok (.iload_n 0, 1) := dk_26 (dk_at dksX5_round3_1 12 rfl rfl)
theorem dX5_round3_37 : decode cX5_round3 37 = .ok (.bipush 8, 2) := dk_16 8 (dk_at dksX5_round3_1 13 rfl rfl)
theorem dX5_round3_39 : decode cX5_round3 39 = .ok (.idiv, 1) := dk_108 (dk_at dksX5_round3_1 15 rfl rfl)
theorem dX5_round3_40 : decode cX5_round3 40 = .ok (.isub, 1) := dk_100 (dk_at dksX5_round3_1 16 rfl rfl)
theorem dX5_round3_41 : decode cX5_round3 41 = .ok (.istore 6, 2) := dk_54 6 (dk_at dksX5_round3_1 17 rfl rfl)
theorem dX5_round3_43 : decode cX5_round3 43 = .ok (.iload_n 3, 1) := dk_29 (dk_at dksX5_round3_1 19 rfl rfl)
theorem dX5_round3_44 : decode cX5_round3 44 = .ok (.iload 6, 2) := dk_21 6 (dk_at dksX5_round3_1 20 rfl rfl)
theorem dX5_round3_46 : decode cX5_round3 46 = .ok (.imul, 1) := dk_104 (dk_at dksX5_round3_1 22 rfl rfl)
theorem dX5_round3_47 : decode cX5_round3 47 = .ok (.iload 4, 2) := dk_21 4 (dk_at dksX5_round3_2 0 rfl rfl)
theorem dX5_round3_49 : decode cX5_round3 49 = .ok (.iload 5, 2) := dk_21 5 (dk_at dksX5_round3_2 2 rfl rfl)
theorem dX5_round3_51 : decode cX5_round3 51 = .ok (.imul, 1) := dk_104 (dk_at dksX5_round3_2 4 rfl rfl)
theorem dX5_round3_52 : decode cX5_round3 52 = .ok (.isub, 1) := dk_100 (dk_at dksX5_round3_2 5 rfl rfl)
theorem dX5_round3_53 : decode cX5_round3 53 = .ok (.ireturn, 1) := dk_172 (dk_at dksX5_round3_2 6 rfl rfl)
abbrev cX5_middleSide : ByteArray := prog_19_method_88_code
def yX5_middleSide : MethodName := ⟨RX5, "middleSide", "(II)I"⟩
def dkwX5_middleSide_0 : List UInt8 := [26, 184, 1, 120, 27, 184, 1, 123, 104, 26, 184, 1, 123, 27, 184, 1, 120, 104, 100, 172]
abbrev dktX5_middleSide_0 : List UInt8 := dkwX5_middleSide_0 ++ []
theorem dksX5_middleSide_0 : cX5_middleSide.data.toList.drop 0 = dktX5_middleSide_0 := by decide +kernel
theorem dX5_middleSide_0 : decode cX5_middleSide 0 = .ok (.iload_n 0, 1) := dk_26 (dk_at dksX5_middleSide_0 0 rfl rfl)
theorem dX5_middleSide_1 : decode cX5_middleSide 1 = .ok (.invokestatic 376, 3) := dk_184 1 120 (dk_at dksX5_middleSide_0 1 rfl rfl)
theorem dX5_middleSide_4 : decode cX5_middleSide 4 = .ok (.iload_n 1, 1) := dk_27 (dk_at dksX5_middleSide_0 4 rfl rfl)
theorem dX5_middleSide_5 : decode cX5_middleSide 5 = .ok (.invokestatic 379, 3) := dk_184 1 123 (dk_at dksX5_middleSide_0 5 rfl rfl)
theorem dX5_middleSide_8 : decode cX5_middleSide 8 = .ok (.imul, 1) := dk_104 (dk_at dksX5_middleSide_0 8 rfl rfl)
theorem dX5_middleSide_9 : decode cX5_middleSide 9 = .ok (.iload_n 0, 1) := dk_26 (dk_at dksX5_middleSide_0 9 rfl rfl)
theorem dX5_middleSide_10 : decode cX5_middleSide 10 = .ok (.invokestatic 379, 3) := dk_184 1 123 (dk_at dksX5_middleSide_0 10 rfl rfl)
theorem dX5_middleSide_13 : decode cX5_middleSide 13 = .ok (.iload_n 1, 1) := dk_27 (dk_at dksX5_middleSide_0 13 rfl rfl)
theorem dX5_middleSide_14 : decode cX5_middleSide 14 = .ok (.invokestatic 376, 3) := dk_184 1 120 (dk_at dksX5_middleSide_0 14 rfl rfl)
theorem dX5_middleSide_17 : decode cX5_middleSide 17 = .ok (.imul, 1) := dk_104 (dk_at dksX5_middleSide_0 17 rfl rfl)
theorem dX5_middleSide_18 : decode cX5_middleSide 18 = .ok (.isub, 1) := dk_100 (dk_at dksX5_middleSide_0 18 rfl rfl)
theorem dX5_middleSide_19 : decode cX5_middleSide 19 = .ok (.ireturn, 1) := dk_172 (dk_at dksX5_middleSide_0 19 rfl rfl)
abbrev cX5_acrossOf : ByteArray := prog_19_method_86_code
def yX5_acrossOf : MethodName := ⟨RX5, "acrossOf", "(I)I"⟩
def dkwX5_acrossOf_0 : List UInt8 := [5, 26, 16, 8, 112, 104, 16, 7, 100, 172]
abbrev dktX5_acrossOf_0 : List UInt8 := dkwX5_acrossOf_0 ++ []
theorem dksX5_acrossOf_0 : cX5_acrossOf.data.toList.drop 0 = dktX5_acrossOf_0 := by decide +kernel
theorem dX5_acrossOf_0 : decode cX5_acrossOf 0 = .ok (.iconst 2, 1) := dk_5 (dk_at dksX5_acrossOf_0 0 rfl rfl)
theorem dX5_acrossOf_1 : decode cX5_acrossOf 1 = .ok (.iload_n 0, 1) := dk_26 (dk_at dksX5_acrossOf_0 1 rfl rfl)
theorem dX5_acrossOf_2 : decode cX5_acrossOf 2 = .ok (.bipush 8, 2) := dk_16 8 (dk_at dksX5_acrossOf_0 2 rfl rfl)
theorem dX5_acrossOf_4 : decode cX5_acrossOf 4 = .ok (.irem, 1) := dk_112 (dk_at dksX5_acrossOf_0 4 rfl rfl)
theorem dX5_acrossOf_5 : decode cX5_acrossOf 5 = .ok (.imul, 1) := dk_104 (dk_at dksX5_acrossOf_0 5 rfl rfl)
theorem dX5_acrossOf_6 : decode cX5_acrossOf 6 = .ok (.bipush 7, 2) := dk_16 7 (dk_at dksX5_acrossOf_0 6 rfl rfl)
theorem dX5_acrossOf_8 : decode cX5_acrossOf 8 = .ok (.isub, 1) := dk_100 (dk_at dksX5_acrossOf_0 8 rfl rfl)
theorem dX5_acrossOf_9 : decode cX5_acrossOf 9 = .ok (.ireturn, 1) := dk_172 (dk_at dksX5_acrossOf_0 9 rfl rfl)
abbrev cX5_alongOf : ByteArray := prog_19_method_87_code
def yX5_alongOf : MethodName := ⟨RX5, "alongOf", "(I)I"⟩
def dkwX5_alongOf_0 : List UInt8 := [5, 26, 16, 8, 108, 104, 8, 100, 172]
abbrev dktX5_alongOf_0 : List UInt8 := dkwX5_alongOf_0 ++ []
theorem dksX5_alongOf_0 : cX5_alongOf.data.toList.drop 0 = dktX5_alongOf_0 := by decide +kernel
theorem dX5_alongOf_0 : decode cX5_alongOf 0 = .ok (.iconst 2, 1) := dk_5 (dk_at dksX5_alongOf_0 0 rfl rfl)
theorem dX5_alongOf_1 : decode cX5_alongOf 1 = .ok (.iload_n 0, 1) := dk_26 (dk_at dksX5_alongOf_0 1 rfl rfl)
theorem dX5_alongOf_2 : decode cX5_alongOf 2 = .ok (.bipush 8, 2) := dk_16 8 (dk_at dksX5_alongOf_0 2 rfl rfl)
theorem dX5_alongOf_4 : decode cX5_alongOf 4 = .ok (.idiv, 1) := dk_108 (dk_at dksX5_alongOf_0 4 rfl rfl)
theorem dX5_alongOf_5 : decode cX5_alongOf 5 = .ok (.imul, 1) := dk_104 (dk_at dksX5_alongOf_0 5 rfl rfl)
theorem dX5_alongOf_6 : decode cX5_alongOf 6 = .ok (.iconst 5, 1) := dk_8 (dk_at dksX5_alongOf_0 6 rfl rfl)
theorem dX5_alongOf_7 : decode cX5_alongOf 7 = .ok (.isub, 1) := dk_100 (dk_at dksX5_alongOf_0 7 rfl rfl)
theorem dX5_alongOf_8 : decode cX5_alongOf 8 = .ok (.ireturn, 1) := dk_172 (dk_at dksX5_alongOf_0 8 rfl rfl)
abbrev cX5_rocks : ByteArray := prog_19_method_93_code
def yX5_rocks : MethodName := ⟨RX5, "rocks", "()I"⟩
def dkwX5_rocks_2 : List UInt8 := [132, 3, 1, 167, 255, 225, 132, 2, 1, 167, 255, 207, 27, 158, 0, 7, 3, 167, 0, 4, 4, 172]
abbrev dktX5_rocks_2 : List UInt8 := dkwX5_rocks_2 ++ []
def dkwX5_rocks_1 : List UInt8 := [162, 0, 29, 42, 180, 0, 96, 28, 46, 42, 180, 0, 96, 29, 46, 184, 1, 141, 153, 0, 5, 3, 172]
abbrev dktX5_rocks_1 : List UInt8 := dkwX5_rocks_1 ++ dktX5_rocks_2
def dkwX5_rocks_0 : List UInt8 := [42, 182, 1, 138, 60, 3, 61, 28, 42, 180, 1, 117, 162, 0, 47, 28, 4, 96, 62, 29, 42, 180, 1, 117]
abbrev dktX5_rocks_0 : List UInt8 := dkwX5_rocks_0 ++ dktX5_rocks_1
theorem dksX5_rocks_0 : cX5_rocks.data.toList.drop 0 = dktX5_rocks_0 := by decide +kernel
theorem dksX5_rocks_1 : cX5_rocks.data.toList.drop 24 = dktX5_rocks_1 := dk_seg dksX5_rocks_0 24 rfl rfl
theorem dksX5_rocks_2 : cX5_rocks.data.toList.drop 47 = dktX5_rocks_2 := dk_seg dksX5_rocks_1 23 rfl rfl
theorem dX5_rocks_0 : decode cX5_rocks 0 = .ok (.aload_n 0, 1) := dk_42 (dk_at dksX5_rocks_0 0 rfl rfl)
theorem dX5_rocks_1 : decode cX5_rocks 1 = .ok (.invokevirtual 394, 3) := dk_182 1 138 (dk_at dksX5_rocks_0 1 rfl rfl)
theorem dX5_rocks_4 : decode cX5_rocks 4 = .ok (.istore_n 1, 1) := dk_60 (dk_at dksX5_rocks_0 4 rfl rfl)
theorem dX5_rocks_5 : decode cX5_rocks 5 = .ok (.iconst 0, 1) := dk_3 (dk_at dksX5_rocks_0 5 rfl rfl)
theorem dX5_rocks_6 : decode cX5_rocks 6 = .ok (.istore_n 2, 1) := dk_61 (dk_at dksX5_rocks_0 6 rfl rfl)
theorem dX5_rocks_7 : decode cX5_rocks 7 = .ok (.iload_n 2, 1) := dk_28 (dk_at dksX5_rocks_0 7 rfl rfl)
theorem dX5_rocks_8 : decode cX5_rocks 8 = .ok (.aload_n 0, 1) := dk_42 (dk_at dksX5_rocks_0 8 rfl rfl)
theorem dX5_rocks_9 : decode cX5_rocks 9 = .ok (.getfield 373, 3) := dk_180 1 117 (dk_at dksX5_rocks_0 9 rfl rfl)
theorem dX5_rocks_12 : decode cX5_rocks 12 = .ok (.if_icmp .ge 47, 3) := dk_162 0 47 (dk_at dksX5_rocks_0 12 rfl rfl)
theorem dX5_rocks_15 : decode cX5_rocks 15 = .ok (.iload_n 2, 1) := dk_28 (dk_at dksX5_rocks_0 15 rfl rfl)
theorem dX5_rocks_16 : decode cX5_rocks 16 = .ok (.iconst 1, 1) := dk_4 (dk_at dksX5_rocks_0 16 rfl rfl)
theorem dX5_rocks_17 : decode cX5_rocks 17 = .ok (.iadd, 1) := dk_96 (dk_at dksX5_rocks_0 17 rfl rfl)
theorem dX5_rocks_18 : decode cX5_rocks 18 = .ok (.istore_n 3, 1) := dk_62 (dk_at dksX5_rocks_0 18 rfl rfl)
theorem dX5_rocks_19 : decode cX5_rocks 19 = .ok (.iload_n 3, 1) := dk_29 (dk_at dksX5_rocks_0 19 rfl rfl)
theorem dX5_rocks_20 : decode cX5_rocks 20 = .ok (.aload_n 0, 1) := dk_42 (dk_at dksX5_rocks_0 20 rfl rfl)
theorem dX5_rocks_21 : decode cX5_rocks 21 = .ok (.getfield 373, 3) := dk_180 1 117 (dk_at dksX5_rocks_0 21 rfl rfl)
theorem dX5_rocks_24 : decode cX5_rocks 24 = .ok (.if_icmp .ge 29, 3) := dk_162 0 29 (dk_at dksX5_rocks_1 0 rfl rfl)
theorem dX5_rocks_27 : decode cX5_rocks 27 = .ok (.aload_n 0, 1) := dk_42 (dk_at dksX5_rocks_1 3 rfl rfl)
theorem dX5_rocks_28 : decode cX5_rocks 28 = .ok (.getfield 96, 3) := dk_180 0 96 (dk_at dksX5_rocks_1 4 rfl rfl)
theorem dX5_rocks_31 : decode cX5_rocks 31 = .ok (.iload_n 2, 1) := dk_28 (dk_at dksX5_rocks_1 7 rfl rfl)
theorem dX5_rocks_32 : decode cX5_rocks 32 = .ok (.iaload, 1) := dk_46 (dk_at dksX5_rocks_1 8 rfl rfl)
theorem dX5_rocks_33 : decode cX5_rocks 33 = .ok (.aload_n 0, 1) := dk_42 (dk_at dksX5_rocks_1 9 rfl rfl)
theorem dX5_rocks_34 : decode cX5_rocks 34 = .ok (.getfield 96, 3) := dk_180 0 96 (dk_at dksX5_rocks_1 10 rfl rfl)
theorem dX5_rocks_37 : decode cX5_rocks 37 = .ok (.iload_n 3, 1) := dk_29 (dk_at dksX5_rocks_1 13 rfl rfl)
theorem dX5_rocks_38 : decode cX5_rocks 38 = .ok (.iaload, 1) := dk_46 (dk_at dksX5_rocks_1 14 rfl rfl)
theorem dX5_rocks_39 : decode cX5_rocks 39 = .ok (.invokestatic 397, 3) := dk_184 1 141 (dk_at dksX5_rocks_1 15 rfl rfl)
theorem dX5_rocks_42 : decode cX5_rocks 42 = .ok (.ifCond .eq 5, 3) := dk_153 0 5 (dk_at dksX5_rocks_1 18 rfl rfl)
theorem dX5_rocks_45 : decode cX5_rocks 45 = .ok (.iconst 0, 1) := dk_3 (dk_at dksX5_rocks_1 21 rfl rfl)
theorem dX5_rocks_46 : decode cX5_rocks 46 = .ok (.ireturn, 1) := dk_172 (dk_at dksX5_rocks_1 22 rfl rfl)
theorem dX5_rocks_47 : decode cX5_rocks 47 = .ok (.iinc 3 1, 3) := dk_132 3 1 (dk_at dksX5_rocks_2 0 rfl rfl)
theorem dX5_rocks_50 : decode cX5_rocks 50 = .ok (.goto (-31), 3) := dk_167 255 225 (dk_at dksX5_rocks_2 3 rfl rfl)
theorem dX5_rocks_53 : decode cX5_rocks 53 = .ok (.iinc 2 1, 3) := dk_132 2 1 (dk_at dksX5_rocks_2 6 rfl rfl)
theorem dX5_rocks_56 : decode cX5_rocks 56 = .ok (.goto (-49), 3) := dk_167 255 207 (dk_at dksX5_rocks_2 9 rfl rfl)
theorem dX5_rocks_59 : decode cX5_rocks 59 = .ok (.iload_n 1, 1) := dk_27 (dk_at dksX5_rocks_2 12 rfl rfl)
theorem dX5_rocks_60 : decode cX5_rocks 60 = .ok (.ifCond .le 7, 3) := dk_158 0 7 (dk_at dksX5_rocks_2 13 rfl rfl)
theorem dX5_rocks_63 : decode cX5_rocks 63 = .ok (.iconst 0, 1) := dk_3 (dk_at dksX5_rocks_2 16 rfl rfl)
theorem dX5_rocks_64 : decode cX5_rocks 64 = .ok (.goto 4, 3) := dk_167 0 4 (dk_at dksX5_rocks_2 17 rfl rfl)
theorem dX5_rocks_67 : decode cX5_rocks 67 = .ok (.iconst 1, 1) := dk_4 (dk_at dksX5_rocks_2 20 rfl rfl)
theorem dX5_rocks_68 : decode cX5_rocks 68 = .ok (.ireturn, 1) := dk_172 (dk_at dksX5_rocks_2 21 rfl rfl)
abbrev cX5_isBetween : ByteArray := prog_19_method_90_code
def yX5_isBetween : MethodName := ⟨RX5, "isBetween", "(II)Z"⟩
def dkwX5_isBetween_1 : List UInt8 := [184, 1, 123, 104, 96, 156, 0, 7, 4, 167, 0, 4, 3, 172]
abbrev dktX5_isBetween_1 : List UInt8 := dkwX5_isBetween_1 ++ []
def dkwX5_isBetween_0 : List UInt8 := [26, 27, 184, 1, 126, 154, 0, 29, 26, 184, 1, 120, 27, 184, 1, 120, 104, 26, 184, 1, 123, 27]
abbrev dktX5_isBetween_0 : List UInt8 := dkwX5_isBetween_0 ++ dktX5_isBetween_1
theorem dksX5_isBetween_0 : cX5_isBetween.data.toList.drop 0 = dktX5_isBetween_0 := by decide +kernel
theorem dksX5_isBetween_1 : cX5_isBetween.data.toList.drop 22 = dktX5_isBetween_1 := dk_seg dksX5_isBetween_0 22 rfl rfl
theorem dX5_isBetween_0 : decode cX5_isBetween 0 = .ok (.iload_n 0, 1) := dk_26 (dk_at dksX5_isBetween_0 0 rfl rfl)
theorem dX5_isBetween_1 : decode cX5_isBetween 1 = .ok (.iload_n 1, 1) := dk_27 (dk_at dksX5_isBetween_0 1 rfl rfl)
theorem dX5_isBetween_2 : decode cX5_isBetween 2 = .ok (.invokestatic 382, 3) := dk_184 1 126 (dk_at dksX5_isBetween_0 2 rfl rfl)
theorem dX5_isBetween_5 : decode cX5_isBetween 5 = .ok (.ifCond .ne 29, 3) := dk_154 0 29 (dk_at dksX5_isBetween_0 5 rfl rfl)
theorem dX5_isBetween_8 : decode cX5_isBetween 8 = .ok (.iload_n 0, 1) := dk_26 (dk_at dksX5_isBetween_0 8 rfl rfl)
theorem dX5_isBetween_9 : decode cX5_isBetween 9 = .ok (.invokestatic 376, 3) := dk_184 1 120 (dk_at dksX5_isBetween_0 9 rfl rfl)
theorem dX5_isBetween_12 : decode cX5_isBetween 12 = .ok (.iload_n 1, 1) := dk_27 (dk_at dksX5_isBetween_0 12 rfl rfl)
theorem dX5_isBetween_13 : decode cX5_isBetween 13 = .ok (.invokestatic 376, 3) := dk_184 1 120 (dk_at dksX5_isBetween_0 13 rfl rfl)
theorem dX5_isBetween_16 : decode cX5_isBetween 16 = .ok (.imul, 1) := dk_104 (dk_at dksX5_isBetween_0 16 rfl rfl)
theorem dX5_isBetween_17 : decode cX5_isBetween 17 = .ok (.iload_n 0, 1) := dk_26 (dk_at dksX5_isBetween_0 17 rfl rfl)
theorem dX5_isBetween_18 : decode cX5_isBetween 18 = .ok (.invokestatic 379, 3) := dk_184 1 123 (dk_at dksX5_isBetween_0 18 rfl rfl)
theorem dX5_isBetween_21 : decode cX5_isBetween 21 = .ok (.iload_n 1, 1) := dk_27 (dk_at dksX5_isBetween_0 21 rfl rfl)
theorem dX5_isBetween_22 : decode cX5_isBetween 22 = .ok (.invokestatic 379, 3) := dk_184 1 123 (dk_at dksX5_isBetween_1 0 rfl rfl)
theorem dX5_isBetween_25 : decode cX5_isBetween 25 = .ok (.imul, 1) := dk_104 (dk_at dksX5_isBetween_1 3 rfl rfl)
theorem dX5_isBetween_26 : decode cX5_isBetween 26 = .ok (.iadd, 1) := dk_96 (dk_at dksX5_isBetween_1 4 rfl rfl)
theorem dX5_isBetween_27 : decode cX5_isBetween 27 = .ok (.ifCond .ge 7, 3) := dk_156 0 7 (dk_at dksX5_isBetween_1 5 rfl rfl)
theorem dX5_isBetween_30 : decode cX5_isBetween 30 = .ok (.iconst 1, 1) := dk_4 (dk_at dksX5_isBetween_1 8 rfl rfl)
theorem dX5_isBetween_31 : decode cX5_isBetween 31 = .ok (.goto 4, 3) := dk_167 0 4 (dk_at dksX5_isBetween_1 9 rfl rfl)
theorem dX5_isBetween_34 : decode cX5_isBetween 34 = .ok (.iconst 0, 1) := dk_3 (dk_at dksX5_isBetween_1 12 rfl rfl)
theorem dX5_isBetween_35 : decode cX5_isBetween 35 = .ok (.ireturn, 1) := dk_172 (dk_at dksX5_isBetween_1 13 rfl rfl)
abbrev cX5_figure : ByteArray := prog_19_method_95_code
def yX5_figure : MethodName := ⟨RX5, "figure", "()I"⟩
def dkwX5_figure_3 : List UInt8 := [21, 5, 16, 8, 112, 104, 100, 60, 132, 3, 1, 167, 255, 192, 132, 2, 1, 167, 255, 176, 27, 172]
abbrev dktX5_figure_3 : List UInt8 := dkwX5_figure_3 ++ []
def dkwX5_figure_2 : List UInt8 := [182, 1, 144, 153, 0, 29, 27, 21, 4, 16, 8, 112, 21, 5, 16, 8, 108, 104, 96, 21, 4, 16, 8, 108]
abbrev dktX5_figure_2 : List UInt8 := dkwX5_figure_2 ++ dktX5_figure_3
def dkwX5_figure_1 : List UInt8 := [162, 0, 62, 42, 180, 0, 96, 28, 46, 54, 4, 42, 180, 0, 96, 29, 46, 54, 5, 42, 21, 4, 21, 5]
abbrev dktX5_figure_1 : List UInt8 := dkwX5_figure_1 ++ dktX5_figure_2
def dkwX5_figure_0 : List UInt8 := [42, 182, 1, 132, 3, 60, 3, 61, 28, 42, 180, 1, 117, 162, 0, 78, 3, 62, 29, 42, 180, 1, 117]
abbrev dktX5_figure_0 : List UInt8 := dkwX5_figure_0 ++ dktX5_figure_1
theorem dksX5_figure_0 : cX5_figure.data.toList.drop 0 = dktX5_figure_0 := by decide +kernel
theorem dksX5_figure_1 : cX5_figure.data.toList.drop 23 = dktX5_figure_1 := dk_seg dksX5_figure_0 23 rfl rfl
theorem dksX5_figure_2 : cX5_figure.data.toList.drop 47 = dktX5_figure_2 := dk_seg dksX5_figure_1 24 rfl rfl
theorem dksX5_figure_3 : cX5_figure.data.toList.drop 71 = dktX5_figure_3 := dk_seg dksX5_figure_2 24 rfl rfl
theorem dX5_figure_0 : decode cX5_figure 0 = .ok (.aload_n 0, 1) := dk_42 (dk_at dksX5_figure_0 0 rfl rfl)
theorem dX5_figure_1 : decode cX5_figure 1 = .ok (.invokevirtual 388, 3) := dk_182 1 132 (dk_at dksX5_figure_0 1 rfl rfl)
theorem dX5_figure_4 : decode cX5_figure 4 = .ok (.iconst 0, 1) := dk_3 (dk_at dksX5_figure_0 4 rfl rfl)
theorem dX5_figure_5 : decode cX5_figure 5 = .ok (.istore_n 1, 1) := dk_60 (dk_at dksX5_figure_0 5 rfl rfl)
theorem dX5_figure_6 : decode cX5_figure 6 = .ok (.iconst 0, 1) := dk_3 (dk_at dksX5_figure_0 6 rfl rfl)
theorem dX5_figure_7 : decode cX5_figure 7 = .ok (.istore_n 2, 1) := dk_61 (dk_at dksX5_figure_0 7 rfl rfl)
theorem dX5_figure_8 : decode cX5_figure 8 = .ok (.iload_n 2, 1) := dk_28 (dk_at dksX5_figure_0 8 rfl rfl)
theorem dX5_figure_9 : decode cX5_figure 9 = .ok (.aload_n 0, 1) := dk_42 (dk_at dksX5_figure_0 9 rfl rfl)
theorem dX5_figure_10 : decode cX5_figure 10 = .ok (.getfield 373, 3) := dk_180 1 117 (dk_at dksX5_figure_0 10 rfl rfl)
theorem dX5_figure_13 : decode cX5_figure 13 = .ok (.if_icmp .ge 78, 3) := dk_162 0 78 (dk_at dksX5_figure_0 13 rfl rfl)
theorem dX5_figure_16 : decode cX5_figure 16 = .ok (.iconst 0, 1) := dk_3 (dk_at dksX5_figure_0 16 rfl rfl)
theorem dX5_figure_17 : decode cX5_figure 17 = .ok (.istore_n 3, 1) := dk_62 (dk_at dksX5_figure_0 17 rfl rfl)
theorem dX5_figure_18 : decode cX5_figure 18 = .ok (.iload_n 3, 1) := dk_29 (dk_at dksX5_figure_0 18 rfl rfl)
theorem dX5_figure_19 : decode cX5_figure 19 = .ok (.aload_n 0, 1) := dk_42 (dk_at dksX5_figure_0 19 rfl rfl)
theorem dX5_figure_20 : decode cX5_figure 20 = .ok (.getfield 373, 3) := dk_180 1 117 (dk_at dksX5_figure_0 20 rfl rfl)
theorem dX5_figure_23 : decode cX5_figure 23 = .ok (.if_icmp .ge 62, 3) := dk_162 0 62 (dk_at dksX5_figure_1 0 rfl rfl)
theorem dX5_figure_26 : decode cX5_figure 26 = .ok (.aload_n 0, 1) := dk_42 (dk_at dksX5_figure_1 3 rfl rfl)
theorem dX5_figure_27 : decode cX5_figure 27 = .ok (.getfield 96, 3) := dk_180 0 96 (dk_at dksX5_figure_1 4 rfl rfl)
theorem dX5_figure_30 : decode cX5_figure 30 = .ok (.iload_n 2, 1) := dk_28 (dk_at dksX5_figure_1 7 rfl rfl)
theorem dX5_figure_31 : decode cX5_figure 31 = .ok (.iaload, 1) := dk_46 (dk_at dksX5_figure_1 8 rfl rfl)
theorem dX5_figure_32 : decode cX5_figure 32 = .ok (.istore 4, 2) := dk_54 4 (dk_at dksX5_figure_1 9 rfl rfl)
theorem dX5_figure_34 : decode cX5_figure 34 = .ok (.aload_n 0, 1) := dk_42 (dk_at dksX5_figure_1 11 rfl rfl)
theorem dX5_figure_35 : decode cX5_figure 35 = .ok (.getfield 96, 3) := dk_180 0 96 (dk_at dksX5_figure_1 12 rfl rfl)
theorem dX5_figure_38 : decode cX5_figure 38 = .ok (.iload_n 3, 1) := dk_29 (dk_at dksX5_figure_1 15 rfl rfl)
theorem dX5_figure_39 : decode cX5_figure 39 = .ok (.iaload, 1) := dk_46 (dk_at dksX5_figure_1 16 rfl rfl)
theorem dX5_figure_40 : decode cX5_figure 40 = .ok (.istore 5, 2) := dk_54 5 (dk_at dksX5_figure_1 17 rfl rfl)
theorem dX5_figure_42 : decode cX5_figure 42 = .ok (.aload_n 0, 1) := dk_42 (dk_at dksX5_figure_1 19 rfl rfl)
theorem dX5_figure_43 : decode cX5_figure 43 = .ok (.iload 4, 2) := dk_21 4 (dk_at dksX5_figure_1 20 rfl rfl)
theorem dX5_figure_45 : decode cX5_figure 45 = .ok (.iload 5, 2) := dk_21 5 (dk_at dksX5_figure_1 22 rfl rfl)
theorem dX5_figure_47 : decode cX5_figure 47 = .ok (.invokevirtual 400, 3) := dk_182 1 144 (dk_at dksX5_figure_2 0 rfl rfl)
theorem dX5_figure_50 : decode cX5_figure 50 = .ok (.ifCond .eq 29, 3) := dk_153 0 29 (dk_at dksX5_figure_2 3 rfl rfl)
theorem dX5_figure_53 : decode cX5_figure 53 = .ok (.iload_n 1, 1) := dk_27 (dk_at dksX5_figure_2 6 rfl rfl)
theorem dX5_figure_54 : decode cX5_figure 54 = .ok (.iload 4, 2) := dk_21 4 (dk_at dksX5_figure_2 7 rfl rfl)
theorem dX5_figure_56 : decode cX5_figure 56 = .ok (.bipush 8, 2) := dk_16 8 (dk_at dksX5_figure_2 9 rfl rfl)
theorem dX5_figure_58 : decode cX5_figure 58 = .ok (.irem, 1) := dk_112 (dk_at dksX5_figure_2 11 rfl rfl)
theorem dX5_figure_59 : decode cX5_figure 59 = .ok (.iload 5, 2) := dk_21 5 (dk_at dksX5_figure_2 12 rfl rfl)
theorem dX5_figure_61 : decode cX5_figure 61 = .ok (.bipush 8, 2) := dk_16 8 (dk_at dksX5_figure_2 14 rfl rfl)
theorem dX5_figure_63 : decode cX5_figure 63 = .ok (.idiv, 1) := dk_108 (dk_at dksX5_figure_2 16 rfl rfl)
theorem dX5_figure_64 : decode cX5_figure 64 = .ok (.imul, 1) := dk_104 (dk_at dksX5_figure_2 17 rfl rfl)
theorem dX5_figure_65 : decode cX5_figure 65 = .ok (.iadd, 1) := dk_96 (dk_at dksX5_figure_2 18 rfl rfl)
theorem dX5_figure_66 : decode cX5_figure 66 = .ok (.iload 4, 2) := dk_21 4 (dk_at dksX5_figure_2 19 rfl rfl)
theorem dX5_figure_68 : decode cX5_figure 68 = .ok (.bipush 8, 2) := dk_16 8 (dk_at dksX5_figure_2 21 rfl rfl)
theorem dX5_figure_70 : decode cX5_figure 70 = .ok (.idiv, 1) := dk_108 (dk_at dksX5_figure_2 23 rfl rfl)
theorem dX5_figure_71 : decode cX5_figure 71 = .ok (.iload 5, 2) := dk_21 5 (dk_at dksX5_figure_3 0 rfl rfl)
theorem dX5_figure_73 : decode cX5_figure 73 = .ok (.bipush 8, 2) := dk_16 8 (dk_at dksX5_figure_3 2 rfl rfl)
theorem dX5_figure_75 : decode cX5_figure 75 = .ok (.irem, 1) := dk_112 (dk_at dksX5_figure_3 4 rfl rfl)
theorem dX5_figure_76 : decode cX5_figure 76 = .ok (.imul, 1) := dk_104 (dk_at dksX5_figure_3 5 rfl rfl)
theorem dX5_figure_77 : decode cX5_figure 77 = .ok (.isub, 1) := dk_100 (dk_at dksX5_figure_3 6 rfl rfl)
theorem dX5_figure_78 : decode cX5_figure 78 = .ok (.istore_n 1, 1) := dk_60 (dk_at dksX5_figure_3 7 rfl rfl)
theorem dX5_figure_79 : decode cX5_figure 79 = .ok (.iinc 3 1, 3) := dk_132 3 1 (dk_at dksX5_figure_3 8 rfl rfl)
theorem dX5_figure_82 : decode cX5_figure 82 = .ok (.goto (-64), 3) := dk_167 255 192 (dk_at dksX5_figure_3 11 rfl rfl)
theorem dX5_figure_85 : decode cX5_figure 85 = .ok (.iinc 2 1, 3) := dk_132 2 1 (dk_at dksX5_figure_3 14 rfl rfl)
theorem dX5_figure_88 : decode cX5_figure 88 = .ok (.goto (-80), 3) := dk_167 255 176 (dk_at dksX5_figure_3 17 rfl rfl)
theorem dX5_figure_91 : decode cX5_figure 91 = .ok (.iload_n 1, 1) := dk_27 (dk_at dksX5_figure_3 20 rfl rfl)
theorem dX5_figure_92 : decode cX5_figure 92 = .ok (.ireturn, 1) := dk_172 (dk_at dksX5_figure_3 21 rfl rfl)
abbrev cX5_isEdge : ByteArray := prog_19_method_94_code
def yX5_isEdge : MethodName := ⟨RX5, "isEdge", "(II)Z"⟩
def dkwX5_isEdge_4 : List UInt8 := [158, 0, 5, 3, 172, 132, 3, 1, 167, 255, 160, 27, 28, 159, 0, 7, 4, 167, 0, 4, 3, 172]
abbrev dktX5_isEdge_4 : List UInt8 := dkwX5_isEdge_4 ++ []
def dkwX5_isEdge_3 : List UInt8 := [16, 8, 108, 21, 4, 16, 8, 108, 100, 104, 54, 7, 21, 5, 154, 0, 13, 21, 6, 21, 7, 96]
abbrev dktX5_isEdge_3 : List UInt8 := dkwX5_isEdge_3 ++ dktX5_isEdge_4
def dkwX5_isEdge_2 : List UInt8 := [16, 8, 112, 21, 4, 16, 8, 112, 100, 104, 54, 6, 27, 16, 8, 108, 21, 4, 16, 8, 108, 100, 28]
abbrev dktX5_isEdge_2 : List UInt8 := dkwX5_isEdge_2 ++ dktX5_isEdge_3
def dkwX5_isEdge_1 : List UInt8 := [184, 1, 129, 54, 5, 21, 5, 156, 0, 5, 3, 172, 27, 16, 8, 112, 21, 4, 16, 8, 112, 100, 28]
abbrev dktX5_isEdge_1 : List UInt8 := dkwX5_isEdge_1 ++ dktX5_isEdge_2
def dkwX5_isEdge_0 : List UInt8 := [3, 62, 29, 42, 180, 1, 117, 162, 0, 94, 42, 180, 0, 96, 29, 46, 54, 4, 27, 28, 21, 4]
abbrev dktX5_isEdge_0 : List UInt8 := dkwX5_isEdge_0 ++ dktX5_isEdge_1
theorem dksX5_isEdge_0 : cX5_isEdge.data.toList.drop 0 = dktX5_isEdge_0 := by decide +kernel
theorem dksX5_isEdge_1 : cX5_isEdge.data.toList.drop 22 = dktX5_isEdge_1 := dk_seg dksX5_isEdge_0 22 rfl rfl
theorem dksX5_isEdge_2 : cX5_isEdge.data.toList.drop 45 = dktX5_isEdge_2 := dk_seg dksX5_isEdge_1 23 rfl rfl
theorem dksX5_isEdge_3 : cX5_isEdge.data.toList.drop 68 = dktX5_isEdge_3 := dk_seg dksX5_isEdge_2 23 rfl rfl
theorem dksX5_isEdge_4 : cX5_isEdge.data.toList.drop 90 = dktX5_isEdge_4 := dk_seg dksX5_isEdge_3 22 rfl rfl
theorem dX5_isEdge_0 : decode cX5_isEdge 0 = .ok (.iconst 0, 1) := dk_3 (dk_at dksX5_isEdge_0 0 rfl rfl)
theorem dX5_isEdge_1 : decode cX5_isEdge 1 = .ok (.istore_n 3, 1) := dk_62 (dk_at dksX5_isEdge_0 1 rfl rfl)
theorem dX5_isEdge_2 : decode cX5_isEdge 2 = .ok (.iload_n 3, 1) := dk_29 (dk_at dksX5_isEdge_0 2 rfl rfl)
theorem dX5_isEdge_3 : decode cX5_isEdge 3 = .ok (.aload_n 0, 1) := dk_42 (dk_at dksX5_isEdge_0 3 rfl rfl)
theorem dX5_isEdge_4 : decode cX5_isEdge 4 = .ok (.getfield 373, 3) := dk_180 1 117 (dk_at dksX5_isEdge_0 4 rfl rfl)
theorem dX5_isEdge_7 : decode cX5_isEdge 7 = .ok (.if_icmp .ge 94, 3) := dk_162 0 94 (dk_at dksX5_isEdge_0 7 rfl rfl)
theorem dX5_isEdge_10 : decode cX5_isEdge 10 = .ok (.aload_n 0, 1) := dk_42 (dk_at dksX5_isEdge_0 10 rfl rfl)
theorem dX5_isEdge_11 : decode cX5_isEdge 11 = .ok (.getfield 96, 3) := dk_180 0 96 (dk_at dksX5_isEdge_0 11 rfl rfl)
theorem dX5_isEdge_14 : decode cX5_isEdge 14 = .ok (.iload_n 3, 1) := dk_29 (dk_at dksX5_isEdge_0 14 rfl rfl)
theorem dX5_isEdge_15 : decode cX5_isEdge 15 = .ok (.iaload, 1) := dk_46 (dk_at dksX5_isEdge_0 15 rfl rfl)
theorem dX5_isEdge_16 : decode cX5_isEdge 16 = .ok (.istore 4, 2) := dk_54 4 (dk_at dksX5_isEdge_0 16 rfl rfl)
theorem dX5_isEdge_18 : decode cX5_isEdge 18 = .ok (.iload_n 1, 1) := dk_27 (dk_at dksX5_isEdge_0 18 rfl rfl)
theorem dX5_isEdge_19 : decode cX5_isEdge 19 = .ok (.iload_n 2, 1) := dk_28 (dk_at dksX5_isEdge_0 19 rfl rfl)
theorem dX5_isEdge_20 : decode cX5_isEdge 20 = .ok (.iload 4, 2) := dk_21 4 (dk_at dksX5_isEdge_0 20 rfl rfl)
theorem dX5_isEdge_22 : decode cX5_isEdge 22 = .ok (.invokestatic 385, 3) := dk_184 1 129 (dk_at dksX5_isEdge_1 0 rfl rfl)
theorem dX5_isEdge_25 : decode cX5_isEdge 25 = .ok (.istore 5, 2) := dk_54 5 (dk_at dksX5_isEdge_1 3 rfl rfl)
theorem dX5_isEdge_27 : decode cX5_isEdge 27 = .ok (.iload 5, 2) := dk_21 5 (dk_at dksX5_isEdge_1 5 rfl rfl)
theorem dX5_isEdge_29 : decode cX5_isEdge 29 = .ok (.ifCond .ge 5, 3) := dk_156 0 5 (dk_at dksX5_isEdge_1 7 rfl rfl)
theorem dX5_isEdge_32 : decode cX5_isEdge 32 = .ok (.iconst 0, 1) := dk_3 (dk_at dksX5_isEdge_1 10 rfl rfl)
theorem dX5_isEdge_33 : decode cX5_isEdge 33 = .ok (.ireturn, 1) := dk_172 (dk_at dksX5_isEdge_1 11 rfl rfl)
theorem dX5_isEdge_34 : decode cX5_isEdge 34 = .ok (.iload_n 1, 1) := dk_27 (dk_at dksX5_isEdge_1 12 rfl rfl)
theorem dX5_isEdge_35 : decode cX5_isEdge 35 = .ok (.bipush 8, 2) := dk_16 8 (dk_at dksX5_isEdge_1 13 rfl rfl)
theorem dX5_isEdge_37 : decode cX5_isEdge 37 = .ok (.irem, 1) := dk_112 (dk_at dksX5_isEdge_1 15 rfl rfl)
theorem dX5_isEdge_38 : decode cX5_isEdge 38 = .ok (.iload 4, 2) := dk_21 4 (dk_at dksX5_isEdge_1 16 rfl rfl)
theorem dX5_isEdge_40 : decode cX5_isEdge 40 = .ok (.bipush 8, 2) := dk_16 8 (dk_at dksX5_isEdge_1 18 rfl rfl)
theorem dX5_isEdge_42 : decode cX5_isEdge 42 = .ok (.irem, 1) := dk_112 (dk_at dksX5_isEdge_1 20 rfl rfl)
theorem dX5_isEdge_43 : decode cX5_isEdge 43 = .ok (.isub, 1) := dk_100 (dk_at dksX5_isEdge_1 21 rfl rfl)
theorem dX5_isEdge_44 : decode cX5_isEdge 44 = .ok (.iload_n 2, 1) := dk_28 (dk_at dksX5_isEdge_1 22 rfl rfl)
theorem dX5_isEdge_45 : decode cX5_isEdge 45 = .ok (.bipush 8, 2) := dk_16 8 (dk_at dksX5_isEdge_2 0 rfl rfl)
theorem dX5_isEdge_47 : decode cX5_isEdge 47 = .ok (.irem, 1) := dk_112 (dk_at dksX5_isEdge_2 2 rfl rfl)
theorem dX5_isEdge_48 : decode cX5_isEdge 48 = .ok (.iload 4, 2) := dk_21 4 (dk_at dksX5_isEdge_2 3 rfl rfl)
theorem dX5_isEdge_50 : decode cX5_isEdge 50 = .ok (.bipush 8, 2) := dk_16 8 (dk_at dksX5_isEdge_2 5 rfl rfl)
theorem dX5_isEdge_52 : decode cX5_isEdge 52 = .ok (.irem, 1) := dk_112 (dk_at dksX5_isEdge_2 7 rfl rfl)
theorem dX5_isEdge_53 : decode cX5_isEdge 53 = .ok (.isub, 1) := dk_100 (dk_at dksX5_isEdge_2 8 rfl rfl)
theorem dX5_isEdge_54 : decode cX5_isEdge 54 = .ok (.imul, 1) := dk_104 (dk_at dksX5_isEdge_2 9 rfl rfl)
theorem dX5_isEdge_55 : decode cX5_isEdge 55 = .ok (.istore 6, 2) := dk_54 6 (dk_at dksX5_isEdge_2 10 rfl rfl)
theorem dX5_isEdge_57 : decode cX5_isEdge 57 = .ok (.iload_n 1, 1) := dk_27 (dk_at dksX5_isEdge_2 12 rfl rfl)
theorem dX5_isEdge_58 : decode cX5_isEdge 58 = .ok (.bipush 8, 2) := dk_16 8 (dk_at dksX5_isEdge_2 13 rfl rfl)
theorem dX5_isEdge_60 : decode cX5_isEdge 60 = .ok (.idiv, 1) := dk_108 (dk_at dksX5_isEdge_2 15 rfl rfl)
theorem dX5_isEdge_61 : decode cX5_isEdge 61 = .ok (.iload 4, 2) := dk_21 4 (dk_at dksX5_isEdge_2 16 rfl rfl)
theorem dX5_isEdge_63 : decode cX5_isEdge 63 = .ok (.bipush 8, 2) := dk_16 8 (dk_at dksX5_isEdge_2 18 rfl rfl)
theorem dX5_isEdge_65 : decode cX5_isEdge 65 = .ok (.idiv, 1) := dk_108 (dk_at dksX5_isEdge_2 20 rfl rfl)
theorem dX5_isEdge_66 : decode cX5_isEdge 66 = .ok (.isub, 1) := dk_100 (dk_at dksX5_isEdge_2 21 rfl rfl)
theorem dX5_isEdge_67 : decode cX5_isEdge 67 = .ok (.iload_n 2, 1) := dk_28 (dk_at dksX5_isEdge_2 22 rfl rfl)
theorem dX5_isEdge_68 : decode cX5_isEdge 68 = .ok (.bipush 8, 2) := dk_16 8 (dk_at dksX5_isEdge_3 0 rfl rfl)
theorem dX5_isEdge_70 : decode cX5_isEdge 70 = .ok (.idiv, 1) := dk_108 (dk_at dksX5_isEdge_3 2 rfl rfl)
theorem dX5_isEdge_71 : decode cX5_isEdge 71 = .ok (.iload 4, 2) := dk_21 4 (dk_at dksX5_isEdge_3 3 rfl rfl)
theorem dX5_isEdge_73 : decode cX5_isEdge 73 = .ok (.bipush 8, 2) := dk_16 8 (dk_at dksX5_isEdge_3 5 rfl rfl)
theorem dX5_isEdge_75 : decode cX5_isEdge 75 = .ok (.idiv, 1) := dk_108 (dk_at dksX5_isEdge_3 7 rfl rfl)
theorem dX5_isEdge_76 : decode cX5_isEdge 76 = .ok (.isub, 1) := dk_100 (dk_at dksX5_isEdge_3 8 rfl rfl)
theorem dX5_isEdge_77 : decode cX5_isEdge 77 = .ok (.imul, 1) := dk_104 (dk_at dksX5_isEdge_3 9 rfl rfl)
theorem dX5_isEdge_78 : decode cX5_isEdge 78 = .ok (.istore 7, 2) := dk_54 7 (dk_at dksX5_isEdge_3 10 rfl rfl)
theorem dX5_isEdge_80 : decode cX5_isEdge 80 = .ok (.iload 5, 2) := dk_21 5 (dk_at dksX5_isEdge_3 12 rfl rfl)
theorem dX5_isEdge_82 : decode cX5_isEdge 82 = .ok (.ifCond .ne 13, 3) := dk_154 0 13 (dk_at dksX5_isEdge_3 14 rfl rfl)
theorem dX5_isEdge_85 : decode cX5_isEdge 85 = .ok (.iload 6, 2) := dk_21 6 (dk_at dksX5_isEdge_3 17 rfl rfl)
theorem dX5_isEdge_87 : decode cX5_isEdge 87 = .ok (.iload 7, 2) := dk_21 7 (dk_at dksX5_isEdge_3 19 rfl rfl)
theorem dX5_isEdge_89 : decode cX5_isEdge 89 = .ok (.iadd, 1) := dk_96 (dk_at dksX5_isEdge_3 21 rfl rfl)
theorem dX5_isEdge_90 : decode cX5_isEdge 90 = .ok (.ifCond .le 5, 3) := dk_158 0 5 (dk_at dksX5_isEdge_4 0 rfl rfl)
theorem dX5_isEdge_93 : decode cX5_isEdge 93 = .ok (.iconst 0, 1) := dk_3 (dk_at dksX5_isEdge_4 3 rfl rfl)
theorem dX5_isEdge_94 : decode cX5_isEdge 94 = .ok (.ireturn, 1) := dk_172 (dk_at dksX5_isEdge_4 4 rfl rfl)
theorem dX5_isEdge_95 : decode cX5_isEdge 95 = .ok (.iinc 3 1, 3) := dk_132 3 1 (dk_at dksX5_isEdge_4 5 rfl rfl)
theorem dX5_isEdge_98 : decode cX5_isEdge 98 = .ok (.goto (-96), 3) := dk_167 255 160 (dk_at dksX5_isEdge_4 8 rfl rfl)
theorem dX5_isEdge_101 : decode cX5_isEdge 101 = .ok (.iload_n 1, 1) := dk_27 (dk_at dksX5_isEdge_4 11 rfl rfl)
theorem dX5_isEdge_102 : decode cX5_isEdge 102 = .ok (.iload_n 2, 1) := dk_28 (dk_at dksX5_isEdge_4 12 rfl rfl)
theorem dX5_isEdge_103 : decode cX5_isEdge 103 = .ok (.if_icmp .eq 7, 3) := dk_159 0 7 (dk_at dksX5_isEdge_4 13 rfl rfl)
theorem dX5_isEdge_106 : decode cX5_isEdge 106 = .ok (.iconst 1, 1) := dk_4 (dk_at dksX5_isEdge_4 16 rfl rfl)
theorem dX5_isEdge_107 : decode cX5_isEdge 107 = .ok (.goto 4, 3) := dk_167 0 4 (dk_at dksX5_isEdge_4 17 rfl rfl)
theorem dX5_isEdge_110 : decode cX5_isEdge 110 = .ok (.iconst 0, 1) := dk_3 (dk_at dksX5_isEdge_4 20 rfl rfl)
theorem dX5_isEdge_111 : decode cX5_isEdge 111 = .ok (.ireturn, 1) := dk_172 (dk_at dksX5_isEdge_4 21 rfl rfl)
abbrev cX5_lean : ByteArray := prog_19_method_97_code
def yX5_lean : MethodName := ⟨RX5, "lean", "(I)I"⟩
def dkwX5_lean_3 : List UInt8 := [167, 0, 8, 42, 28, 182, 1, 148, 172]
abbrev dktX5_lean_3 : List UInt8 := dkwX5_lean_3 ++ []
def dkwX5_lean_2 : List UInt8 := [42, 28, 182, 1, 148, 164, 0, 6, 21, 4, 61, 132, 3, 1, 167, 255, 209, 27, 154, 0, 9, 28, 6, 96]
abbrev dktX5_lean_2 : List UInt8 := dkwX5_lean_2 ++ dktX5_lean_3
def dkwX5_lean_1 : List UInt8 := [4, 160, 0, 12, 29, 4, 96, 116, 5, 108, 167, 0, 6, 29, 5, 108, 54, 4, 42, 21, 4, 182, 1, 148]
abbrev dktX5_lean_1 : List UInt8 := dkwX5_lean_1 ++ dktX5_lean_2
def dkwX5_lean_0 : List UInt8 := [27, 3, 4, 184, 0, 112, 154, 0, 5, 2, 172, 3, 61, 4, 62, 29, 16, 7, 162, 0, 47, 29, 5, 112]
abbrev dktX5_lean_0 : List UInt8 := dkwX5_lean_0 ++ dktX5_lean_1
theorem dksX5_lean_0 : cX5_lean.data.toList.drop 0 = dktX5_lean_0 := by decide +kernel
theorem dksX5_lean_1 : cX5_lean.data.toList.drop 24 = dktX5_lean_1 := dk_seg dksX5_lean_0 24 rfl rfl
theorem dksX5_lean_2 : cX5_lean.data.toList.drop 48 = dktX5_lean_2 := dk_seg dksX5_lean_1 24 rfl rfl
theorem dksX5_lean_3 : cX5_lean.data.toList.drop 72 = dktX5_lean_3 := dk_seg dksX5_lean_2 24 rfl rfl
theorem dX5_lean_0 : decode cX5_lean 0 = .ok (.iload_n 1, 1) := dk_27 (dk_at dksX5_lean_0 0 rfl rfl)
theorem dX5_lean_1 : decode cX5_lean 1 = .ok (.iconst 0, 1) := dk_3 (dk_at dksX5_lean_0 1 rfl rfl)
theorem dX5_lean_2 : decode cX5_lean 2 = .ok (.iconst 1, 1) := dk_4 (dk_at dksX5_lean_0 2 rfl rfl)
theorem dX5_lean_3 : decode cX5_lean 3 = .ok (.invokestatic 112, 3) := dk_184 0 112 (dk_at dksX5_lean_0 3 rfl rfl)
theorem dX5_lean_6 : decode cX5_lean 6 = .ok (.ifCond .ne 5, 3) := dk_154 0 5 (dk_at dksX5_lean_0 6 rfl rfl)
theorem dX5_lean_9 : decode cX5_lean 9 = .ok (.iconst (-1), 1) := dk_2 (dk_at dksX5_lean_0 9 rfl rfl)
theorem dX5_lean_10 : decode cX5_lean 10 = .ok (.ireturn, 1) := dk_172 (dk_at dksX5_lean_0 10 rfl rfl)
theorem dX5_lean_11 : decode cX5_lean 11 = .ok (.iconst 0, 1) := dk_3 (dk_at dksX5_lean_0 11 rfl rfl)
theorem dX5_lean_12 : decode cX5_lean 12 = .ok (.istore_n 2, 1) := dk_61 (dk_at dksX5_lean_0 12 rfl rfl)
theorem dX5_lean_13 : decode cX5_lean 13 = .ok (.iconst 1, 1) := dk_4 (dk_at dksX5_lean_0 13 rfl rfl)
theorem dX5_lean_14 : decode cX5_lean 14 = .ok (.istore_n 3, 1) := dk_62 (dk_at dksX5_lean_0 14 rfl rfl)
theorem dX5_lean_15 : decode cX5_lean 15 = .ok (.iload_n 3, 1) := dk_29 (dk_at dksX5_lean_0 15 rfl rfl)
theorem dX5_lean_16 : decode cX5_lean 16 = .ok (.bipush 7, 2) := dk_16 7 (dk_at dksX5_lean_0 16 rfl rfl)
theorem dX5_lean_18 : decode cX5_lean 18 = .ok (.if_icmp .ge 47, 3) := dk_162 0 47 (dk_at dksX5_lean_0 18 rfl rfl)
theorem dX5_lean_21 : decode cX5_lean 21 = .ok (.iload_n 3, 1) := dk_29 (dk_at dksX5_lean_0 21 rfl rfl)
theorem dX5_lean_22 : decode cX5_lean 22 = .ok (.iconst 2, 1) := dk_5 (dk_at dksX5_lean_0 22 rfl rfl)
theorem dX5_lean_23 : decode cX5_lean 23 = .ok (.irem, 1) := dk_112 (dk_at dksX5_lean_0 23 rfl rfl)
theorem dX5_lean_24 : decode cX5_lean 24 = .ok (.iconst 1, 1) := dk_4 (dk_at dksX5_lean_1 0 rfl rfl)
theorem dX5_lean_25 : decode cX5_lean 25 = .ok (.if_icmp .ne 12, 3) := dk_160 0 12 (dk_at dksX5_lean_1 1 rfl rfl)
theorem dX5_lean_28 : decode cX5_lean 28 = .ok (.iload_n 3, 1) := dk_29 (dk_at dksX5_lean_1 4 rfl rfl)
theorem dX5_lean_29 : decode cX5_lean 29 = .ok (.iconst 1, 1) := dk_4 (dk_at dksX5_lean_1 5 rfl rfl)
theorem dX5_lean_30 : decode cX5_lean 30 = .ok (.iadd, 1) := dk_96 (dk_at dksX5_lean_1 6 rfl rfl)
theorem dX5_lean_31 : decode cX5_lean 31 = .ok (.ineg, 1) := dk_116 (dk_at dksX5_lean_1 7 rfl rfl)
theorem dX5_lean_32 : decode cX5_lean 32 = .ok (.iconst 2, 1) := dk_5 (dk_at dksX5_lean_1 8 rfl rfl)
theorem dX5_lean_33 : decode cX5_lean 33 = .ok (.idiv, 1) := dk_108 (dk_at dksX5_lean_1 9 rfl rfl)
theorem dX5_lean_34 : decode cX5_lean 34 = .ok (.goto 6, 3) := dk_167 0 6 (dk_at dksX5_lean_1 10 rfl rfl)
theorem dX5_lean_37 : decode cX5_lean 37 = .ok (.iload_n 3, 1) := dk_29 (dk_at dksX5_lean_1 13 rfl rfl)
theorem dX5_lean_38 : decode cX5_lean 38 = .ok (.iconst 2, 1) := dk_5 (dk_at dksX5_lean_1 14 rfl rfl)
theorem dX5_lean_39 : decode cX5_lean 39 = .ok (.idiv, 1) := dk_108 (dk_at dksX5_lean_1 15 rfl rfl)
theorem dX5_lean_40 : decode cX5_lean 40 = .ok (.istore 4, 2) := dk_54 4 (dk_at dksX5_lean_1 16 rfl rfl)
theorem dX5_lean_42 : decode cX5_lean 42 = .ok (.aload_n 0, 1) := dk_42 (dk_at dksX5_lean_1 18 rfl rfl)
theorem dX5_lean_43 : decode cX5_lean 43 = .ok (.iload 4, 2) := dk_21 4 (dk_at dksX5_lean_1 19 rfl rfl)
theorem dX5_lean_45 : decode cX5_lean 45 = .ok (.invokevirtual 404, 3) := dk_182 1 148 (dk_at dksX5_lean_1 21 rfl rfl)
theorem dX5_lean_48 : decode cX5_lean 48 = .ok (.aload_n 0, 1) := dk_42 (dk_at dksX5_lean_2 0 rfl rfl)
theorem dX5_lean_49 : decode cX5_lean 49 = .ok (.iload_n 2, 1) := dk_28 (dk_at dksX5_lean_2 1 rfl rfl)
theorem dX5_lean_50 : decode cX5_lean 50 = .ok (.invokevirtual 404, 3) := dk_182 1 148 (dk_at dksX5_lean_2 2 rfl rfl)
theorem dX5_lean_53 : decode cX5_lean 53 = .ok (.if_icmp .le 6, 3) := dk_164 0 6 (dk_at dksX5_lean_2 5 rfl rfl)
theorem dX5_lean_56 : decode cX5_lean 56 = .ok (.iload 4, 2) := dk_21 4 (dk_at dksX5_lean_2 8 rfl rfl)
theorem dX5_lean_58 : decode cX5_lean 58 = .ok (.istore_n 2, 1) := dk_61 (dk_at dksX5_lean_2 10 rfl rfl)
theorem dX5_lean_59 : decode cX5_lean 59 = .ok (.iinc 3 1, 3) := dk_132 3 1 (dk_at dksX5_lean_2 11 rfl rfl)
theorem dX5_lean_62 : decode cX5_lean 62 = .ok (.goto (-47), 3) := dk_167 255 209 (dk_at dksX5_lean_2 14 rfl rfl)
theorem dX5_lean_65 : decode cX5_lean 65 = .ok (.iload_n 1, 1) := dk_27 (dk_at dksX5_lean_2 17 rfl rfl)
theorem dX5_lean_66 : decode cX5_lean 66 = .ok (.ifCond .ne 9, 3) := dk_154 0 9 (dk_at dksX5_lean_2 18 rfl rfl)
theorem dX5_lean_69 : decode cX5_lean 69 = .ok (.iload_n 2, 1) := dk_28 (dk_at dksX5_lean_2 21 rfl rfl)
theorem dX5_lean_70 : decode cX5_lean 70 = .ok (.iconst 3, 1) := dk_6 (dk_at dksX5_lean_2 22 rfl rfl)
theorem dX5_lean_71 : decode cX5_lean 71 = .ok (.iadd, 1) := dk_96 (dk_at dksX5_lean_2 23 rfl rfl)
theorem dX5_lean_72 : decode cX5_lean 72 = .ok (.goto 8, 3) := dk_167 0 8 (dk_at dksX5_lean_3 0 rfl rfl)
theorem dX5_lean_75 : decode cX5_lean 75 = .ok (.aload_n 0, 1) := dk_42 (dk_at dksX5_lean_3 3 rfl rfl)
theorem dX5_lean_76 : decode cX5_lean 76 = .ok (.iload_n 2, 1) := dk_28 (dk_at dksX5_lean_3 4 rfl rfl)
theorem dX5_lean_77 : decode cX5_lean 77 = .ok (.invokevirtual 404, 3) := dk_182 1 148 (dk_at dksX5_lean_3 5 rfl rfl)
theorem dX5_lean_80 : decode cX5_lean 80 = .ok (.ireturn, 1) := dk_172 (dk_at dksX5_lean_3 8 rfl rfl)
abbrev cX5_touchLeaning : ByteArray := prog_19_method_96_code
def yX5_touchLeaning : MethodName := ⟨RX5, "touchLeaning", "(I)I"⟩
def dkwX5_touchLeaning_3 : List UInt8 := [29, 172]
abbrev dktX5_touchLeaning_3 : List UInt8 := dkwX5_touchLeaning_3 ++ []
def dkwX5_touchLeaning_2 : List UInt8 := [160, 0, 9, 29, 4, 96, 167, 0, 4, 29, 62, 28, 21, 5, 184, 0, 242, 61, 132, 4, 1, 167, 255, 199]
abbrev dktX5_touchLeaning_2 : List UInt8 := dkwX5_touchLeaning_2 ++ dktX5_touchLeaning_3
def dkwX5_touchLeaning_1 : List UInt8 := [21, 4, 16, 8, 112, 104, 96, 54, 5, 21, 5, 28, 164, 0, 7, 4, 167, 0, 16, 21, 5, 28]
abbrev dktX5_touchLeaning_1 : List UInt8 := dkwX5_touchLeaning_1 ++ dktX5_touchLeaning_2
def dkwX5_touchLeaning_0 : List UInt8 := [19, 1, 147, 61, 3, 62, 3, 54, 4, 21, 4, 16, 48, 162, 0, 56, 42, 21, 4, 182, 1, 86, 27]
abbrev dktX5_touchLeaning_0 : List UInt8 := dkwX5_touchLeaning_0 ++ dktX5_touchLeaning_1
theorem dksX5_touchLeaning_0 : cX5_touchLeaning.data.toList.drop 0 = dktX5_touchLeaning_0 := by decide +kernel
theorem dksX5_touchLeaning_1 : cX5_touchLeaning.data.toList.drop 23 = dktX5_touchLeaning_1 := dk_seg dksX5_touchLeaning_0 23 rfl rfl
theorem dksX5_touchLeaning_2 : cX5_touchLeaning.data.toList.drop 45 = dktX5_touchLeaning_2 := dk_seg dksX5_touchLeaning_1 22 rfl rfl
theorem dksX5_touchLeaning_3 : cX5_touchLeaning.data.toList.drop 69 = dktX5_touchLeaning_3 := dk_seg dksX5_touchLeaning_2 24 rfl rfl
theorem dX5_touchLeaning_0 : decode cX5_touchLeaning 0 = .ok (.ldc_w 403, 3) := dk_19 1 147 (dk_at dksX5_touchLeaning_0 0 rfl rfl)
theorem dX5_touchLeaning_3 : decode cX5_touchLeaning 3 = .ok (.istore_n 2, 1) := dk_61 (dk_at dksX5_touchLeaning_0 3 rfl rfl)
theorem dX5_touchLeaning_4 : decode cX5_touchLeaning 4 = .ok (.iconst 0, 1) := dk_3 (dk_at dksX5_touchLeaning_0 4 rfl rfl)
theorem dX5_touchLeaning_5 : decode cX5_touchLeaning 5 = .ok (.istore_n 3, 1) := dk_62 (dk_at dksX5_touchLeaning_0 5 rfl rfl)
theorem dX5_touchLeaning_6 : decode cX5_touchLeaning 6 = .ok (.iconst 0, 1) := dk_3 (dk_at dksX5_touchLeaning_0 6 rfl rfl)
theorem dX5_touchLeaning_7 : decode cX5_touchLeaning 7 = .ok (.istore 4, 2) := dk_54 4 (dk_at dksX5_touchLeaning_0 7 rfl rfl)
theorem dX5_touchLeaning_9 : decode cX5_touchLeaning 9 = .ok (.iload 4, 2) := dk_21 4 (dk_at dksX5_touchLeaning_0 9 rfl rfl)
theorem dX5_touchLeaning_11 : decode cX5_touchLeaning 11 = .ok (.bipush 48, 2) := dk_16 48 (dk_at dksX5_touchLeaning_0 11 rfl rfl)
theorem dX5_touchLeaning_13 : decode cX5_touchLeaning 13 = .ok (.if_icmp .ge 56, 3) := dk_162 0 56 (dk_at dksX5_touchLeaning_0 13 rfl rfl)
theorem dX5_touchLeaning_16 : decode cX5_touchLeaning 16 = .ok (.aload_n 0, 1) := dk_42 (dk_at dksX5_touchLeaning_0 16 rfl rfl)
theorem dX5_touchLeaning_17 : decode cX5_touchLeaning 17 = .ok (.iload 4, 2) := dk_21 4 (dk_at dksX5_touchLeaning_0 17 rfl rfl)
theorem dX5_touchLeaning_19 : decode cX5_touchLeaning 19 = .ok (.invokevirtual 342, 3) := dk_182 1 86 (dk_at dksX5_touchLeaning_0 19 rfl rfl)
theorem dX5_touchLeaning_22 : decode cX5_touchLeaning 22 = .ok (.iload_n 1, 1) := dk_27 (dk_at dksX5_touchLeaning_0 22 rfl rfl)
theorem dX5_touchLeaning_23 : decode cX5_touchLeaning 23 = .ok (.iload 4, 2) := dk_21 4 (dk_at dksX5_touchLeaning_1 0 rfl rfl)
theorem dX5_touchLeaning_25 : decode cX5_touchLeaning 25 = .ok (.bipush 8, 2) := dk_16 8 (dk_at dksX5_touchLeaning_1 2 rfl rfl)
theorem dX5_touchLeaning_27 : decode cX5_touchLeaning 27 = .ok (.irem, 1) := dk_112 (dk_at dksX5_touchLeaning_1 4 rfl rfl)
theorem dX5_touchLeaning_28 : decode cX5_touchLeaning 28 = .ok (.imul, 1) := dk_104 (dk_at dksX5_touchLeaning_1 5 rfl rfl)
theorem dX5_touchLeaning_29 : decode cX5_touchLeaning 29 = .ok (.iadd, 1) := dk_96 (dk_at dksX5_touchLeaning_1 6 rfl rfl)
theorem dX5_touchLeaning_30 : decode cX5_touchLeaning 30 = .ok (.istore 5, 2) := dk_54 5 (dk_at dksX5_touchLeaning_1 7 rfl rfl)
theorem dX5_touchLeaning_32 : decode cX5_touchLeaning 32 = .ok (.iload 5, 2) := dk_21 5 (dk_at dksX5_touchLeaning_1 9 rfl rfl)
theorem dX5_touchLeaning_34 : decode cX5_touchLeaning 34 = .ok (.iload_n 2, 1) := dk_28 (dk_at dksX5_touchLeaning_1 11 rfl rfl)
theorem dX5_touchLeaning_35 : decode cX5_touchLeaning 35 = .ok (.if_icmp .le 7, 3) := dk_164 0 7 (dk_at dksX5_touchLeaning_1 12 rfl rfl)
theorem dX5_touchLeaning_38 : decode cX5_touchLeaning 38 = .ok (.iconst 1, 1) := dk_4 (dk_at dksX5_touchLeaning_1 15 rfl rfl)
theorem dX5_touchLeaning_39 : decode cX5_touchLeaning 39 = .ok (.goto 16, 3) := dk_167 0 16 (dk_at dksX5_touchLeaning_1 16 rfl rfl)
theorem dX5_touchLeaning_42 : decode cX5_touchLeaning 42 = .ok (.iload 5, 2) := dk_21 5 (dk_at dksX5_touchLeaning_1 19 rfl rfl)
theorem dX5_touchLeaning_44 : decode cX5_touchLeaning 44 = .ok (.iload_n 2, 1) := dk_28 (dk_at dksX5_touchLeaning_1 21 rfl rfl)
theorem dX5_touchLeaning_45 : decode cX5_touchLeaning 45 = .ok (.if_icmp .ne 9, 3) := dk_160 0 9 (dk_at dksX5_touchLeaning_2 0 rfl rfl)
theorem dX5_touchLeaning_48 : decode cX5_touchLeaning 48 = .ok (.iload_n 3, 1) := dk_29 (dk_at dksX5_touchLeaning_2 3 rfl rfl)
theorem dX5_touchLeaning_49 : decode cX5_touchLeaning 49 = .ok (.iconst 1, 1) := dk_4 (dk_at dksX5_touchLeaning_2 4 rfl rfl)
theorem dX5_touchLeaning_50 : decode cX5_touchLeaning 50 = .ok (.iadd, 1) := dk_96 (dk_at dksX5_touchLeaning_2 5 rfl rfl)
theorem dX5_touchLeaning_51 : decode cX5_touchLeaning 51 = .ok (.goto 4, 3) := dk_167 0 4 (dk_at dksX5_touchLeaning_2 6 rfl rfl)
theorem dX5_touchLeaning_54 : decode cX5_touchLeaning 54 = .ok (.iload_n 3, 1) := dk_29 (dk_at dksX5_touchLeaning_2 9 rfl rfl)
theorem dX5_touchLeaning_55 : decode cX5_touchLeaning 55 = .ok (.istore_n 3, 1) := dk_62 (dk_at dksX5_touchLeaning_2 10 rfl rfl)
theorem dX5_touchLeaning_56 : decode cX5_touchLeaning 56 = .ok (.iload_n 2, 1) := dk_28 (dk_at dksX5_touchLeaning_2 11 rfl rfl)
theorem dX5_touchLeaning_57 : decode cX5_touchLeaning 57 = .ok (.iload 5, 2) := dk_21 5 (dk_at dksX5_touchLeaning_2 12 rfl rfl)
theorem dX5_touchLeaning_59 : decode cX5_touchLeaning 59 = .ok (.invokestatic 242, 3) := dk_184 0 242 (dk_at dksX5_touchLeaning_2 14 rfl rfl)
theorem dX5_touchLeaning_62 : decode cX5_touchLeaning 62 = .ok (.istore_n 2, 1) := dk_61 (dk_at dksX5_touchLeaning_2 17 rfl rfl)
theorem dX5_touchLeaning_63 : decode cX5_touchLeaning 63 = .ok (.iinc 4 1, 3) := dk_132 4 1 (dk_at dksX5_touchLeaning_2 18 rfl rfl)
theorem dX5_touchLeaning_66 : decode cX5_touchLeaning 66 = .ok (.goto (-57), 3) := dk_167 255 199 (dk_at dksX5_touchLeaning_2 21 rfl rfl)
theorem dX5_touchLeaning_69 : decode cX5_touchLeaning 69 = .ok (.iload_n 3, 1) := dk_29 (dk_at dksX5_touchLeaning_3 0 rfl rfl)
theorem dX5_touchLeaning_70 : decode cX5_touchLeaning 70 = .ok (.ireturn, 1) := dk_172 (dk_at dksX5_touchLeaning_3 1 rfl rfl)
abbrev cX5_splint : ByteArray := prog_19_method_98_code
def yX5_splint : MethodName := ⟨RX5, "splint", "(II)I"⟩
def dkwX5_splint_3 : List UInt8 := [54, 4, 132, 5, 1, 167, 255, 233, 21, 4, 172]
abbrev dktX5_splint_3 : List UInt8 := dkwX5_splint_3 ++ []
def dkwX5_splint_2 : List UInt8 := [54, 4, 3, 54, 5, 21, 5, 16, 48, 162, 0, 22, 21, 4, 29, 96, 42, 21, 5, 182, 1, 86, 100]
abbrev dktX5_splint_2 : List UInt8 := dkwX5_splint_2 ++ dktX5_splint_3
def dkwX5_splint_1 : List UInt8 := [42, 3, 3, 182, 1, 43, 27, 96, 62, 28, 2, 159, 0, 11, 29, 42, 28, 182, 1, 86, 100, 172, 3]
abbrev dktX5_splint_1 : List UInt8 := dkwX5_splint_1 ++ dktX5_splint_2
def dkwX5_splint_0 : List UInt8 := [27, 3, 16, 20, 184, 0, 112, 153, 0, 15, 28, 2, 159, 0, 12, 28, 184, 0, 121, 154, 0, 5, 2, 172]
abbrev dktX5_splint_0 : List UInt8 := dkwX5_splint_0 ++ dktX5_splint_1
theorem dksX5_splint_0 : cX5_splint.data.toList.drop 0 = dktX5_splint_0 := by decide +kernel
theorem dksX5_splint_1 : cX5_splint.data.toList.drop 24 = dktX5_splint_1 := dk_seg dksX5_splint_0 24 rfl rfl
theorem dksX5_splint_2 : cX5_splint.data.toList.drop 47 = dktX5_splint_2 := dk_seg dksX5_splint_1 23 rfl rfl
theorem dksX5_splint_3 : cX5_splint.data.toList.drop 70 = dktX5_splint_3 := dk_seg dksX5_splint_2 23 rfl rfl
theorem dX5_splint_0 : decode cX5_splint 0 = .ok (.iload_n 1, 1) := dk_27 (dk_at dksX5_splint_0 0 rfl rfl)
theorem dX5_splint_1 : decode cX5_splint 1 = .ok (.iconst 0, 1) := dk_3 (dk_at dksX5_splint_0 1 rfl rfl)
theorem dX5_splint_2 : decode cX5_splint 2 = .ok (.bipush 20, 2) := dk_16 20 (dk_at dksX5_splint_0 2 rfl rfl)
theorem dX5_splint_4 : decode cX5_splint 4 = .ok (.invokestatic 112, 3) := dk_184 0 112 (dk_at dksX5_splint_0 4 rfl rfl)
theorem dX5_splint_7 : decode cX5_splint 7 = .ok (.ifCond .eq 15, 3) := dk_153 0 15 (dk_at dksX5_splint_0 7 rfl rfl)
theorem dX5_splint_10 : decode cX5_splint 10 = .ok (.iload_n 2, 1) := dk_28 (dk_at dksX5_splint_0 10 rfl rfl)
theorem dX5_splint_11 : decode cX5_splint 11 = .ok (.iconst (-1), 1) := dk_2 (dk_at dksX5_splint_0 11 rfl rfl)
theorem dX5_splint_12 : decode cX5_splint 12 = .ok (.if_icmp .eq 12, 3) := dk_159 0 12 (dk_at dksX5_splint_0 12 rfl rfl)
theorem dX5_splint_15 : decode cX5_splint 15 = .ok (.iload_n 2, 1) := dk_28 (dk_at dksX5_splint_0 15 rfl rfl)
theorem dX5_splint_16 : decode cX5_splint 16 = .ok (.invokestatic 121, 3) := dk_184 0 121 (dk_at dksX5_splint_0 16 rfl rfl)
theorem dX5_splint_19 : decode cX5_splint 19 = .ok (.ifCond .ne 5, 3) := dk_154 0 5 (dk_at dksX5_splint_0 19 rfl rfl)
theorem dX5_splint_22 : decode cX5_splint 22 = .ok (.iconst (-1), 1) := dk_2 (dk_at dksX5_splint_0 22 rfl rfl)
theorem dX5_splint_23 : decode cX5_splint 23 = .ok (.ireturn, 1) := dk_172 (dk_at dksX5_splint_0 23 rfl rfl)
theorem dX5_splint_24 : decode cX5_splint 24 = .ok (.aload_n 0, 1) := dk_42 (dk_at dksX5_splint_1 0 rfl rfl)
theorem dX5_splint_25 : decode cX5_splint 25 = .ok (.iconst 0, 1) := dk_3 (dk_at dksX5_splint_1 1 rfl rfl)
theorem dX5_splint_26 : decode cX5_splint 26 = .ok (.iconst 0, 1) := dk_3 (dk_at dksX5_splint_1 2 rfl rfl)
theorem dX5_splint_27 : decode cX5_splint 27 = .ok (.invokevirtual 299, 3) := dk_182 1 43 (dk_at dksX5_splint_1 3 rfl rfl)
theorem dX5_splint_30 : decode cX5_splint 30 = .ok (.iload_n 1, 1) := dk_27 (dk_at dksX5_splint_1 6 rfl rfl)
theorem dX5_splint_31 : decode cX5_splint 31 = .ok (.iadd, 1) := dk_96 (dk_at dksX5_splint_1 7 rfl rfl)
theorem dX5_splint_32 : decode cX5_splint 32 = .ok (.istore_n 3, 1) := dk_62 (dk_at dksX5_splint_1 8 rfl rfl)
theorem dX5_splint_33 : decode cX5_splint 33 = .ok (.iload_n 2, 1) := dk_28 (dk_at dksX5_splint_1 9 rfl rfl)
theorem dX5_splint_34 : decode cX5_splint 34 = .ok (.iconst (-1), 1) := dk_2 (dk_at dksX5_splint_1 10 rfl rfl)
theorem dX5_splint_35 : decode cX5_splint 35 = .ok (.if_icmp .eq 11, 3) := dk_159 0 11 (dk_at dksX5_splint_1 11 rfl rfl)
theorem dX5_splint_38 : decode cX5_splint 38 = .ok (.iload_n 3, 1) := dk_29 (dk_at dksX5_splint_1 14 rfl rfl)
theorem dX5_splint_39 : decode cX5_splint 39 = .ok (.aload_n 0, 1) := dk_42 (dk_at dksX5_splint_1 15 rfl rfl)
theorem dX5_splint_40 : decode cX5_splint 40 = .ok (.iload_n 2, 1) := dk_28 (dk_at dksX5_splint_1 16 rfl rfl)
theorem dX5_splint_41 : decode cX5_splint 41 = .ok (.invokevirtual 342, 3) := dk_182 1 86 (dk_at dksX5_splint_1 17 rfl rfl)
theorem dX5_splint_44 : decode cX5_splint 44 = .ok (.isub, 1) := dk_100 (dk_at dksX5_splint_1 20 rfl rfl)
theorem dX5_splint_45 : decode cX5_splint 45 = .ok (.ireturn, 1) := dk_172 (dk_at dksX5_splint_1 21 rfl rfl)
theorem dX5_splint_46 : decode cX5_splint 46 = .ok (.iconst 0, 1) := dk_3 (dk_at dksX5_splint_1 22 rfl rfl)
theorem dX5_splint_47 : decode cX5_splint 47 = .ok (.istore 4, 2) := dk_54 4 (dk_at dksX5_splint_2 0 rfl rfl)
theorem dX5_splint_49 : decode cX5_splint 49 = .ok (.iconst 0, 1) := dk_3 (dk_at dksX5_splint_2 2 rfl rfl)
theorem dX5_splint_50 : decode cX5_splint 50 = .ok (.istore 5, 2) := dk_54 5 (dk_at dksX5_splint_2 3 rfl rfl)
theorem dX5_splint_52 : decode cX5_splint 52 = .ok (.iload 5, 2) := dk_21 5 (dk_at dksX5_splint_2 5 rfl rfl)
theorem dX5_splint_54 : decode cX5_splint 54 = .ok (.bipush 48, 2) := dk_16 48 (dk_at dksX5_splint_2 7 rfl rfl)
theorem dX5_splint_56 : decode cX5_splint 56 = .ok (.if_icmp .ge 22, 3) := dk_162 0 22 (dk_at dksX5_splint_2 9 rfl rfl)
theorem dX5_splint_59 : decode cX5_splint 59 = .ok (.iload 4, 2) := dk_21 4 (dk_at dksX5_splint_2 12 rfl rfl)
theorem dX5_splint_61 : decode cX5_splint 61 = .ok (.iload_n 3, 1) := dk_29 (dk_at dksX5_splint_2 14 rfl rfl)
theorem dX5_splint_62 : decode cX5_splint 62 = .ok (.iadd, 1) := dk_96 (dk_at dksX5_splint_2 15 rfl rfl)
theorem dX5_splint_63 : decode cX5_splint 63 = .ok (.aload_n 0, 1) := dk_42 (dk_at dksX5_splint_2 16 rfl rfl)
theorem dX5_splint_64 : decode cX5_splint 64 = .ok (.iload 5, 2) := dk_21 5 (dk_at dksX5_splint_2 17 rfl rfl)
theorem dX5_splint_66 : decode cX5_splint 66 = .ok (.invokevirtual 342, 3) := dk_182 1 86 (dk_at dksX5_splint_2 19 rfl rfl)
theorem dX5_splint_69 : decode cX5_splint 69 = .ok (.isub, 1) := dk_100 (dk_at dksX5_splint_2 22 rfl rfl)
theorem dX5_splint_70 : decode cX5_splint 70 = .ok (.istore 4, 2) := dk_54 4 (dk_at dksX5_splint_3 0 rfl rfl)
theorem dX5_splint_72 : decode cX5_splint 72 = .ok (.iinc 5 1, 3) := dk_132 5 1 (dk_at dksX5_splint_3 2 rfl rfl)
theorem dX5_splint_75 : decode cX5_splint 75 = .ok (.goto (-23), 3) := dk_167 255 233 (dk_at dksX5_splint_3 5 rfl rfl)
theorem dX5_splint_78 : decode cX5_splint 78 = .ok (.iload 4, 2) := dk_21 4 (dk_at dksX5_splint_3 8 rfl rfl)
theorem dX5_splint_80 : decode cX5_splint 80 = .ok (.ireturn, 1) := dk_172 (dk_at dksX5_splint_3 10 rfl rfl)
abbrev cX5_turnedOver : ByteArray := prog_19_method_99_code
def yX5_turnedOver : MethodName := ⟨RX5, "turnedOver", "(I)I"⟩
def dkwX5_turnedOver_4 : List UInt8 := [167, 255, 181, 27, 154, 0, 7, 28, 167, 0, 4, 29, 172]
abbrev dktX5_turnedOver_4 : List UInt8 := dkwX5_turnedOver_4 ++ []
def dkwX5_turnedOver_3 : List UInt8 := [21, 5, 28, 160, 0, 9, 29, 4, 96, 167, 0, 4, 29, 62, 28, 21, 5, 184, 0, 242, 61, 132, 4, 1]
abbrev dktX5_turnedOver_3 : List UInt8 := dkwX5_turnedOver_3 ++ dktX5_turnedOver_4
def dkwX5_turnedOver_2 : List UInt8 := [16, 8, 112, 100, 182, 1, 37, 96, 54, 5, 21, 5, 28, 163, 0, 7, 29, 154, 0, 7, 4, 167, 0, 16]
abbrev dktX5_turnedOver_2 : List UInt8 := dkwX5_turnedOver_2 ++ dktX5_turnedOver_3
def dkwX5_turnedOver_1 : List UInt8 := [162, 0, 74, 42, 21, 4, 182, 1, 34, 42, 21, 4, 21, 4, 16, 8, 112, 100, 16, 7, 96, 21, 4]
abbrev dktX5_turnedOver_1 : List UInt8 := dkwX5_turnedOver_1 ++ dktX5_turnedOver_2
def dkwX5_turnedOver_0 : List UInt8 := [27, 3, 4, 184, 0, 112, 154, 0, 5, 2, 172, 3, 61, 3, 62, 3, 54, 4, 21, 4, 16, 48]
abbrev dktX5_turnedOver_0 : List UInt8 := dkwX5_turnedOver_0 ++ dktX5_turnedOver_1
theorem dksX5_turnedOver_0 : cX5_turnedOver.data.toList.drop 0 = dktX5_turnedOver_0 := by decide +kernel
theorem dksX5_turnedOver_1 : cX5_turnedOver.data.toList.drop 22 = dktX5_turnedOver_1 := dk_seg dksX5_turnedOver_0 22 rfl rfl
theorem dksX5_turnedOver_2 : cX5_turnedOver.data.toList.drop 45 = dktX5_turnedOver_2 := dk_seg dksX5_turnedOver_1 23 rfl rfl
theorem dksX5_turnedOver_3 : cX5_turnedOver.data.toList.drop 69 = dktX5_turnedOver_3 := dk_seg dksX5_turnedOver_2 24 rfl rfl
theorem dksX5_turnedOver_4 : cX5_turnedOver.data.toList.drop 93 = dktX5_turnedOver_4 := dk_seg dksX5_turnedOver_3 24 rfl rfl
theorem dX5_turnedOver_0 : decode cX5_turnedOver 0 = .ok (.iload_n 1, 1) := dk_27 (dk_at dksX5_turnedOver_0 0 rfl rfl)
theorem dX5_turnedOver_1 : decode cX5_turnedOver 1 = .ok (.iconst 0, 1) := dk_3 (dk_at dksX5_turnedOver_0 1 rfl rfl)
theorem dX5_turnedOver_2 : decode cX5_turnedOver 2 = .ok (.iconst 1, 1) := dk_4 (dk_at dksX5_turnedOver_0 2 rfl rfl)
theorem dX5_turnedOver_3 : decode cX5_turnedOver 3 = .ok (.invokestatic 112, 3) := dk_184 0 112 (dk_at dksX5_turnedOver_0 3 rfl rfl)
theorem dX5_turnedOver_6 : decode cX5_turnedOver 6 = .ok (.ifCond .ne 5, 3) := dk_154 0 5 (dk_at dksX5_turnedOver_0 6 rfl rfl)
theorem dX5_turnedOver_9 : decode cX5_turnedOver 9 = .ok (.iconst (-1), 1) := dk_2 (dk_at dksX5_turnedOver_0 9 rfl rfl)
theorem dX5_turnedOver_10 : decode cX5_turnedOver 10 = .ok (.ireturn, 1) := dk_172 (dk_at dksX5_turnedOver_0 10 rfl rfl)
theorem dX5_turnedOver_11 : decode cX5_turnedOver 11 = .ok (.iconst 0, 1) := dk_3 (dk_at dksX5_turnedOver_0 11 rfl rfl)
theorem dX5_turnedOver_12 : decode cX5_turnedOver 12 = .ok (.istore_n 2, 1) := dk_61 (dk_at dksX5_turnedOver_0 12 rfl rfl)
theorem dX5_turnedOver_13 : decode cX5_turnedOver 13 = .ok (.iconst 0, 1) := dk_3 (dk_at dksX5_turnedOver_0 13 rfl rfl)
theorem dX5_turnedOver_14 : decode cX5_turnedOver 14 = .ok (.istore_n 3, 1) := dk_62 (dk_at dksX5_turnedOver_0 14 rfl rfl)
theorem dX5_turnedOver_15 : decode cX5_turnedOver 15 = .ok (.iconst 0, 1) := dk_3 (dk_at dksX5_turnedOver_0 15 rfl rfl)
theorem dX5_turnedOver_16 : decode cX5_turnedOver 16 = .ok (.istore 4, 2) := dk_54 4 (dk_at dksX5_turnedOver_0 16 rfl rfl)
theorem dX5_turnedOver_18 : decode cX5_turnedOver 18 = .ok (.iload 4, 2) := dk_21 4 (dk_at dksX5_turnedOver_0 18 rfl rfl)
theorem dX5_turnedOver_20 : decode cX5_turnedOver 20 = .ok (.bipush 48, 2) := dk_16 48 (dk_at dksX5_turnedOver_0 20 rfl rfl)
theorem dX5_turnedOver_22 : decode cX5_turnedOver 22 = .ok (.if_icmp .ge 74, 3) := dk_162 0 74 (dk_at dksX5_turnedOver_1 0 rfl rfl)
theorem dX5_turnedOver_25 : decode cX5_turnedOver 25 = .ok (.aload_n 0, 1) := dk_42 (dk_at dksX5_turnedOver_1 3 rfl rfl)
theorem dX5_turnedOver_26 : decode cX5_turnedOver 26 = .ok (.iload 4, 2) := dk_21 4 (dk_at dksX5_turnedOver_1 4 rfl rfl)
theorem dX5_turnedOver_28 : decode cX5_turnedOver 28 = .ok (.invokevirtual 290, 3) := dk_182 1 34 (dk_at dksX5_turnedOver_1 6 rfl rfl)
theorem dX5_turnedOver_31 : decode cX5_turnedOver 31 = .ok (.aload_n 0, 1) := dk_42 (dk_at dksX5_turnedOver_1 9 rfl rfl)
theorem dX5_turnedOver_32 : decode cX5_turnedOver 32 = .ok (.iload 4, 2) := dk_21 4 (dk_at dksX5_turnedOver_1 10 rfl rfl)
theorem dX5_turnedOver_34 : decode cX5_turnedOver 34 = .ok (.iload 4, 2) := dk_21 4 (dk_at dksX5_turnedOver_1 12 rfl rfl)
theorem dX5_turnedOver_36 : decode cX5_turnedOver 36 = .ok (.bipush 8, 2) := dk_16 8 (dk_at dksX5_turnedOver_1 14 rfl rfl)
theorem dX5_turnedOver_38 : decode cX5_turnedOver 38 = .ok (.irem, 1) := dk_112 (dk_at dksX5_turnedOver_1 16 rfl rfl)
theorem dX5_turnedOver_39 : decode cX5_turnedOver 39 = .ok (.isub, 1) := dk_100 (dk_at dksX5_turnedOver_1 17 rfl rfl)
theorem dX5_turnedOver_40 : decode cX5_turnedOver 40 = .ok (.bipush 7, 2) := dk_16 7 (dk_at dksX5_turnedOver_1 18 rfl rfl)
theorem dX5_turnedOver_42 : decode cX5_turnedOver 42 = .ok (.iadd, 1) := dk_96 (dk_at dksX5_turnedOver_1 20 rfl rfl)
theorem dX5_turnedOver_43 : decode cX5_turnedOver 43 = .ok (.iload 4, 2) := dk_21 4 (dk_at dksX5_turnedOver_1 21 rfl rfl)
theorem dX5_turnedOver_45 : decode cX5_turnedOver 45 = .ok (.bipush 8, 2) := dk_16 8 (dk_at dksX5_turnedOver_2 0 rfl rfl)
theorem dX5_turnedOver_47 : decode cX5_turnedOver 47 = .ok (.irem, 1) := dk_112 (dk_at dksX5_turnedOver_2 2 rfl rfl)
theorem dX5_turnedOver_48 : decode cX5_turnedOver 48 = .ok (.isub, 1) := dk_100 (dk_at dksX5_turnedOver_2 3 rfl rfl)
theorem dX5_turnedOver_49 : decode cX5_turnedOver 49 = .ok (.invokevirtual 293, 3) := dk_182 1 37 (dk_at dksX5_turnedOver_2 4 rfl rfl)
theorem dX5_turnedOver_52 : decode cX5_turnedOver 52 = .ok (.iadd, 1) := dk_96 (dk_at dksX5_turnedOver_2 7 rfl rfl)
theorem dX5_turnedOver_53 : decode cX5_turnedOver 53 = .ok (.istore 5, 2) := dk_54 5 (dk_at dksX5_turnedOver_2 8 rfl rfl)
theorem dX5_turnedOver_55 : decode cX5_turnedOver 55 = .ok (.iload 5, 2) := dk_21 5 (dk_at dksX5_turnedOver_2 10 rfl rfl)
theorem dX5_turnedOver_57 : decode cX5_turnedOver 57 = .ok (.iload_n 2, 1) := dk_28 (dk_at dksX5_turnedOver_2 12 rfl rfl)
theorem dX5_turnedOver_58 : decode cX5_turnedOver 58 = .ok (.if_icmp .gt 7, 3) := dk_163 0 7 (dk_at dksX5_turnedOver_2 13 rfl rfl)
theorem dX5_turnedOver_61 : decode cX5_turnedOver 61 = .ok (.iload_n 3, 1) := dk_29 (dk_at dksX5_turnedOver_2 16 rfl rfl)
theorem dX5_turnedOver_62 : decode cX5_turnedOver 62 = .ok (.ifCond .ne 7, 3) := dk_154 0 7 (dk_at dksX5_turnedOver_2 17 rfl rfl)
theorem dX5_turnedOver_65 : decode cX5_turnedOver 65 = .ok (.iconst 1, 1) := dk_4 (dk_at dksX5_turnedOver_2 20 rfl rfl)
theorem dX5_turnedOver_66 : decode cX5_turnedOver 66 = .ok (.goto 16, 3) := dk_167 0 16 (dk_at dksX5_turnedOver_2 21 rfl rfl)
theorem dX5_turnedOver_69 : decode cX5_turnedOver 69 = .ok (.iload 5, 2) := dk_21 5 (dk_at dksX5_turnedOver_3 0 rfl rfl)
theorem dX5_turnedOver_71 : decode cX5_turnedOver 71 = .ok (.iload_n 2, 1) := dk_28 (dk_at dksX5_turnedOver_3 2 rfl rfl)
theorem dX5_turnedOver_72 : decode cX5_turnedOver 72 = .ok (.if_icmp .ne 9, 3) := dk_160 0 9 (dk_at dksX5_turnedOver_3 3 rfl rfl)
theorem dX5_turnedOver_75 : decode cX5_turnedOver 75 = .ok (.iload_n 3, 1) := dk_29 (dk_at dksX5_turnedOver_3 6 rfl rfl)
theorem dX5_turnedOver_76 : decode cX5_turnedOver 76 = .ok (.iconst 1, 1) := dk_4 (dk_at dksX5_turnedOver_3 7 rfl rfl)
theorem dX5_turnedOver_77 : decode cX5_turnedOver 77 = .ok (.iadd, 1) := dk_96 (dk_at dksX5_turnedOver_3 8 rfl rfl)
theorem dX5_turnedOver_78 : decode cX5_turnedOver 78 = .ok (.goto 4, 3) := dk_167 0 4 (dk_at dksX5_turnedOver_3 9 rfl rfl)
theorem dX5_turnedOver_81 : decode cX5_turnedOver 81 = .ok (.iload_n 3, 1) := dk_29 (dk_at dksX5_turnedOver_3 12 rfl rfl)
theorem dX5_turnedOver_82 : decode cX5_turnedOver 82 = .ok (.istore_n 3, 1) := dk_62 (dk_at dksX5_turnedOver_3 13 rfl rfl)
theorem dX5_turnedOver_83 : decode cX5_turnedOver 83 = .ok (.iload_n 2, 1) := dk_28 (dk_at dksX5_turnedOver_3 14 rfl rfl)
theorem dX5_turnedOver_84 : decode cX5_turnedOver 84 = .ok (.iload 5, 2) := dk_21 5 (dk_at dksX5_turnedOver_3 15 rfl rfl)
theorem dX5_turnedOver_86 : decode cX5_turnedOver 86 = .ok (.invokestatic 242, 3) := dk_184 0 242 (dk_at dksX5_turnedOver_3 17 rfl rfl)
theorem dX5_turnedOver_89 : decode cX5_turnedOver 89 = .ok (.istore_n 2, 1) := dk_61 (dk_at dksX5_turnedOver_3 20 rfl rfl)
theorem dX5_turnedOver_90 : decode cX5_turnedOver 90 = .ok (.iinc 4 1, 3) := dk_132 4 1 (dk_at dksX5_turnedOver_3 21 rfl rfl)
theorem dX5_turnedOver_93 : decode cX5_turnedOver 93 = .ok (.goto (-75), 3) := dk_167 255 181 (dk_at dksX5_turnedOver_4 0 rfl rfl)
theorem dX5_turnedOver_96 : decode cX5_turnedOver 96 = .ok (.iload_n 1, 1) := dk_27 (dk_at dksX5_turnedOver_4 3 rfl rfl)
theorem dX5_turnedOver_97 : decode cX5_turnedOver 97 = .ok (.ifCond .ne 7, 3) := dk_154 0 7 (dk_at dksX5_turnedOver_4 4 rfl rfl)
theorem dX5_turnedOver_100 : decode cX5_turnedOver 100 = .ok (.iload_n 2, 1) := dk_28 (dk_at dksX5_turnedOver_4 7 rfl rfl)
theorem dX5_turnedOver_101 : decode cX5_turnedOver 101 = .ok (.goto 4, 3) := dk_167 0 4 (dk_at dksX5_turnedOver_4 8 rfl rfl)
theorem dX5_turnedOver_104 : decode cX5_turnedOver 104 = .ok (.iload_n 3, 1) := dk_29 (dk_at dksX5_turnedOver_4 11 rfl rfl)
theorem dX5_turnedOver_105 : decode cX5_turnedOver 105 = .ok (.ireturn, 1) := dk_172 (dk_at dksX5_turnedOver_4 12 rfl rfl)
abbrev cX5_castIs : ByteArray := prog_19_method_103_code
def yX5_castIs : MethodName := ⟨RX5, "castIs", "(II)I"⟩
def dkwX5_castIs_5 : List UInt8 := [46, 172, 2, 172]
abbrev dktX5_castIs_5 : List UInt8 := dkwX5_castIs_5 ++ []
def dkwX5_castIs_4 : List UInt8 := [42, 27, 4, 182, 1, 157, 172, 42, 27, 2, 182, 1, 157, 172, 29, 172, 21, 4, 172, 42, 180, 0, 13, 27]
abbrev dktX5_castIs_4 : List UInt8 := dkwX5_castIs_4 ++ dktX5_castIs_5
def dkwX5_castIs_3 : List UInt8 := [170, 0, 0, 0, 0, 60, 0, 0, 0, 0, 0, 0, 0, 4, 0, 0, 0, 34, 0, 0, 0, 41, 0, 0, 0, 48, 0, 0, 0, 50, 0, 0, 0, 53]
abbrev dktX5_castIs_3 : List UInt8 := dkwX5_castIs_3 ++ dktX5_castIs_4
def dkwX5_castIs_2 : List UInt8 := [164, 0, 7, 21, 5, 54, 4, 132, 5, 1, 167, 255, 215, 28]
abbrev dktX5_castIs_2 : List UInt8 := dkwX5_castIs_2 ++ dktX5_castIs_3
def dkwX5_castIs_1 : List UInt8 := [29, 42, 27, 21, 5, 182, 1, 151, 96, 62, 42, 27, 21, 5, 182, 1, 151, 42, 27, 21, 4, 182, 1, 151]
abbrev dktX5_castIs_1 : List UInt8 := dkwX5_castIs_1 ++ dktX5_castIs_2
def dkwX5_castIs_0 : List UInt8 := [27, 184, 0, 117, 154, 0, 5, 2, 172, 3, 62, 3, 54, 4, 3, 54, 5, 21, 5, 16, 48, 162, 0, 40]
abbrev dktX5_castIs_0 : List UInt8 := dkwX5_castIs_0 ++ dktX5_castIs_1
theorem dksX5_castIs_0 : cX5_castIs.data.toList.drop 0 = dktX5_castIs_0 := by decide +kernel
theorem dksX5_castIs_1 : cX5_castIs.data.toList.drop 24 = dktX5_castIs_1 := dk_seg dksX5_castIs_0 24 rfl rfl
theorem dksX5_castIs_2 : cX5_castIs.data.toList.drop 48 = dktX5_castIs_2 := dk_seg dksX5_castIs_1 24 rfl rfl
theorem dksX5_castIs_3 : cX5_castIs.data.toList.drop 62 = dktX5_castIs_3 := dk_seg dksX5_castIs_2 14 rfl rfl
theorem dksX5_castIs_4 : cX5_castIs.data.toList.drop 96 = dktX5_castIs_4 := dk_seg dksX5_castIs_3 34 rfl rfl
theorem dksX5_castIs_5 : cX5_castIs.data.toList.drop 120 = dktX5_castIs_5 := dk_seg dksX5_castIs_4 24 rfl rfl
theorem dX5_castIs_0 : decode cX5_castIs 0 = .ok (.iload_n 1, 1) := dk_27 (dk_at dksX5_castIs_0 0 rfl rfl)
theorem dX5_castIs_1 : decode cX5_castIs 1 = .ok (.invokestatic 117, 3) := dk_184 0 117 (dk_at dksX5_castIs_0 1 rfl rfl)
theorem dX5_castIs_4 : decode cX5_castIs 4 = .ok (.ifCond .ne 5, 3) := dk_154 0 5 (dk_at dksX5_castIs_0 4 rfl rfl)
theorem dX5_castIs_7 : decode cX5_castIs 7 = .ok (.iconst (-1), 1) := dk_2 (dk_at dksX5_castIs_0 7 rfl rfl)
theorem dX5_castIs_8 : decode cX5_castIs 8 = .ok (.ireturn, 1) := dk_172 (dk_at dksX5_castIs_0 8 rfl rfl)
theorem dX5_castIs_9 : decode cX5_castIs 9 = .ok (.iconst 0, 1) := dk_3 (dk_at dksX5_castIs_0 9 rfl rfl)
theorem dX5_castIs_10 : decode cX5_castIs 10 = .ok (.istore_n 3, 1) := dk_62 (dk_at dksX5_castIs_0 10 rfl rfl)
theorem dX5_castIs_11 : decode cX5_castIs 11 = .ok (.iconst 0, 1) := dk_3 (dk_at dksX5_castIs_0 11 rfl rfl)
theorem dX5_castIs_12 : decode cX5_castIs 12 = .ok (.istore 4, 2) := dk_54 4 (dk_at dksX5_castIs_0 12 rfl rfl)
theorem dX5_castIs_14 : decode cX5_castIs 14 = .ok (.iconst 0, 1) := dk_3 (dk_at dksX5_castIs_0 14 rfl rfl)
theorem dX5_castIs_15 : decode cX5_castIs 15 = .ok (.istore 5, 2) := dk_54 5 (dk_at dksX5_castIs_0 15 rfl rfl)
theorem dX5_castIs_17 : decode cX5_castIs 17 = .ok (.iload 5, 2) := dk_21 5 (dk_at dksX5_castIs_0 17 rfl rfl)
theorem dX5_castIs_19 : decode cX5_castIs 19 = .ok (.bipush 48, 2) := dk_16 48 (dk_at dksX5_castIs_0 19 rfl rfl)
theorem dX5_castIs_21 : decode cX5_castIs 21 = .ok (.if_icmp .ge 40, 3) := dk_162 0 40 (dk_at dksX5_castIs_0 21 rfl rfl)
theorem dX5_castIs_24 : decode cX5_castIs 24 = .ok (.iload_n 3, 1) := dk_29 (dk_at dksX5_castIs_1 0 rfl rfl)
theorem dX5_castIs_25 : decode cX5_castIs 25 = .ok (.aload_n 0, 1) := dk_42 (dk_at dksX5_castIs_1 1 rfl rfl)
theorem dX5_castIs_26 : decode cX5_castIs 26 = .ok (.iload_n 1, 1) := dk_27 (dk_at dksX5_castIs_1 2 rfl rfl)
theorem dX5_castIs_27 : decode cX5_castIs 27 = .ok (.iload 5, 2) := dk_21 5 (dk_at dksX5_castIs_1 3 rfl rfl)
theorem dX5_castIs_29 : decode cX5_castIs 29 = .ok (.invokevirtual 407, 3) := dk_182 1 151 (dk_at dksX5_castIs_1 5 rfl rfl)
theorem dX5_castIs_32 : decode cX5_castIs 32 = .ok (.iadd, 1) := dk_96 (dk_at dksX5_castIs_1 8 rfl rfl)
theorem dX5_castIs_33 : decode cX5_castIs 33 = .ok (.istore_n 3, 1) := dk_62 (dk_at dksX5_castIs_1 9 rfl rfl)
theorem dX5_castIs_34 : decode cX5_castIs 34 = .ok (.aload_n 0, 1) := dk_42 (dk_at dksX5_castIs_1 10 rfl rfl)
theorem dX5_castIs_35 : decode cX5_castIs 35 = .ok (.iload_n 1, 1) := dk_27 (dk_at dksX5_castIs_1 11 rfl rfl)
theorem dX5_castIs_36 : decode cX5_castIs 36 = .ok (.iload 5, 2) := dk_21 5 (dk_at dksX5_castIs_1 12 rfl rfl)
theorem dX5_castIs_38 : decode cX5_castIs 38 = .ok (.invokevirtual 407, 3) := dk_182 1 151 (dk_at dksX5_castIs_1 14 rfl rfl)
theorem dX5_castIs_41 : decode cX5_castIs 41 = .ok (.aload_n 0, 1) := dk_42 (dk_at dksX5_castIs_1 17 rfl rfl)
theorem dX5_castIs_42 : decode cX5_castIs 42 = .ok (.iload_n 1, 1) := dk_27 (dk_at dksX5_castIs_1 18 rfl rfl)
theorem dX5_castIs_43 : decode cX5_castIs 43 = .ok (.iload 4, 2) := dk_21 4 (dk_at dksX5_castIs_1 19 rfl rfl)
theorem dX5_castIs_45 : decode cX5_castIs 45 = .ok (.invokevirtual 407, 3) := dk_182 1 151 (dk_at dksX5_castIs_1 21 rfl rfl)
theorem dX5_castIs_48 : decode cX5_castIs 48 = .ok (.if_icmp .le 7, 3) := dk_164 0 7 (dk_at dksX5_castIs_2 0 rfl rfl)
theorem dX5_castIs_51 : decode cX5_castIs 51 = .ok (.iload 5, 2) := dk_21 5 (dk_at dksX5_castIs_2 3 rfl rfl)
theorem dX5_castIs_53 : decode cX5_castIs 53 = .ok (.istore 4, 2) := dk_54 4 (dk_at dksX5_castIs_2 5 rfl rfl)
theorem dX5_castIs_55 : decode cX5_castIs 55 = .ok (.iinc 5 1, 3) := dk_132 5 1 (dk_at dksX5_castIs_2 7 rfl rfl)
theorem dX5_castIs_58 : decode cX5_castIs 58 = .ok (.goto (-41), 3) := dk_167 255 215 (dk_at dksX5_castIs_2 10 rfl rfl)
theorem dX5_castIs_61 : decode cX5_castIs 61 = .ok (.iload_n 2, 1) := dk_28 (dk_at dksX5_castIs_2 13 rfl rfl)
theorem dX5_castIs_62 : decode cX5_castIs 62 = .ok (.tableswitch 60 0 4 #[34, 41, 48, 50, 53], 34) := by decide +kernel
theorem dX5_castIs_96 : decode cX5_castIs 96 = .ok (.aload_n 0, 1) := dk_42 (dk_at dksX5_castIs_4 0 rfl rfl)
theorem dX5_castIs_97 : decode cX5_castIs 97 = .ok (.iload_n 1, 1) := dk_27 (dk_at dksX5_castIs_4 1 rfl rfl)
theorem dX5_castIs_98 : decode cX5_castIs 98 = .ok (.iconst 1, 1) := dk_4 (dk_at dksX5_castIs_4 2 rfl rfl)
theorem dX5_castIs_99 : decode cX5_castIs 99 = .ok (.invokevirtual 413, 3) := dk_182 1 157 (dk_at dksX5_castIs_4 3 rfl rfl)
theorem dX5_castIs_102 : decode cX5_castIs 102 = .ok (.ireturn, 1) := dk_172 (dk_at dksX5_castIs_4 6 rfl rfl)
theorem dX5_castIs_103 : decode cX5_castIs 103 = .ok (.aload_n 0, 1) := dk_42 (dk_at dksX5_castIs_4 7 rfl rfl)
theorem dX5_castIs_104 : decode cX5_castIs 104 = .ok (.iload_n 1, 1) := dk_27 (dk_at dksX5_castIs_4 8 rfl rfl)
theorem dX5_castIs_105 : decode cX5_castIs 105 = .ok (.iconst (-1), 1) := dk_2 (dk_at dksX5_castIs_4 9 rfl rfl)
theorem dX5_castIs_106 : decode cX5_castIs 106 = .ok (.invokevirtual 413, 3) := dk_182 1 157 (dk_at dksX5_castIs_4 10 rfl rfl)
theorem dX5_castIs_109 : decode cX5_castIs 109 = .ok (.ireturn, 1) := dk_172 (dk_at dksX5_castIs_4 13 rfl rfl)
theorem dX5_castIs_110 : decode cX5_castIs 110 = .ok (.iload_n 3, 1) := dk_29 (dk_at dksX5_castIs_4 14 rfl rfl)
theorem dX5_castIs_111 : decode cX5_castIs 111 = .ok (.ireturn, 1) := dk_172 (dk_at dksX5_castIs_4 15 rfl rfl)
theorem dX5_castIs_112 : decode cX5_castIs 112 = .ok (.iload 4, 2) := dk_21 4 (dk_at dksX5_castIs_4 16 rfl rfl)
theorem dX5_castIs_114 : decode cX5_castIs 114 = .ok (.ireturn, 1) := dk_172 (dk_at dksX5_castIs_4 18 rfl rfl)
theorem dX5_castIs_115 : decode cX5_castIs 115 = .ok (.aload_n 0, 1) := dk_42 (dk_at dksX5_castIs_4 19 rfl rfl)
theorem dX5_castIs_116 : decode cX5_castIs 116 = .ok (.getfield 13, 3) := dk_180 0 13 (dk_at dksX5_castIs_4 20 rfl rfl)
theorem dX5_castIs_119 : decode cX5_castIs 119 = .ok (.iload_n 1, 1) := dk_27 (dk_at dksX5_castIs_4 23 rfl rfl)
theorem dX5_castIs_120 : decode cX5_castIs 120 = .ok (.iaload, 1) := dk_46 (dk_at dksX5_castIs_5 0 rfl rfl)
theorem dX5_castIs_121 : decode cX5_castIs 121 = .ok (.ireturn, 1) := dk_172 (dk_at dksX5_castIs_5 1 rfl rfl)
theorem dX5_castIs_122 : decode cX5_castIs 122 = .ok (.iconst (-1), 1) := dk_2 (dk_at dksX5_castIs_5 2 rfl rfl)
theorem dX5_castIs_123 : decode cX5_castIs 123 = .ok (.ireturn, 1) := dk_172 (dk_at dksX5_castIs_5 3 rfl rfl)
abbrev cX5_highOf : ByteArray := prog_19_method_100_code
def yX5_highOf : MethodName := ⟨RX5, "highOf", "(II)I"⟩
def dkwX5_highOf_0 : List UInt8 := [42, 180, 0, 7, 16, 48, 27, 104, 28, 96, 46, 172]
abbrev dktX5_highOf_0 : List UInt8 := dkwX5_highOf_0 ++ []
theorem dksX5_highOf_0 : cX5_highOf.data.toList.drop 0 = dktX5_highOf_0 := by decide +kernel
theorem dX5_highOf_0 : decode cX5_highOf 0 = .ok (.aload_n 0, 1) := dk_42 (dk_at dksX5_highOf_0 0 rfl rfl)
theorem dX5_highOf_1 : decode cX5_highOf 1 = .ok (.getfield 7, 3) := dk_180 0 7 (dk_at dksX5_highOf_0 1 rfl rfl)
theorem dX5_highOf_4 : decode cX5_highOf 4 = .ok (.bipush 48, 2) := dk_16 48 (dk_at dksX5_highOf_0 4 rfl rfl)
theorem dX5_highOf_6 : decode cX5_highOf 6 = .ok (.iload_n 1, 1) := dk_27 (dk_at dksX5_highOf_0 6 rfl rfl)
theorem dX5_highOf_7 : decode cX5_highOf 7 = .ok (.imul, 1) := dk_104 (dk_at dksX5_highOf_0 7 rfl rfl)
theorem dX5_highOf_8 : decode cX5_highOf 8 = .ok (.iload_n 2, 1) := dk_28 (dk_at dksX5_highOf_0 8 rfl rfl)
theorem dX5_highOf_9 : decode cX5_highOf 9 = .ok (.iadd, 1) := dk_96 (dk_at dksX5_highOf_0 9 rfl rfl)
theorem dX5_highOf_10 : decode cX5_highOf 10 = .ok (.iaload, 1) := dk_46 (dk_at dksX5_highOf_0 10 rfl rfl)
theorem dX5_highOf_11 : decode cX5_highOf 11 = .ok (.ireturn, 1) := dk_172 (dk_at dksX5_highOf_0 11 rfl rfl)
abbrev cX5_peaks : ByteArray := prog_19_method_102_code
def yX5_peaks : MethodName := ⟨RX5, "peaks", "(II)I"⟩
def dkwX5_peaks_1 : List UInt8 := [4, 96, 62, 132, 4, 1, 167, 255, 231, 29, 172]
abbrev dktX5_peaks_1 : List UInt8 := dkwX5_peaks_1 ++ []
def dkwX5_peaks_0 : List UInt8 := [3, 62, 3, 54, 4, 21, 4, 16, 48, 162, 0, 24, 42, 27, 21, 4, 28, 182, 1, 154, 153, 0, 7, 29]
abbrev dktX5_peaks_0 : List UInt8 := dkwX5_peaks_0 ++ dktX5_peaks_1
theorem dksX5_peaks_0 : cX5_peaks.data.toList.drop 0 = dktX5_peaks_0 := by decide +kernel
theorem dksX5_peaks_1 : cX5_peaks.data.toList.drop 24 = dktX5_peaks_1 := dk_seg dksX5_peaks_0 24 rfl rfl
theorem dX5_peaks_0 : decode cX5_peaks 0 = .ok (.iconst 0, 1) := dk_3 (dk_at dksX5_peaks_0 0 rfl rfl)
theorem dX5_peaks_1 : decode cX5_peaks 1 = .ok (.istore_n 3, 1) := dk_62 (dk_at dksX5_peaks_0 1 rfl rfl)
theorem dX5_peaks_2 : decode cX5_peaks 2 = .ok (.iconst 0, 1) := dk_3 (dk_at dksX5_peaks_0 2 rfl rfl)
theorem dX5_peaks_3 : decode cX5_peaks 3 = .ok (.istore 4, 2) := dk_54 4 (dk_at dksX5_peaks_0 3 rfl rfl)
theorem dX5_peaks_5 : decode cX5_peaks 5 = .ok (.iload 4, 2) := dk_21 4 (dk_at dksX5_peaks_0 5 rfl rfl)
theorem dX5_peaks_7 : decode cX5_peaks 7 = .ok (.bipush 48, 2) := dk_16 48 (dk_at dksX5_peaks_0 7 rfl rfl)
theorem dX5_peaks_9 : decode cX5_peaks 9 = .ok (.if_icmp .ge 24, 3) := dk_162 0 24 (dk_at dksX5_peaks_0 9 rfl rfl)
theorem dX5_peaks_12 : decode cX5_peaks 12 = .ok (.aload_n 0, 1) := dk_42 (dk_at dksX5_peaks_0 12 rfl rfl)
theorem dX5_peaks_13 : decode cX5_peaks 13 = .ok (.iload_n 1, 1) := dk_27 (dk_at dksX5_peaks_0 13 rfl rfl)
theorem dX5_peaks_14 : decode cX5_peaks 14 = .ok (.iload 4, 2) := dk_21 4 (dk_at dksX5_peaks_0 14 rfl rfl)
theorem dX5_peaks_16 : decode cX5_peaks 16 = .ok (.iload_n 2, 1) := dk_28 (dk_at dksX5_peaks_0 16 rfl rfl)
theorem dX5_peaks_17 : decode cX5_peaks 17 = .ok (.invokevirtual 410, 3) := dk_182 1 154 (dk_at dksX5_peaks_0 17 rfl rfl)
theorem dX5_peaks_20 : decode cX5_peaks 20 = .ok (.ifCond .eq 7, 3) := dk_153 0 7 (dk_at dksX5_peaks_0 20 rfl rfl)
theorem dX5_peaks_23 : decode cX5_peaks 23 = .ok (.iload_n 3, 1) := dk_29 (dk_at dksX5_peaks_0 23 rfl rfl)
theorem dX5_peaks_24 : decode cX5_peaks 24 = .ok (.iconst 1, 1) := dk_4 (dk_at dksX5_peaks_1 0 rfl rfl)
theorem dX5_peaks_25 : decode cX5_peaks 25 = .ok (.iadd, 1) := dk_96 (dk_at dksX5_peaks_1 1 rfl rfl)
theorem dX5_peaks_26 : decode cX5_peaks 26 = .ok (.istore_n 3, 1) := dk_62 (dk_at dksX5_peaks_1 2 rfl rfl)
theorem dX5_peaks_27 : decode cX5_peaks 27 = .ok (.iinc 4 1, 3) := dk_132 4 1 (dk_at dksX5_peaks_1 3 rfl rfl)
theorem dX5_peaks_30 : decode cX5_peaks 30 = .ok (.goto (-25), 3) := dk_167 255 231 (dk_at dksX5_peaks_1 6 rfl rfl)
theorem dX5_peaks_33 : decode cX5_peaks 33 = .ok (.iload_n 3, 1) := dk_29 (dk_at dksX5_peaks_1 9 rfl rfl)
theorem dX5_peaks_34 : decode cX5_peaks 34 = .ok (.ireturn, 1) := dk_172 (dk_at dksX5_peaks_1 10 rfl rfl)
abbrev cX5_isAbove : ByteArray := prog_19_method_101_code
def yX5_isAbove : MethodName := ⟨RX5, "isAbove", "(III)Z"⟩
def dkwX5_isAbove_2 : List UInt8 := [167, 255, 212, 4, 172]
abbrev dktX5_isAbove_2 : List UInt8 := dkwX5_isAbove_2 ++ []
def dkwX5_isAbove_1 : List UInt8 := [42, 27, 28, 182, 1, 151, 42, 27, 21, 5, 182, 1, 151, 100, 104, 157, 0, 5, 3, 172, 132, 4, 1]
abbrev dktX5_isAbove_1 : List UInt8 := dkwX5_isAbove_1 ++ dktX5_isAbove_2
def dkwX5_isAbove_0 : List UInt8 := [3, 54, 4, 21, 4, 7, 162, 0, 44, 28, 21, 4, 184, 1, 102, 54, 5, 21, 5, 2, 159, 0, 24, 29]
abbrev dktX5_isAbove_0 : List UInt8 := dkwX5_isAbove_0 ++ dktX5_isAbove_1
theorem dksX5_isAbove_0 : cX5_isAbove.data.toList.drop 0 = dktX5_isAbove_0 := by decide +kernel
theorem dksX5_isAbove_1 : cX5_isAbove.data.toList.drop 24 = dktX5_isAbove_1 := dk_seg dksX5_isAbove_0 24 rfl rfl
theorem dksX5_isAbove_2 : cX5_isAbove.data.toList.drop 47 = dktX5_isAbove_2 := dk_seg dksX5_isAbove_1 23 rfl rfl
theorem dX5_isAbove_0 : decode cX5_isAbove 0 = .ok (.iconst 0, 1) := dk_3 (dk_at dksX5_isAbove_0 0 rfl rfl)
theorem dX5_isAbove_1 : decode cX5_isAbove 1 = .ok (.istore 4, 2) := dk_54 4 (dk_at dksX5_isAbove_0 1 rfl rfl)
theorem dX5_isAbove_3 : decode cX5_isAbove 3 = .ok (.iload 4, 2) := dk_21 4 (dk_at dksX5_isAbove_0 3 rfl rfl)
theorem dX5_isAbove_5 : decode cX5_isAbove 5 = .ok (.iconst 4, 1) := dk_7 (dk_at dksX5_isAbove_0 5 rfl rfl)
theorem dX5_isAbove_6 : decode cX5_isAbove 6 = .ok (.if_icmp .ge 44, 3) := dk_162 0 44 (dk_at dksX5_isAbove_0 6 rfl rfl)
theorem dX5_isAbove_9 : decode cX5_isAbove 9 = .ok (.iload_n 2, 1) := dk_28 (dk_at dksX5_isAbove_0 9 rfl rfl)
theorem dX5_isAbove_10 : decode cX5_isAbove 10 = .ok (.iload 4, 2) := dk_21 4 (dk_at dksX5_isAbove_0 10 rfl rfl)
theorem dX5_isAbove_12 : decode cX5_isAbove 12 = .ok (.invokestatic 358, 3) := dk_184 1 102 (dk_at dksX5_isAbove_0 12 rfl rfl)
theorem dX5_isAbove_15 : decode cX5_isAbove 15 = .ok (.istore 5, 2) := dk_54 5 (dk_at dksX5_isAbove_0 15 rfl rfl)
theorem dX5_isAbove_17 : decode cX5_isAbove 17 = .ok (.iload 5, 2) := dk_21 5 (dk_at dksX5_isAbove_0 17 rfl rfl)
theorem dX5_isAbove_19 : decode cX5_isAbove 19 = .ok (.iconst (-1), 1) := dk_2 (dk_at dksX5_isAbove_0 19 rfl rfl)
theorem dX5_isAbove_20 : decode cX5_isAbove 20 = .ok (.if_icmp .eq 24, 3) := dk_159 0 24 (dk_at dksX5_isAbove_0 20 rfl rfl)
theorem dX5_isAbove_23 : decode cX5_isAbove 23 = .ok (.iload_n 3, 1) := dk_29 (dk_at dksX5_isAbove_0 23 rfl rfl)
theorem dX5_isAbove_24 : decode cX5_isAbove 24 = .ok (.aload_n 0, 1) := dk_42 (dk_at dksX5_isAbove_1 0 rfl rfl)
theorem dX5_isAbove_25 : decode cX5_isAbove 25 = .ok (.iload_n 1, 1) := dk_27 (dk_at dksX5_isAbove_1 1 rfl rfl)
theorem dX5_isAbove_26 : decode cX5_isAbove 26 = .ok (.iload_n 2, 1) := dk_28 (dk_at dksX5_isAbove_1 2 rfl rfl)
theorem dX5_isAbove_27 : decode cX5_isAbove 27 = .ok (.invokevirtual 407, 3) := dk_182 1 151 (dk_at dksX5_isAbove_1 3 rfl rfl)
theorem dX5_isAbove_30 : decode cX5_isAbove 30 = .ok (.aload_n 0, 1) := dk_42 (dk_at dksX5_isAbove_1 6 rfl rfl)
theorem dX5_isAbove_31 : decode cX5_isAbove 31 = .ok (.iload_n 1, 1) := dk_27 (dk_at dksX5_isAbove_1 7 rfl rfl)
theorem dX5_isAbove_32 : decode cX5_isAbove 32 = .ok (.iload 5, 2) := dk_21 5 (dk_at dksX5_isAbove_1 8 rfl rfl)
theorem dX5_isAbove_34 : decode cX5_isAbove 34 = .ok (.invokevirtual 407, 3) := dk_182 1 151 (dk_at dksX5_isAbove_1 10 rfl rfl)
theorem dX5_isAbove_37 : decode cX5_isAbove 37 = .ok (.isub, 1) := dk_100 (dk_at dksX5_isAbove_1 13 rfl rfl)
theorem dX5_isAbove_38 : decode cX5_isAbove 38 = .ok (.imul, 1) := dk_104 (dk_at dksX5_isAbove_1 14 rfl rfl)
theorem dX5_isAbove_39 : decode cX5_isAbove 39 = .ok (.ifCond .gt 5, 3) := dk_157 0 5 (dk_at dksX5_isAbove_1 15 rfl rfl)
theorem dX5_isAbove_42 : decode cX5_isAbove 42 = .ok (.iconst 0, 1) := dk_3 (dk_at dksX5_isAbove_1 18 rfl rfl)
theorem dX5_isAbove_43 : decode cX5_isAbove 43 = .ok (.ireturn, 1) := dk_172 (dk_at dksX5_isAbove_1 19 rfl rfl)
theorem dX5_isAbove_44 : decode cX5_isAbove 44 = .ok (.iinc 4 1, 3) := dk_132 4 1 (dk_at dksX5_isAbove_1 20 rfl rfl)
theorem dX5_isAbove_47 : decode cX5_isAbove 47 = .ok (.goto (-44), 3) := dk_167 255 212 (dk_at dksX5_isAbove_2 0 rfl rfl)
theorem dX5_isAbove_50 : decode cX5_isAbove 50 = .ok (.iconst 1, 1) := dk_4 (dk_at dksX5_isAbove_2 3 rfl rfl)
theorem dX5_isAbove_51 : decode cX5_isAbove 51 = .ok (.ireturn, 1) := dk_172 (dk_at dksX5_isAbove_2 4 rfl rfl)
abbrev cX5_climb : ByteArray := prog_19_method_105_code
def yX5_climb : MethodName := ⟨RX5, "climb", "(II)I"⟩
def dkwX5_climb_5 : List UInt8 := [180, 0, 99, 29, 46, 167, 0, 4, 29, 172]
abbrev dktX5_climb_5 : List UInt8 := dkwX5_climb_5 ++ []
def dkwX5_climb_4 : List UInt8 := [180, 0, 99, 29, 46, 164, 0, 6, 21, 4, 62, 132, 4, 1, 167, 255, 227, 28, 154, 0, 12, 42]
abbrev dktX5_climb_4 : List UInt8 := dkwX5_climb_4 ++ dktX5_climb_5
def dkwX5_climb_3 : List UInt8 := [132, 4, 255, 167, 255, 206, 4, 54, 4, 21, 4, 16, 48, 162, 0, 28, 42, 180, 0, 99, 21, 4, 46, 42]
abbrev dktX5_climb_3 : List UInt8 := dkwX5_climb_3 ++ dktX5_climb_4
def dkwX5_climb_2 : List UInt8 := [160, 0, 17, 42, 180, 0, 99, 21, 5, 42, 27, 21, 5, 182, 1, 160, 79, 132, 5, 1, 167, 255, 220]
abbrev dktX5_climb_2 : List UInt8 := dkwX5_climb_2 ++ dktX5_climb_3
def dkwX5_climb_1 : List UInt8 := [21, 4, 155, 0, 51, 3, 54, 5, 21, 5, 16, 48, 162, 0, 35, 42, 27, 21, 5, 182, 1, 151, 21, 4]
abbrev dktX5_climb_1 : List UInt8 := dkwX5_climb_1 ++ dktX5_climb_2
def dkwX5_climb_0 : List UInt8 := [27, 184, 0, 117, 153, 0, 12, 28, 3, 4, 184, 0, 112, 154, 0, 5, 2, 172, 3, 62, 16, 25, 54, 4]
abbrev dktX5_climb_0 : List UInt8 := dkwX5_climb_0 ++ dktX5_climb_1
theorem dksX5_climb_0 : cX5_climb.data.toList.drop 0 = dktX5_climb_0 := by decide +kernel
theorem dksX5_climb_1 : cX5_climb.data.toList.drop 24 = dktX5_climb_1 := dk_seg dksX5_climb_0 24 rfl rfl
theorem dksX5_climb_2 : cX5_climb.data.toList.drop 48 = dktX5_climb_2 := dk_seg dksX5_climb_1 24 rfl rfl
theorem dksX5_climb_3 : cX5_climb.data.toList.drop 71 = dktX5_climb_3 := dk_seg dksX5_climb_2 23 rfl rfl
theorem dksX5_climb_4 : cX5_climb.data.toList.drop 95 = dktX5_climb_4 := dk_seg dksX5_climb_3 24 rfl rfl
theorem dksX5_climb_5 : cX5_climb.data.toList.drop 117 = dktX5_climb_5 := dk_seg dksX5_climb_4 22 rfl rfl
theorem dX5_climb_0 : decode cX5_climb 0 = .ok (.iload_n 1, 1) := dk_27 (dk_at dksX5_climb_0 0 rfl rfl)
theorem dX5_climb_1 : decode cX5_climb 1 = .ok (.invokestatic 117, 3) := dk_184 0 117 (dk_at dksX5_climb_0 1 rfl rfl)
theorem dX5_climb_4 : decode cX5_climb 4 = .ok (.ifCond .eq 12, 3) := dk_153 0 12 (dk_at dksX5_climb_0 4 rfl rfl)
theorem dX5_climb_7 : decode cX5_climb 7 = .ok (.iload_n 2, 1) := dk_28 (dk_at dksX5_climb_0 7 rfl rfl)
theorem dX5_climb_8 : decode cX5_climb 8 = .ok (.iconst 0, 1) := dk_3 (dk_at dksX5_climb_0 8 rfl rfl)
theorem dX5_climb_9 : decode cX5_climb 9 = .ok (.iconst 1, 1) := dk_4 (dk_at dksX5_climb_0 9 rfl rfl)
theorem dX5_climb_10 : decode cX5_climb 10 = .ok (.invokestatic 112, 3) := dk_184 0 112 (dk_at dksX5_climb_0 10 rfl rfl)
theorem dX5_climb_13 : decode cX5_climb 13 = .ok (.ifCond .ne 5, 3) := dk_154 0 5 (dk_at dksX5_climb_0 13 rfl rfl)
theorem dX5_climb_16 : decode cX5_climb 16 = .ok (.iconst (-1), 1) := dk_2 (dk_at dksX5_climb_0 16 rfl rfl)
theorem dX5_climb_17 : decode cX5_climb 17 = .ok (.ireturn, 1) := dk_172 (dk_at dksX5_climb_0 17 rfl rfl)
theorem dX5_climb_18 : decode cX5_climb 18 = .ok (.iconst 0, 1) := dk_3 (dk_at dksX5_climb_0 18 rfl rfl)
theorem dX5_climb_19 : decode cX5_climb 19 = .ok (.istore_n 3, 1) := dk_62 (dk_at dksX5_climb_0 19 rfl rfl)
theorem dX5_climb_20 : decode cX5_climb 20 = .ok (.bipush 25, 2) := dk_16 25 (dk_at dksX5_climb_0 20 rfl rfl)
theorem dX5_climb_22 : decode cX5_climb 22 = .ok (.istore 4, 2) := dk_54 4 (dk_at dksX5_climb_0 22 rfl rfl)
theorem dX5_climb_24 : decode cX5_climb 24 = .ok (.iload 4, 2) := dk_21 4 (dk_at dksX5_climb_1 0 rfl rfl)
theorem dX5_climb_26 : decode cX5_climb 26 = .ok (.ifCond .lt 51, 3) := dk_155 0 51 (dk_at dksX5_climb_1 2 rfl rfl)
theorem dX5_climb_29 : decode cX5_climb 29 = .ok (.iconst 0, 1) := dk_3 (dk_at dksX5_climb_1 5 rfl rfl)
theorem dX5_climb_30 : decode cX5_climb 30 = .ok (.istore 5, 2) := dk_54 5 (dk_at dksX5_climb_1 6 rfl rfl)
theorem dX5_climb_32 : decode cX5_climb 32 = .ok (.iload 5, 2) := dk_21 5 (dk_at dksX5_climb_1 8 rfl rfl)
theorem dX5_climb_34 : decode cX5_climb 34 = .ok (.bipush 48, 2) := dk_16 48 (dk_at dksX5_climb_1 10 rfl rfl)
theorem dX5_climb_36 : decode cX5_climb 36 = .ok (.if_icmp .ge 35, 3) := dk_162 0 35 (dk_at dksX5_climb_1 12 rfl rfl)
theorem dX5_climb_39 : decode cX5_climb 39 = .ok (.aload_n 0, 1) := dk_42 (dk_at dksX5_climb_1 15 rfl rfl)
theorem dX5_climb_40 : decode cX5_climb 40 = .ok (.iload_n 1, 1) := dk_27 (dk_at dksX5_climb_1 16 rfl rfl)
theorem dX5_climb_41 : decode cX5_climb 41 = .ok (.iload 5, 2) := dk_21 5 (dk_at dksX5_climb_1 17 rfl rfl)
theorem dX5_climb_43 : decode cX5_climb 43 = .ok (.invokevirtual 407, 3) := dk_182 1 151 (dk_at dksX5_climb_1 19 rfl rfl)
theorem dX5_climb_46 : decode cX5_climb 46 = .ok (.iload 4, 2) := dk_21 4 (dk_at dksX5_climb_1 22 rfl rfl)
theorem dX5_climb_48 : decode cX5_climb 48 = .ok (.if_icmp .ne 17, 3) := dk_160 0 17 (dk_at dksX5_climb_2 0 rfl rfl)
theorem dX5_climb_51 : decode cX5_climb 51 = .ok (.aload_n 0, 1) := dk_42 (dk_at dksX5_climb_2 3 rfl rfl)
theorem dX5_climb_52 : decode cX5_climb 52 = .ok (.getfield 99, 3) := dk_180 0 99 (dk_at dksX5_climb_2 4 rfl rfl)
theorem dX5_climb_55 : decode cX5_climb 55 = .ok (.iload 5, 2) := dk_21 5 (dk_at dksX5_climb_2 7 rfl rfl)
theorem dX5_climb_57 : decode cX5_climb 57 = .ok (.aload_n 0, 1) := dk_42 (dk_at dksX5_climb_2 9 rfl rfl)
theorem dX5_climb_58 : decode cX5_climb 58 = .ok (.iload_n 1, 1) := dk_27 (dk_at dksX5_climb_2 10 rfl rfl)
theorem dX5_climb_59 : decode cX5_climb 59 = .ok (.iload 5, 2) := dk_21 5 (dk_at dksX5_climb_2 11 rfl rfl)
theorem dX5_climb_61 : decode cX5_climb 61 = .ok (.invokevirtual 416, 3) := dk_182 1 160 (dk_at dksX5_climb_2 13 rfl rfl)
theorem dX5_climb_64 : decode cX5_climb 64 = .ok (.iastore, 1) := dk_79 (dk_at dksX5_climb_2 16 rfl rfl)
theorem dX5_climb_65 : decode cX5_climb 65 = .ok (.iinc 5 1, 3) := dk_132 5 1 (dk_at dksX5_climb_2 17 rfl rfl)
theorem dX5_climb_68 : decode cX5_climb 68 = .ok (.goto (-36), 3) := dk_167 255 220 (dk_at dksX5_climb_2 20 rfl rfl)
theorem dX5_climb_71 : decode cX5_climb 71 = .ok (.iinc 4 (-1), 3) := dk_132 4 255 (dk_at dksX5_climb_3 0 rfl rfl)
theorem dX5_climb_74 : decode cX5_climb 74 = .ok (.goto (-50), 3) := dk_167 255 206 (dk_at dksX5_climb_3 3 rfl rfl)
theorem dX5_climb_77 : decode cX5_climb 77 = .ok (.iconst 1, 1) := dk_4 (dk_at dksX5_climb_3 6 rfl rfl)
theorem dX5_climb_78 : decode cX5_climb 78 = .ok (.istore 4, 2) := dk_54 4 (dk_at dksX5_climb_3 7 rfl rfl)
theorem dX5_climb_80 : decode cX5_climb 80 = .ok (.iload 4, 2) := dk_21 4 (dk_at dksX5_climb_3 9 rfl rfl)
theorem dX5_climb_82 : decode cX5_climb 82 = .ok (.bipush 48, 2) := dk_16 48 (dk_at dksX5_climb_3 11 rfl rfl)
theorem dX5_climb_84 : decode cX5_climb 84 = .ok (.if_icmp .ge 28, 3) := dk_162 0 28 (dk_at dksX5_climb_3 13 rfl rfl)
theorem dX5_climb_87 : decode cX5_climb 87 = .ok (.aload_n 0, 1) := dk_42 (dk_at dksX5_climb_3 16 rfl rfl)
theorem dX5_climb_88 : decode cX5_climb 88 = .ok (.getfield 99, 3) := dk_180 0 99 (dk_at dksX5_climb_3 17 rfl rfl)
theorem dX5_climb_91 : decode cX5_climb 91 = .ok (.iload 4, 2) := dk_21 4 (dk_at dksX5_climb_3 20 rfl rfl)
theorem dX5_climb_93 : decode cX5_climb 93 = .ok (.iaload, 1) := dk_46 (dk_at dksX5_climb_3 22 rfl rfl)
theorem dX5_climb_94 : decode cX5_climb 94 = .ok (.aload_n 0, 1) := dk_42 (dk_at dksX5_climb_3 23 rfl rfl)
theorem dX5_climb_95 : decode cX5_climb 95 = .ok (.getfield 99, 3) := dk_180 0 99 (dk_at dksX5_climb_4 0 rfl rfl)
theorem dX5_climb_98 : decode cX5_climb 98 = .ok (.iload_n 3, 1) := dk_29 (dk_at dksX5_climb_4 3 rfl rfl)
theorem dX5_climb_99 : decode cX5_climb 99 = .ok (.iaload, 1) := dk_46 (dk_at dksX5_climb_4 4 rfl rfl)
theorem dX5_climb_100 : decode cX5_climb 100 = .ok (.if_icmp .le 6, 3) := dk_164 0 6 (dk_at dksX5_climb_4 5 rfl rfl)
theorem dX5_climb_103 : decode cX5_climb 103 = .ok (.iload 4, 2) := dk_21 4 (dk_at dksX5_climb_4 8 rfl rfl)
theorem dX5_climb_105 : decode cX5_climb 105 = .ok (.istore_n 3, 1) := dk_62 (dk_at dksX5_climb_4 10 rfl rfl)
theorem dX5_climb_106 : decode cX5_climb 106 = .ok (.iinc 4 1, 3) := dk_132 4 1 (dk_at dksX5_climb_4 11 rfl rfl)
theorem dX5_climb_109 : decode cX5_climb 109 = .ok (.goto (-29), 3) := dk_167 255 227 (dk_at dksX5_climb_4 14 rfl rfl)
theorem dX5_climb_112 : decode cX5_climb 112 = .ok (.iload_n 2, 1) := dk_28 (dk_at dksX5_climb_4 17 rfl rfl)
theorem dX5_climb_113 : decode cX5_climb 113 = .ok (.ifCond .ne 12, 3) := dk_154 0 12 (dk_at dksX5_climb_4 18 rfl rfl)
theorem dX5_climb_116 : decode cX5_climb 116 = .ok (.aload_n 0, 1) := dk_42 (dk_at dksX5_climb_4 21 rfl rfl)
theorem dX5_climb_117 : decode cX5_climb 117 = .ok (.getfield 99, 3) := dk_180 0 99 (dk_at dksX5_climb_5 0 rfl rfl)
theorem dX5_climb_120 : decode cX5_climb 120 = .ok (.iload_n 3, 1) := dk_29 (dk_at dksX5_climb_5 3 rfl rfl)
theorem dX5_climb_121 : decode cX5_climb 121 = .ok (.iaload, 1) := dk_46 (dk_at dksX5_climb_5 4 rfl rfl)
theorem dX5_climb_122 : decode cX5_climb 122 = .ok (.goto 4, 3) := dk_167 0 4 (dk_at dksX5_climb_5 5 rfl rfl)
theorem dX5_climb_125 : decode cX5_climb 125 = .ok (.iload_n 3, 1) := dk_29 (dk_at dksX5_climb_5 8 rfl rfl)
theorem dX5_climb_126 : decode cX5_climb 126 = .ok (.ireturn, 1) := dk_172 (dk_at dksX5_climb_5 9 rfl rfl)
abbrev cX5_climbFrom : ByteArray := prog_19_method_104_code
def yX5_climbFrom : MethodName := ⟨RX5, "climbFrom", "(II)I"⟩
def dkwX5_climbFrom_2 : List UInt8 := [21, 5, 46, 184, 0, 242, 62, 132, 4, 1, 167, 255, 205, 29, 4, 96, 172]
abbrev dktX5_climbFrom_2 : List UInt8 := dkwX5_climbFrom_2 ++ []
def dkwX5_climbFrom_1 : List UInt8 := [159, 0, 31, 42, 27, 21, 5, 182, 1, 151, 42, 27, 28, 182, 1, 151, 164, 0, 15, 29, 42, 180, 0, 99]
abbrev dktX5_climbFrom_1 : List UInt8 := dkwX5_climbFrom_1 ++ dktX5_climbFrom_2
def dkwX5_climbFrom_0 : List UInt8 := [3, 62, 3, 54, 4, 21, 4, 7, 162, 0, 51, 28, 21, 4, 184, 1, 102, 54, 5, 21, 5, 2]
abbrev dktX5_climbFrom_0 : List UInt8 := dkwX5_climbFrom_0 ++ dktX5_climbFrom_1
theorem dksX5_climbFrom_0 : cX5_climbFrom.data.toList.drop 0 = dktX5_climbFrom_0 := by decide +kernel
theorem dksX5_climbFrom_1 : cX5_climbFrom.data.toList.drop 22 = dktX5_climbFrom_1 := dk_seg dksX5_climbFrom_0 22 rfl rfl
theorem dksX5_climbFrom_2 : cX5_climbFrom.data.toList.drop 46 = dktX5_climbFrom_2 := dk_seg dksX5_climbFrom_1 24 rfl rfl
theorem dX5_climbFrom_0 : decode cX5_climbFrom 0 = .ok (.iconst 0, 1) := dk_3 (dk_at dksX5_climbFrom_0 0 rfl rfl)
theorem dX5_climbFrom_1 : decode cX5_climbFrom 1 = .ok (.istore_n 3, 1) := dk_62 (dk_at dksX5_climbFrom_0 1 rfl rfl)
theorem dX5_climbFrom_2 : decode cX5_climbFrom 2 = .ok (.iconst 0, 1) := dk_3 (dk_at dksX5_climbFrom_0 2 rfl rfl)
theorem dX5_climbFrom_3 : decode cX5_climbFrom 3 = .ok (.istore 4, 2) := dk_54 4 (dk_at dksX5_climbFrom_0 3 rfl rfl)
theorem dX5_climbFrom_5 : decode cX5_climbFrom 5 = .ok (.iload 4, 2) := dk_21 4 (dk_at dksX5_climbFrom_0 5 rfl rfl)
theorem dX5_climbFrom_7 : decode cX5_climbFrom 7 = .ok (.iconst 4, 1) := dk_7 (dk_at dksX5_climbFrom_0 7 rfl rfl)
theorem dX5_climbFrom_8 : decode cX5_climbFrom 8 = .ok (.if_icmp .ge 51, 3) := dk_162 0 51 (dk_at dksX5_climbFrom_0 8 rfl rfl)
theorem dX5_climbFrom_11 : decode cX5_climbFrom 11 = .ok (.iload_n 2, 1) := dk_28 (dk_at dksX5_climbFrom_0 11 rfl rfl)
theorem dX5_climbFrom_12 : decode cX5_climbFrom 12 = .ok (.iload 4, 2) := dk_21 4 (dk_at dksX5_climbFrom_0 12 rfl rfl)
theorem dX5_climbFrom_14 : decode cX5_climbFrom 14 = .ok (.invokestatic 358, 3) := dk_184 1 102 (dk_at dksX5_climbFrom_0 14 rfl rfl)
theorem dX5_climbFrom_17 : decode cX5_climbFrom 17 = .ok (.istore 5, 2) := dk_54 5 (dk_at dksX5_climbFrom_0 17 rfl rfl)
theorem dX5_climbFrom_19 : decode cX5_climbFrom 19 = .ok (.iload 5, 2) := dk_21 5 (dk_at dksX5_climbFrom_0 19 rfl rfl)
theorem dX5_climbFrom_21 : decode cX5_climbFrom 21 = .ok (.iconst (-1), 1) := dk_2 (dk_at dksX5_climbFrom_0 21 rfl rfl)
theorem dX5_climbFrom_22 : decode cX5_climbFrom 22 = .ok (.if_icmp .eq 31, 3) := dk_159 0 31 (dk_at dksX5_climbFrom_1 0 rfl rfl)
theorem dX5_climbFrom_25 : decode cX5_climbFrom 25 = .ok (.aload_n 0, 1) := dk_42 (dk_at dksX5_climbFrom_1 3 rfl rfl)
theorem dX5_climbFrom_26 : decode cX5_climbFrom 26 = .ok (.iload_n 1, 1) := dk_27 (dk_at dksX5_climbFrom_1 4 rfl rfl)
theorem dX5_climbFrom_27 : decode cX5_climbFrom 27 = .ok (.iload 5, 2) := dk_21 5 (dk_at dksX5_climbFrom_1 5 rfl rfl)
theorem dX5_climbFrom_29 : decode cX5_climbFrom 29 = .ok (.invokevirtual 407, 3) := dk_182 1 151 (dk_at dksX5_climbFrom_1 7 rfl rfl)
theorem dX5_climbFrom_32 : decode cX5_climbFrom 32 = .ok (.aload_n 0, 1) := dk_42 (dk_at dksX5_climbFrom_1 10 rfl rfl)
theorem dX5_climbFrom_33 : decode cX5_climbFrom 33 = .ok (.iload_n 1, 1) := dk_27 (dk_at dksX5_climbFrom_1 11 rfl rfl)
theorem dX5_climbFrom_34 : decode cX5_climbFrom 34 = .ok (.iload_n 2, 1) := dk_28 (dk_at dksX5_climbFrom_1 12 rfl rfl)
theorem dX5_climbFrom_35 : decode cX5_climbFrom 35 = .ok (.invokevirtual 407, 3) := dk_182 1 151 (dk_at dksX5_climbFrom_1 13 rfl rfl)
theorem dX5_climbFrom_38 : decode cX5_climbFrom 38 = .ok (.if_icmp .le 15, 3) := dk_164 0 15 (dk_at dksX5_climbFrom_1 16 rfl rfl)
theorem dX5_climbFrom_41 : decode cX5_climbFrom 41 = .ok (.iload_n 3, 1) := dk_29 (dk_at dksX5_climbFrom_1 19 rfl rfl)
theorem dX5_climbFrom_42 : decode cX5_climbFrom 42 = .ok (.aload_n 0, 1) := dk_42 (dk_at dksX5_climbFrom_1 20 rfl rfl)
theorem dX5_climbFrom_43 : decode cX5_climbFrom 43 = .ok (.getfield 99, 3) := dk_180 0 99 (dk_at dksX5_climbFrom_1 21 rfl rfl)
theorem dX5_climbFrom_46 : decode cX5_climbFrom 46 = .ok (.iload 5, 2) := dk_21 5 (dk_at dksX5_climbFrom_2 0 rfl rfl)
theorem dX5_climbFrom_48 : decode cX5_climbFrom 48 = .ok (.iaload, 1) := dk_46 (dk_at dksX5_climbFrom_2 2 rfl rfl)
theorem dX5_climbFrom_49 : decode cX5_climbFrom 49 = .ok (.invokestatic 242, 3) := dk_184 0 242 (dk_at dksX5_climbFrom_2 3 rfl rfl)
theorem dX5_climbFrom_52 : decode cX5_climbFrom 52 = .ok (.istore_n 3, 1) := dk_62 (dk_at dksX5_climbFrom_2 6 rfl rfl)
theorem dX5_climbFrom_53 : decode cX5_climbFrom 53 = .ok (.iinc 4 1, 3) := dk_132 4 1 (dk_at dksX5_climbFrom_2 7 rfl rfl)
theorem dX5_climbFrom_56 : decode cX5_climbFrom 56 = .ok (.goto (-51), 3) := dk_167 255 205 (dk_at dksX5_climbFrom_2 10 rfl rfl)
theorem dX5_climbFrom_59 : decode cX5_climbFrom 59 = .ok (.iload_n 3, 1) := dk_29 (dk_at dksX5_climbFrom_2 13 rfl rfl)
theorem dX5_climbFrom_60 : decode cX5_climbFrom 60 = .ok (.iconst 1, 1) := dk_4 (dk_at dksX5_climbFrom_2 14 rfl rfl)
theorem dX5_climbFrom_61 : decode cX5_climbFrom 61 = .ok (.iadd, 1) := dk_96 (dk_at dksX5_climbFrom_2 15 rfl rfl)
theorem dX5_climbFrom_62 : decode cX5_climbFrom 62 = .ok (.ireturn, 1) := dk_172 (dk_at dksX5_climbFrom_2 16 rfl rfl)
abbrev cX5_rolls : ByteArray := prog_19_method_107_code
def yX5_rolls : MethodName := ⟨RX5, "rolls", "(II)I"⟩
def dkwX5_rolls_1 : List UInt8 := [29, 159, 0, 13, 42, 27, 29, 182, 1, 163, 62, 167, 255, 239, 29, 172]
abbrev dktX5_rolls_1 : List UInt8 := dkwX5_rolls_1 ++ []
def dkwX5_rolls_0 : List UInt8 := [27, 184, 0, 117, 153, 0, 10, 28, 184, 0, 121, 154, 0, 5, 2, 172, 28, 62, 42, 27, 29, 182, 1, 163]
abbrev dktX5_rolls_0 : List UInt8 := dkwX5_rolls_0 ++ dktX5_rolls_1
theorem dksX5_rolls_0 : cX5_rolls.data.toList.drop 0 = dktX5_rolls_0 := by decide +kernel
theorem dksX5_rolls_1 : cX5_rolls.data.toList.drop 24 = dktX5_rolls_1 := dk_seg dksX5_rolls_0 24 rfl rfl
theorem dX5_rolls_0 : decode cX5_rolls 0 = .ok (.iload_n 1, 1) := dk_27 (dk_at dksX5_rolls_0 0 rfl rfl)
theorem dX5_rolls_1 : decode cX5_rolls 1 = .ok (.invokestatic 117, 3) := dk_184 0 117 (dk_at dksX5_rolls_0 1 rfl rfl)
theorem dX5_rolls_4 : decode cX5_rolls 4 = .ok (.ifCond .eq 10, 3) := dk_153 0 10 (dk_at dksX5_rolls_0 4 rfl rfl)
theorem dX5_rolls_7 : decode cX5_rolls 7 = .ok (.iload_n 2, 1) := dk_28 (dk_at dksX5_rolls_0 7 rfl rfl)
theorem dX5_rolls_8 : decode cX5_rolls 8 = .ok (.invokestatic 121, 3) := dk_184 0 121 (dk_at dksX5_rolls_0 8 rfl rfl)
theorem dX5_rolls_11 : decode cX5_rolls 11 = .ok (.ifCond .ne 5, 3) := dk_154 0 5 (dk_at dksX5_rolls_0 11 rfl rfl)
theorem dX5_rolls_14 : decode cX5_rolls 14 = .ok (.iconst (-1), 1) := dk_2 (dk_at dksX5_rolls_0 14 rfl rfl)
theorem dX5_rolls_15 : decode cX5_rolls 15 = .ok (.ireturn, 1) := dk_172 (dk_at dksX5_rolls_0 15 rfl rfl)
theorem dX5_rolls_16 : decode cX5_rolls 16 = .ok (.iload_n 2, 1) := dk_28 (dk_at dksX5_rolls_0 16 rfl rfl)
theorem dX5_rolls_17 : decode cX5_rolls 17 = .ok (.istore_n 3, 1) := dk_62 (dk_at dksX5_rolls_0 17 rfl rfl)
theorem dX5_rolls_18 : decode cX5_rolls 18 = .ok (.aload_n 0, 1) := dk_42 (dk_at dksX5_rolls_0 18 rfl rfl)
theorem dX5_rolls_19 : decode cX5_rolls 19 = .ok (.iload_n 1, 1) := dk_27 (dk_at dksX5_rolls_0 19 rfl rfl)
theorem dX5_rolls_20 : decode cX5_rolls 20 = .ok (.iload_n 3, 1) := dk_29 (dk_at dksX5_rolls_0 20 rfl rfl)
theorem dX5_rolls_21 : decode cX5_rolls 21 = .ok (.invokevirtual 419, 3) := dk_182 1 163 (dk_at dksX5_rolls_0 21 rfl rfl)
theorem dX5_rolls_24 : decode cX5_rolls 24 = .ok (.iload_n 3, 1) := dk_29 (dk_at dksX5_rolls_1 0 rfl rfl)
theorem dX5_rolls_25 : decode cX5_rolls 25 = .ok (.if_icmp .eq 13, 3) := dk_159 0 13 (dk_at dksX5_rolls_1 1 rfl rfl)
theorem dX5_rolls_28 : decode cX5_rolls 28 = .ok (.aload_n 0, 1) := dk_42 (dk_at dksX5_rolls_1 4 rfl rfl)
theorem dX5_rolls_29 : decode cX5_rolls 29 = .ok (.iload_n 1, 1) := dk_27 (dk_at dksX5_rolls_1 5 rfl rfl)
theorem dX5_rolls_30 : decode cX5_rolls 30 = .ok (.iload_n 3, 1) := dk_29 (dk_at dksX5_rolls_1 6 rfl rfl)
theorem dX5_rolls_31 : decode cX5_rolls 31 = .ok (.invokevirtual 419, 3) := dk_182 1 163 (dk_at dksX5_rolls_1 7 rfl rfl)
theorem dX5_rolls_34 : decode cX5_rolls 34 = .ok (.istore_n 3, 1) := dk_62 (dk_at dksX5_rolls_1 10 rfl rfl)
theorem dX5_rolls_35 : decode cX5_rolls 35 = .ok (.goto (-17), 3) := dk_167 255 239 (dk_at dksX5_rolls_1 11 rfl rfl)
theorem dX5_rolls_38 : decode cX5_rolls 38 = .ok (.iload_n 3, 1) := dk_29 (dk_at dksX5_rolls_1 14 rfl rfl)
theorem dX5_rolls_39 : decode cX5_rolls 39 = .ok (.ireturn, 1) := dk_172 (dk_at dksX5_rolls_1 15 rfl rfl)
abbrev cX5_lowestBy : ByteArray := prog_19_method_106_code
def yX5_lowestBy : MethodName := ⟨RX5, "lowestBy", "(II)I"⟩
def dkwX5_lowestBy_3 : List UInt8 := [42, 27, 29, 182, 1, 151, 162, 0, 6, 21, 4, 62, 132, 4, 1, 167, 255, 175, 29, 172]
abbrev dktX5_lowestBy_3 : List UInt8 := dkwX5_lowestBy_3 ++ []
def dkwX5_lowestBy_2 : List UInt8 := [21, 4, 160, 0, 7, 4, 167, 0, 4, 3, 54, 5, 21, 5, 153, 0, 22, 42, 27, 21, 4, 182, 1, 151]
abbrev dktX5_lowestBy_2 : List UInt8 := dkwX5_lowestBy_2 ++ dktX5_lowestBy_3
def dkwX5_lowestBy_1 : List UInt8 := [184, 1, 102, 21, 4, 159, 0, 23, 28, 5, 184, 1, 102, 21, 4, 159, 0, 13, 28, 6, 184, 1, 102]
abbrev dktX5_lowestBy_1 : List UInt8 := dkwX5_lowestBy_1 ++ dktX5_lowestBy_2
def dkwX5_lowestBy_0 : List UInt8 := [28, 62, 3, 54, 4, 21, 4, 16, 48, 162, 0, 80, 28, 3, 184, 1, 102, 21, 4, 159, 0, 33, 28, 4]
abbrev dktX5_lowestBy_0 : List UInt8 := dkwX5_lowestBy_0 ++ dktX5_lowestBy_1
theorem dksX5_lowestBy_0 : cX5_lowestBy.data.toList.drop 0 = dktX5_lowestBy_0 := by decide +kernel
theorem dksX5_lowestBy_1 : cX5_lowestBy.data.toList.drop 24 = dktX5_lowestBy_1 := dk_seg dksX5_lowestBy_0 24 rfl rfl
theorem dksX5_lowestBy_2 : cX5_lowestBy.data.toList.drop 47 = dktX5_lowestBy_2 := dk_seg dksX5_lowestBy_1 23 rfl rfl
theorem dksX5_lowestBy_3 : cX5_lowestBy.data.toList.drop 71 = dktX5_lowestBy_3 := dk_seg dksX5_lowestBy_2 24 rfl rfl
theorem dX5_lowestBy_0 : decode cX5_lowestBy 0 = .ok (.iload_n 2, 1) := dk_28 (dk_at dksX5_lowestBy_0 0 rfl rfl)
theorem dX5_lowestBy_1 : decode cX5_lowestBy 1 = .ok (.istore_n 3, 1) := dk_62 (dk_at dksX5_lowestBy_0 1 rfl rfl)
theorem dX5_lowestBy_2 : decode cX5_lowestBy 2 = .ok (.iconst 0, 1) := dk_3 (dk_at dksX5_lowestBy_0 2 rfl rfl)
theorem dX5_lowestBy_3 : decode cX5_lowestBy 3 = .ok (.istore 4, 2) := dk_54 4 (dk_at dksX5_lowestBy_0 3 rfl rfl)
theorem dX5_lowestBy_5 : decode cX5_lowestBy 5 = .ok (.iload 4, 2) := dk_21 4 (dk_at dksX5_lowestBy_0 5 rfl rfl)
theorem dX5_lowestBy_7 : decode cX5_lowestBy 7 = .ok (.bipush 48, 2) := dk_16 48 (dk_at dksX5_lowestBy_0 7 rfl rfl)
theorem dX5_lowestBy_9 : decode cX5_lowestBy 9 = .ok (.if_icmp .ge 80, 3) := dk_162 0 80 (dk_at dksX5_lowestBy_0 9 rfl rfl)
theorem dX5_lowestBy_12 : decode cX5_lowestBy 12 = .ok (.iload_n 2, 1) := dk_28 (dk_at dksX5_lowestBy_0 12 rfl rfl)
theorem dX5_lowestBy_13 : decode cX5_lowestBy 13 = .ok (.iconst 0, 1) := dk_3 (dk_at dksX5_lowestBy_0 13 rfl rfl)
theorem dX5_lowestBy_14 : decode cX5_lowestBy 14 = .ok (.invokestatic 358, 3) := dk_184 1 102 (dk_at dksX5_lowestBy_0 14 rfl rfl)
theorem dX5_lowestBy_17 : decode cX5_lowestBy 17 = .ok (.iload 4, 2) := dk_21 4 (dk_at dksX5_lowestBy_0 17 rfl rfl)
theorem dX5_lowestBy_19 : decode cX5_lowestBy 19 = .ok (.if_icmp .eq 33, 3) := dk_159 0 33 (dk_at dksX5_lowestBy_0 19 rfl rfl)
theorem dX5_lowestBy_22 : decode cX5_lowestBy 22 = .ok (.iload_n 2, 1) := dk_28 (dk_at dksX5_lowestBy_0 22 rfl rfl)
theorem dX5_lowestBy_23 : decode cX5_lowestBy 23 = .ok (.iconst 1, 1) := dk_4 (dk_at dksX5_lowestBy_0 23 rfl rfl)
theorem dX5_lowestBy_24 : decode cX5_lowestBy 24 = .ok (.invokestatic 358, 3) := dk_184 1 102 (dk_at dksX5_lowestBy_1 0 rfl rfl)
theorem dX5_lowestBy_27 : decode cX5_lowestBy 27 = .ok (.iload 4, 2) := dk_21 4 (dk_at dksX5_lowestBy_1 3 rfl rfl)
theorem dX5_lowestBy_29 : decode cX5_lowestBy 29 = .ok (.if_icmp .eq 23, 3) := dk_159 0 23 (dk_at dksX5_lowestBy_1 5 rfl rfl)
theorem dX5_lowestBy_32 : decode cX5_lowestBy 32 = .ok (.iload_n 2, 1) := dk_28 (dk_at dksX5_lowestBy_1 8 rfl rfl)
theorem dX5_lowestBy_33 : decode cX5_lowestBy 33 = .ok (.iconst 2, 1) := dk_5 (dk_at dksX5_lowestBy_1 9 rfl rfl)
theorem dX5_lowestBy_34 : decode cX5_lowestBy 34 = .ok (.invokestatic 358, 3) := dk_184 1 102 (dk_at dksX5_lowestBy_1 10 rfl rfl)
theorem dX5_lowestBy_37 : decode cX5_lowestBy 37 = .ok (.iload 4, 2) := dk_21 4 (dk_at dksX5_lowestBy_1 13 rfl rfl)
theorem dX5_lowestBy_39 : decode cX5_lowestBy 39 = .ok (.if_icmp .eq 13, 3) := dk_159 0 13 (dk_at dksX5_lowestBy_1 15 rfl rfl)
theorem dX5_lowestBy_42 : decode cX5_lowestBy 42 = .ok (.iload_n 2, 1) := dk_28 (dk_at dksX5_lowestBy_1 18 rfl rfl)
theorem dX5_lowestBy_43 : decode cX5_lowestBy 43 = .ok (.iconst 3, 1) := dk_6 (dk_at dksX5_lowestBy_1 19 rfl rfl)
theorem dX5_lowestBy_44 : decode cX5_lowestBy 44 = .ok (.invokestatic 358, 3) := dk_184 1 102 (dk_at dksX5_lowestBy_1 20 rfl rfl)
theorem dX5_lowestBy_47 : decode cX5_lowestBy 47 = .ok (.iload 4, 2) := dk_21 4 (dk_at dksX5_lowestBy_2 0 rfl rfl)
theorem dX5_lowestBy_49 : decode cX5_lowestBy 49 = .ok (.if_icmp .ne 7, 3) := dk_160 0 7 (dk_at dksX5_lowestBy_2 2 rfl rfl)
theorem dX5_lowestBy_52 : decode cX5_lowestBy 52 = .ok (.iconst 1, 1) := dk_4 (dk_at dksX5_lowestBy_2 5 rfl rfl)
theorem dX5_lowestBy_53 : decode cX5_lowestBy 53 = .ok (.goto 4, 3) := dk_167 0 4 (dk_at dksX5_lowestBy_2 6 rfl rfl)
theorem dX5_lowestBy_56 : decode cX5_lowestBy 56 = .ok (.iconst 0, 1) := dk_3 (dk_at dksX5_lowestBy_2 9 rfl rfl)
theorem dX5_lowestBy_57 : decode cX5_lowestBy 57 = .ok (.istore 5, 2) := dk_54 5 (dk_at dksX5_lowestBy_2 10 rfl rfl)
theorem dX5_lowestBy_59 : decode cX5_lowestBy 59 = .ok (.iload 5, 2) := dk_21 5 (dk_at dksX5_lowestBy_2 12 rfl rfl)
theorem dX5_lowestBy_61 : decode cX5_lowestBy 61 = .ok (.ifCond .eq 22, 3) := dk_153 0 22 (dk_at dksX5_lowestBy_2 14 rfl rfl)
theorem dX5_lowestBy_64 : decode cX5_lowestBy 64 = .ok (.aload_n 0, 1) := dk_42 (dk_at dksX5_lowestBy_2 17 rfl rfl)
theorem dX5_lowestBy_65 : decode cX5_lowestBy 65 = .ok (.iload_n 1, 1) := dk_27 (dk_at dksX5_lowestBy_2 18 rfl rfl)
theorem dX5_lowestBy_66 : decode cX5_lowestBy 66 = .ok (.iload 4, 2) := dk_21 4 (dk_at dksX5_lowestBy_2 19 rfl rfl)
theorem dX5_lowestBy_68 : decode cX5_lowestBy 68 = .ok (.invokevirtual 407, 3) := dk_182 1 151 (dk_at dksX5_lowestBy_2 21 rfl rfl)
theorem dX5_lowestBy_71 : decode cX5_lowestBy 71 = .ok (.aload_n 0, 1) := dk_42 (dk_at dksX5_lowestBy_3 0 rfl rfl)
theorem dX5_lowestBy_72 : decode cX5_lowestBy 72 = .ok (.iload_n 1, 1) := dk_27 (dk_at dksX5_lowestBy_3 1 rfl rfl)
theorem dX5_lowestBy_73 : decode cX5_lowestBy 73 = .ok (.iload_n 3, 1) := dk_29 (dk_at dksX5_lowestBy_3 2 rfl rfl)
theorem dX5_lowestBy_74 : decode cX5_lowestBy 74 = .ok (.invokevirtual 407, 3) := dk_182 1 151 (dk_at dksX5_lowestBy_3 3 rfl rfl)
theorem dX5_lowestBy_77 : decode cX5_lowestBy 77 = .ok (.if_icmp .ge 6, 3) := dk_162 0 6 (dk_at dksX5_lowestBy_3 6 rfl rfl)
theorem dX5_lowestBy_80 : decode cX5_lowestBy 80 = .ok (.iload 4, 2) := dk_21 4 (dk_at dksX5_lowestBy_3 9 rfl rfl)
theorem dX5_lowestBy_82 : decode cX5_lowestBy 82 = .ok (.istore_n 3, 1) := dk_62 (dk_at dksX5_lowestBy_3 11 rfl rfl)
theorem dX5_lowestBy_83 : decode cX5_lowestBy 83 = .ok (.iinc 4 1, 3) := dk_132 4 1 (dk_at dksX5_lowestBy_3 12 rfl rfl)
theorem dX5_lowestBy_86 : decode cX5_lowestBy 86 = .ok (.goto (-81), 3) := dk_167 255 175 (dk_at dksX5_lowestBy_3 15 rfl rfl)
theorem dX5_lowestBy_89 : decode cX5_lowestBy 89 = .ok (.iload_n 3, 1) := dk_29 (dk_at dksX5_lowestBy_3 18 rfl rfl)
theorem dX5_lowestBy_90 : decode cX5_lowestBy 90 = .ok (.ireturn, 1) := dk_172 (dk_at dksX5_lowestBy_3 19 rfl rfl)
abbrev cX5_pools : ByteArray := prog_19_method_110_code
def yX5_pools : MethodName := ⟨RX5, "pools", "(II)I"⟩
def dkwX5_pools_6 : List UInt8 := [132, 5, 1, 167, 255, 138, 28, 154, 0, 7, 29, 167, 0, 5, 21, 4, 172]
abbrev dktX5_pools_6 : List UInt8 := dkwX5_pools_6 ++ []
def dkwX5_pools_5 : List UInt8 := [21, 6, 182, 1, 151, 21, 5, 4, 100, 160, 0, 9, 21, 4, 4, 96, 54, 4, 132, 6, 1, 167, 255, 198]
abbrev dktX5_pools_5 : List UInt8 := dkwX5_pools_5 ++ dktX5_pools_6
def dkwX5_pools_4 : List UInt8 := [153, 0, 41, 42, 42, 180, 0, 93, 21, 6, 46, 182, 1, 169, 153, 0, 27, 29, 4, 96, 62, 42, 27]
abbrev dktX5_pools_4 : List UInt8 := dkwX5_pools_4 ++ dktX5_pools_5
def dkwX5_pools_3 : List UInt8 := [167, 255, 222, 42, 182, 1, 114, 3, 54, 6, 21, 6, 16, 48, 162, 0, 57, 42, 180, 0, 90, 21, 6, 51]
abbrev dktX5_pools_3 : List UInt8 := dkwX5_pools_3 ++ dktX5_pools_4
def dkwX5_pools_2 : List UInt8 := [21, 6, 42, 27, 21, 6, 182, 1, 151, 21, 5, 162, 0, 7, 4, 167, 0, 4, 3, 84, 132, 6, 1]
abbrev dktX5_pools_2 : List UInt8 := dkwX5_pools_2 ++ dktX5_pools_3
def dkwX5_pools_1 : List UInt8 := [54, 5, 21, 5, 16, 25, 163, 0, 117, 3, 54, 6, 21, 6, 16, 48, 162, 0, 33, 42, 180, 0, 90]
abbrev dktX5_pools_1 : List UInt8 := dkwX5_pools_1 ++ dktX5_pools_2
def dkwX5_pools_0 : List UInt8 := [27, 184, 0, 117, 153, 0, 12, 28, 3, 4, 184, 0, 112, 154, 0, 5, 2, 172, 3, 62, 3, 54, 4, 4]
abbrev dktX5_pools_0 : List UInt8 := dkwX5_pools_0 ++ dktX5_pools_1
theorem dksX5_pools_0 : cX5_pools.data.toList.drop 0 = dktX5_pools_0 := by decide +kernel
theorem dksX5_pools_1 : cX5_pools.data.toList.drop 24 = dktX5_pools_1 := dk_seg dksX5_pools_0 24 rfl rfl
theorem dksX5_pools_2 : cX5_pools.data.toList.drop 47 = dktX5_pools_2 := dk_seg dksX5_pools_1 23 rfl rfl
theorem dksX5_pools_3 : cX5_pools.data.toList.drop 70 = dktX5_pools_3 := dk_seg dksX5_pools_2 23 rfl rfl
theorem dksX5_pools_4 : cX5_pools.data.toList.drop 94 = dktX5_pools_4 := dk_seg dksX5_pools_3 24 rfl rfl
theorem dksX5_pools_5 : cX5_pools.data.toList.drop 117 = dktX5_pools_5 := dk_seg dksX5_pools_4 23 rfl rfl
theorem dksX5_pools_6 : cX5_pools.data.toList.drop 141 = dktX5_pools_6 := dk_seg dksX5_pools_5 24 rfl rfl
theorem dX5_pools_0 : decode cX5_pools 0 = .ok (.iload_n 1, 1) := dk_27 (dk_at dksX5_pools_0 0 rfl rfl)
theorem dX5_pools_1 : decode cX5_pools 1 = .ok (.invokestatic 117, 3) := dk_184 0 117 (dk_at dksX5_pools_0 1 rfl rfl)
theorem dX5_pools_4 : decode cX5_pools 4 = .ok (.ifCond .eq 12, 3) := dk_153 0 12 (dk_at dksX5_pools_0 4 rfl rfl)
theorem dX5_pools_7 : decode cX5_pools 7 = .ok (.iload_n 2, 1) := dk_28 (dk_at dksX5_pools_0 7 rfl rfl)
theorem dX5_pools_8 : decode cX5_pools 8 = .ok (.iconst 0, 1) := dk_3 (dk_at dksX5_pools_0 8 rfl rfl)
theorem dX5_pools_9 : decode cX5_pools 9 = .ok (.iconst 1, 1) := dk_4 (dk_at dksX5_pools_0 9 rfl rfl)
theorem dX5_pools_10 : decode cX5_pools 10 = .ok (.invokestatic 112, 3) := dk_184 0 112 (dk_at dksX5_pools_0 10 rfl rfl)
theorem dX5_pools_13 : decode cX5_pools 13 = .ok (.ifCond .ne 5, 3) := dk_154 0 5 (dk_at dksX5_pools_0 13 rfl rfl)
theorem dX5_pools_16 : decode cX5_pools 16 = .ok (.iconst (-1), 1) := dk_2 (dk_at dksX5_pools_0 16 rfl rfl)
theorem dX5_pools_17 : decode cX5_pools 17 = .ok (.ireturn, 1) := dk_172 (dk_at dksX5_pools_0 17 rfl rfl)
theorem dX5_pools_18 : decode cX5_pools 18 = .ok (.iconst 0, 1) := dk_3 (dk_at dksX5_pools_0 18 rfl rfl)
theorem dX5_pools_19 : decode cX5_pools 19 = .ok (.istore_n 3, 1) := dk_62 (dk_at dksX5_pools_0 19 rfl rfl)
theorem dX5_pools_20 : decode cX5_pools 20 = .ok (.iconst 0, 1) := dk_3 (dk_at dksX5_pools_0 20 rfl rfl)
theorem dX5_pools_21 : decode cX5_pools 21 = .ok (.istore 4, 2) := dk_54 4 (dk_at dksX5_pools_0 21 rfl rfl)
theorem dX5_pools_23 : decode cX5_pools 23 = .ok (.iconst 1, 1) := dk_4 (dk_at dksX5_pools_0 23 rfl rfl)
theorem dX5_pools_24 : decode cX5_pools 24 = .ok (.istore 5, 2) := dk_54 5 (dk_at dksX5_pools_1 0 rfl rfl)
theorem dX5_pools_26 : decode cX5_pools 26 = .ok (.iload 5, 2) := dk_21 5 (dk_at dksX5_pools_1 2 rfl rfl)
theorem dX5_pools_28 : decode cX5_pools 28 = .ok (.bipush 25, 2) := dk_16 25 (dk_at dksX5_pools_1 4 rfl rfl)
theorem dX5_pools_30 : decode cX5_pools 30 = .ok (.if_icmp .gt 117, 3) := dk_163 0 117 (dk_at dksX5_pools_1 6 rfl rfl)
theorem dX5_pools_33 : decode cX5_pools 33 = .ok (.iconst 0, 1) := dk_3 (dk_at dksX5_pools_1 9 rfl rfl)
theorem dX5_pools_34 : decode cX5_pools 34 = .ok (.istore 6, 2) := dk_54 6 (dk_at dksX5_pools_1 10 rfl rfl)
theorem dX5_pools_36 : decode cX5_pools 36 = .ok (.iload 6, 2) := dk_21 6 (dk_at dksX5_pools_1 12 rfl rfl)
theorem dX5_pools_38 : decode cX5_pools 38 = .ok (.bipush 48, 2) := dk_16 48 (dk_at dksX5_pools_1 14 rfl rfl)
theorem dX5_pools_40 : decode cX5_pools 40 = .ok (.if_icmp .ge 33, 3) := dk_162 0 33 (dk_at dksX5_pools_1 16 rfl rfl)
theorem dX5_pools_43 : decode cX5_pools 43 = .ok (.aload_n 0, 1) := dk_42 (dk_at dksX5_pools_1 19 rfl rfl)
theorem dX5_pools_44 : decode cX5_pools 44 = .ok (.getfield 90, 3) := dk_180 0 90 (dk_at dksX5_pools_1 20 rfl rfl)
theorem dX5_pools_47 : decode cX5_pools 47 = .ok (.iload 6, 2) := dk_21 6 (dk_at dksX5_pools_2 0 rfl rfl)
theorem dX5_pools_49 : decode cX5_pools 49 = .ok (.aload_n 0, 1) := dk_42 (dk_at dksX5_pools_2 2 rfl rfl)
theorem dX5_pools_50 : decode cX5_pools 50 = .ok (.iload_n 1, 1) := dk_27 (dk_at dksX5_pools_2 3 rfl rfl)
theorem dX5_pools_51 : decode cX5_pools 51 = .ok (.iload 6, 2) := dk_21 6 (dk_at dksX5_pools_2 4 rfl rfl)
theorem dX5_pools_53 : decode cX5_pools 53 = .ok (.invokevirtual 407, 3) := dk_182 1 151 (dk_at dksX5_pools_2 6 rfl rfl)
theorem dX5_pools_56 : decode cX5_pools 56 = .ok (.iload 5, 2) := dk_21 5 (dk_at dksX5_pools_2 9 rfl rfl)
theorem dX5_pools_58 : decode cX5_pools 58 = .ok (.if_icmp .ge 7, 3) := dk_162 0 7 (dk_at dksX5_pools_2 11 rfl rfl)
theorem dX5_pools_61 : decode cX5_pools 61 = .ok (.iconst 1, 1) := dk_4 (dk_at dksX5_pools_2 14 rfl rfl)
theorem dX5_pools_62 : decode cX5_pools 62 = .ok (.goto 4, 3) := dk_167 0 4 (dk_at dksX5_pools_2 15 rfl rfl)
theorem dX5_pools_65 : decode cX5_pools 65 = .ok (.iconst 0, 1) := dk_3 (dk_at dksX5_pools_2 18 rfl rfl)
theorem dX5_pools_66 : decode cX5_pools 66 = .ok (.bastore, 1) := dk_84 (dk_at dksX5_pools_2 19 rfl rfl)
theorem dX5_pools_67 : decode cX5_pools 67 = .ok (.iinc 6 1, 3) := dk_132 6 1 (dk_at dksX5_pools_2 20 rfl rfl)
theorem dX5_pools_70 : decode cX5_pools 70 = .ok (.goto (-34), 3) := dk_167 255 222 (dk_at dksX5_pools_3 0 rfl rfl)
theorem dX5_pools_73 : decode cX5_pools 73 = .ok (.aload_n 0, 1) := dk_42 (dk_at dksX5_pools_3 3 rfl rfl)
theorem dX5_pools_74 : decode cX5_pools 74 = .ok (.invokevirtual 370, 3) := dk_182 1 114 (dk_at dksX5_pools_3 4 rfl rfl)
theorem dX5_pools_77 : decode cX5_pools 77 = .ok (.iconst 0, 1) := dk_3 (dk_at dksX5_pools_3 7 rfl rfl)
theorem dX5_pools_78 : decode cX5_pools 78 = .ok (.istore 6, 2) := dk_54 6 (dk_at dksX5_pools_3 8 rfl rfl)
theorem dX5_pools_80 : decode cX5_pools 80 = .ok (.iload 6, 2) := dk_21 6 (dk_at dksX5_pools_3 10 rfl rfl)
theorem dX5_pools_82 : decode cX5_pools 82 = .ok (.bipush 48, 2) := dk_16 48 (dk_at dksX5_pools_3 12 rfl rfl)
theorem dX5_pools_84 : decode cX5_pools 84 = .ok (.if_icmp .ge 57, 3) := dk_162 0 57 (dk_at dksX5_pools_3 14 rfl rfl)
theorem dX5_pools_87 : decode cX5_pools 87 = .ok (.aload_n 0, 1) := dk_42 (dk_at dksX5_pools_3 17 rfl rfl)
theorem dX5_pools_88 : decode cX5_pools 88 = .ok (.getfield 90, 3) := dk_180 0 90 (dk_at dksX5_pools_3 18 rfl rfl)
theorem dX5_pools_91 : decode cX5_pools 91 = .ok (.iload 6, 2) := dk_21 6 (dk_at dksX5_pools_3 21 rfl rfl)
theorem dX5_pools_93 : decode cX5_pools 93 = .ok (.baload, 1) := dk_51 (dk_at dksX5_pools_3 23 rfl rfl)
theorem dX5_pools_94 : decode cX5_pools 94 = .ok (.ifCond .eq 41, 3) := dk_153 0 41 (dk_at dksX5_pools_4 0 rfl rfl)
theorem dX5_pools_97 : decode cX5_pools 97 = .ok (.aload_n 0, 1) := dk_42 (dk_at dksX5_pools_4 3 rfl rfl)
theorem dX5_pools_98 : decode cX5_pools 98 = .ok (.aload_n 0, 1) := dk_42 (dk_at dksX5_pools_4 4 rfl rfl)
theorem dX5_pools_99 : decode cX5_pools 99 = .ok (.getfield 93, 3) := dk_180 0 93 (dk_at dksX5_pools_4 5 rfl rfl)
theorem dX5_pools_102 : decode cX5_pools 102 = .ok (.iload 6, 2) := dk_21 6 (dk_at dksX5_pools_4 8 rfl rfl)
theorem dX5_pools_104 : decode cX5_pools 104 = .ok (.iaload, 1) := dk_46 (dk_at dksX5_pools_4 10 rfl rfl)
theorem dX5_pools_105 : decode cX5_pools 105 = .ok (.invokevirtual 425, 3) := dk_182 1 169 (dk_at dksX5_pools_4 11 rfl rfl)
theorem dX5_pools_108 : decode cX5_pools 108 = .ok (.ifCond .eq 27, 3) := dk_153 0 27 (dk_at dksX5_pools_4 14 rfl rfl)
theorem dX5_pools_111 : decode cX5_pools 111 = .ok (.iload_n 3, 1) := dk_29 (dk_at dksX5_pools_4 17 rfl rfl)
theorem dX5_pools_112 : decode cX5_pools 112 = .ok (.iconst 1, 1) := dk_4 (dk_at dksX5_pools_4 18 rfl rfl)
theorem dX5_pools_113 : decode cX5_pools 113 = .ok (.iadd, 1) := dk_96 (dk_at dksX5_pools_4 19 rfl rfl)
theorem dX5_pools_114 : decode cX5_pools 114 = .ok (.istore_n 3, 1) := dk_62 (dk_at dksX5_pools_4 20 rfl rfl)
theorem dX5_pools_115 : decode cX5_pools 115 = .ok (.aload_n 0, 1) := dk_42 (dk_at dksX5_pools_4 21 rfl rfl)
theorem dX5_pools_116 : decode cX5_pools 116 = .ok (.iload_n 1, 1) := dk_27 (dk_at dksX5_pools_4 22 rfl rfl)
theorem dX5_pools_117 : decode cX5_pools 117 = .ok (.iload 6, 2) := dk_21 6 (dk_at dksX5_pools_5 0 rfl rfl)
theorem dX5_pools_119 : decode cX5_pools 119 = .ok (.invokevirtual 407, 3) := dk_182 1 151 (dk_at dksX5_pools_5 2 rfl rfl)
theorem dX5_pools_122 : decode cX5_pools 122 = .ok (.iload 5, 2) := dk_21 5 (dk_at dksX5_pools_5 5 rfl rfl)
theorem dX5_pools_124 : decode cX5_pools 124 = .ok (.iconst 1, 1) := dk_4 (dk_at dksX5_pools_5 7 rfl rfl)
theorem dX5_pools_125 : decode cX5_pools 125 = .ok (.isub, 1) := dk_100 (dk_at dksX5_pools_5 8 rfl rfl)
theorem dX5_pools_126 : decode cX5_pools 126 = .ok (.if_icmp .ne 9, 3) := dk_160 0 9 (dk_at dksX5_pools_5 9 rfl rfl)
theorem dX5_pools_129 : decode cX5_pools 129 = .ok (.iload 4, 2) := dk_21 4 (dk_at dksX5_pools_5 12 rfl rfl)
theorem dX5_pools_131 : decode cX5_pools 131 = .ok (.iconst 1, 1) := dk_4 (dk_at dksX5_pools_5 14 rfl rfl)
theorem dX5_pools_132 : decode cX5_pools 132 = .ok (.iadd, 1) := dk_96 (dk_at dksX5_pools_5 15 rfl rfl)
theorem dX5_pools_133 : decode cX5_pools 133 = .ok (.istore 4, 2) := dk_54 4 (dk_at dksX5_pools_5 16 rfl rfl)
theorem dX5_pools_135 : decode cX5_pools 135 = .ok (.iinc 6 1, 3) := dk_132 6 1 (dk_at dksX5_pools_5 18 rfl rfl)
theorem dX5_pools_138 : decode cX5_pools 138 = .ok (.goto (-58), 3) := dk_167 255 198 (dk_at dksX5_pools_5 21 rfl rfl)
theorem dX5_pools_141 : decode cX5_pools 141 = .ok (.iinc 5 1, 3) := dk_132 5 1 (dk_at dksX5_pools_6 0 rfl rfl)
theorem dX5_pools_144 : decode cX5_pools 144 = .ok (.goto (-118), 3) := dk_167 255 138 (dk_at dksX5_pools_6 3 rfl rfl)
theorem dX5_pools_147 : decode cX5_pools 147 = .ok (.iload_n 2, 1) := dk_28 (dk_at dksX5_pools_6 6 rfl rfl)
theorem dX5_pools_148 : decode cX5_pools 148 = .ok (.ifCond .ne 7, 3) := dk_154 0 7 (dk_at dksX5_pools_6 7 rfl rfl)
theorem dX5_pools_151 : decode cX5_pools 151 = .ok (.iload_n 3, 1) := dk_29 (dk_at dksX5_pools_6 10 rfl rfl)
theorem dX5_pools_152 : decode cX5_pools 152 = .ok (.goto 5, 3) := dk_167 0 5 (dk_at dksX5_pools_6 11 rfl rfl)
theorem dX5_pools_155 : decode cX5_pools 155 = .ok (.iload 4, 2) := dk_21 4 (dk_at dksX5_pools_6 14 rfl rfl)
theorem dX5_pools_157 : decode cX5_pools 157 = .ok (.ireturn, 1) := dk_172 (dk_at dksX5_pools_6 16 rfl rfl)
abbrev cX5_staysIn : ByteArray := prog_19_method_109_code
def yX5_staysIn : MethodName := ⟨RX5, "staysIn", "(I)Z"⟩
def dkwX5_staysIn_1 : List UInt8 := [160, 0, 12, 28, 184, 1, 166, 153, 0, 5, 3, 172, 132, 2, 1, 167, 255, 219, 4, 172]
abbrev dktX5_staysIn_1 : List UInt8 := dkwX5_staysIn_1 ++ []
def dkwX5_staysIn_0 : List UInt8 := [3, 61, 28, 16, 48, 162, 0, 37, 42, 180, 0, 90, 28, 51, 153, 0, 22, 42, 180, 0, 93, 28, 46, 27]
abbrev dktX5_staysIn_0 : List UInt8 := dkwX5_staysIn_0 ++ dktX5_staysIn_1
theorem dksX5_staysIn_0 : cX5_staysIn.data.toList.drop 0 = dktX5_staysIn_0 := by decide +kernel
theorem dksX5_staysIn_1 : cX5_staysIn.data.toList.drop 24 = dktX5_staysIn_1 := dk_seg dksX5_staysIn_0 24 rfl rfl
theorem dX5_staysIn_0 : decode cX5_staysIn 0 = .ok (.iconst 0, 1) := dk_3 (dk_at dksX5_staysIn_0 0 rfl rfl)
theorem dX5_staysIn_1 : decode cX5_staysIn 1 = .ok (.istore_n 2, 1) := dk_61 (dk_at dksX5_staysIn_0 1 rfl rfl)
theorem dX5_staysIn_2 : decode cX5_staysIn 2 = .ok (.iload_n 2, 1) := dk_28 (dk_at dksX5_staysIn_0 2 rfl rfl)
theorem dX5_staysIn_3 : decode cX5_staysIn 3 = .ok (.bipush 48, 2) := dk_16 48 (dk_at dksX5_staysIn_0 3 rfl rfl)
theorem dX5_staysIn_5 : decode cX5_staysIn 5 = .ok (.if_icmp .ge 37, 3) := dk_162 0 37 (dk_at dksX5_staysIn_0 5 rfl rfl)
theorem dX5_staysIn_8 : decode cX5_staysIn 8 = .ok (.aload_n 0, 1) := dk_42 (dk_at dksX5_staysIn_0 8 rfl rfl)
theorem dX5_staysIn_9 : decode cX5_staysIn 9 = .ok (.getfield 90, 3) := dk_180 0 90 (dk_at dksX5_staysIn_0 9 rfl rfl)
theorem dX5_staysIn_12 : decode cX5_staysIn 12 = .ok (.iload_n 2, 1) := dk_28 (dk_at dksX5_staysIn_0 12 rfl rfl)
theorem dX5_staysIn_13 : decode cX5_staysIn 13 = .ok (.baload, 1) := dk_51 (dk_at dksX5_staysIn_0 13 rfl rfl)
theorem dX5_staysIn_14 : decode cX5_staysIn 14 = .ok (.ifCond .eq 22, 3) := dk_153 0 22 (dk_at dksX5_staysIn_0 14 rfl rfl)
theorem dX5_staysIn_17 : decode cX5_staysIn 17 = .ok (.aload_n 0, 1) := dk_42 (dk_at dksX5_staysIn_0 17 rfl rfl)
theorem dX5_staysIn_18 : decode cX5_staysIn 18 = .ok (.getfield 93, 3) := dk_180 0 93 (dk_at dksX5_staysIn_0 18 rfl rfl)
theorem dX5_staysIn_21 : decode cX5_staysIn 21 = .ok (.iload_n 2, 1) := dk_28 (dk_at dksX5_staysIn_0 21 rfl rfl)
theorem dX5_staysIn_22 : decode cX5_staysIn 22 = .ok (.iaload, 1) := dk_46 (dk_at dksX5_staysIn_0 22 rfl rfl)
theorem dX5_staysIn_23 : decode cX5_staysIn 23 = .ok (.iload_n 1, 1) := dk_27 (dk_at dksX5_staysIn_0 23 rfl rfl)
theorem dX5_staysIn_24 : decode cX5_staysIn 24 = .ok (.if_icmp .ne 12, 3) := dk_160 0 12 (dk_at dksX5_staysIn_1 0 rfl rfl)
theorem dX5_staysIn_27 : decode cX5_staysIn 27 = .ok (.iload_n 2, 1) := dk_28 (dk_at dksX5_staysIn_1 3 rfl rfl)
theorem dX5_staysIn_28 : decode cX5_staysIn 28 = .ok (.invokestatic 422, 3) := dk_184 1 166 (dk_at dksX5_staysIn_1 4 rfl rfl)
theorem dX5_staysIn_31 : decode cX5_staysIn 31 = .ok (.ifCond .eq 5, 3) := dk_153 0 5 (dk_at dksX5_staysIn_1 7 rfl rfl)
theorem dX5_staysIn_34 : decode cX5_staysIn 34 = .ok (.iconst 0, 1) := dk_3 (dk_at dksX5_staysIn_1 10 rfl rfl)
theorem dX5_staysIn_35 : decode cX5_staysIn 35 = .ok (.ireturn, 1) := dk_172 (dk_at dksX5_staysIn_1 11 rfl rfl)
theorem dX5_staysIn_36 : decode cX5_staysIn 36 = .ok (.iinc 2 1, 3) := dk_132 2 1 (dk_at dksX5_staysIn_1 12 rfl rfl)
theorem dX5_staysIn_39 : decode cX5_staysIn 39 = .ok (.goto (-37), 3) := dk_167 255 219 (dk_at dksX5_staysIn_1 15 rfl rfl)
theorem dX5_staysIn_42 : decode cX5_staysIn 42 = .ok (.iconst 1, 1) := dk_4 (dk_at dksX5_staysIn_1 18 rfl rfl)
theorem dX5_staysIn_43 : decode cX5_staysIn 43 = .ok (.ireturn, 1) := dk_172 (dk_at dksX5_staysIn_1 19 rfl rfl)
abbrev cX5_isRim : ByteArray := prog_19_method_108_code
def yX5_isRim : MethodName := ⟨RX5, "isRim", "(I)Z"⟩
def dkwX5_isRim_1 : List UInt8 := [16, 8, 108, 8, 160, 0, 7, 4, 167, 0, 4, 3, 172]
abbrev dktX5_isRim_1 : List UInt8 := dkwX5_isRim_1 ++ []
def dkwX5_isRim_0 : List UInt8 := [26, 16, 8, 112, 153, 0, 27, 26, 16, 8, 112, 16, 7, 159, 0, 18, 26, 16, 8, 108, 153, 0, 11, 26]
abbrev dktX5_isRim_0 : List UInt8 := dkwX5_isRim_0 ++ dktX5_isRim_1
theorem dksX5_isRim_0 : cX5_isRim.data.toList.drop 0 = dktX5_isRim_0 := by decide +kernel
theorem dksX5_isRim_1 : cX5_isRim.data.toList.drop 24 = dktX5_isRim_1 := dk_seg dksX5_isRim_0 24 rfl rfl
theorem dX5_isRim_0 : decode cX5_isRim 0 = .ok (.iload_n 0, 1) := dk_26 (dk_at dksX5_isRim_0 0 rfl rfl)
theorem dX5_isRim_1 : decode cX5_isRim 1 = .ok (.bipush 8, 2) := dk_16 8 (dk_at dksX5_isRim_0 1 rfl rfl)
theorem dX5_isRim_3 : decode cX5_isRim 3 = .ok (.irem, 1) := dk_112 (dk_at dksX5_isRim_0 3 rfl rfl)
theorem dX5_isRim_4 : decode cX5_isRim 4 = .ok (.ifCond .eq 27, 3) := dk_153 0 27 (dk_at dksX5_isRim_0 4 rfl rfl)
theorem dX5_isRim_7 : decode cX5_isRim 7 = .ok (.iload_n 0, 1) := dk_26 (dk_at dksX5_isRim_0 7 rfl rfl)
theorem dX5_isRim_8 : decode cX5_isRim 8 = .ok (.bipush 8, 2) := dk_16 8 (dk_at dksX5_isRim_0 8 rfl rfl)
theorem dX5_isRim_10 : decode cX5_isRim 10 = .ok (.irem, 1) := dk_112 (dk_at dksX5_isRim_0 10 rfl rfl)
theorem dX5_isRim_11 : decode cX5_isRim 11 = .ok (.bipush 7, 2) := dk_16 7 (dk_at dksX5_isRim_0 11 rfl rfl)
theorem dX5_isRim_13 : decode cX5_isRim 13 = .ok (.if_icmp .eq 18, 3) := dk_159 0 18 (dk_at dksX5_isRim_0 13 rfl rfl)
theorem dX5_isRim_16 : decode cX5_isRim 16 = .ok (.iload_n 0, 1) := dk_26 (dk_at dksX5_isRim_0 16 rfl rfl)
theorem dX5_isRim_17 : decode cX5_isRim 17 = .ok (.bipush 8, 2) := dk_16 8 (dk_at dksX5_isRim_0 17 rfl rfl)
theorem dX5_isRim_19 : decode cX5_isRim 19 = .ok (.idiv, 1) := dk_108 (dk_at dksX5_isRim_0 19 rfl rfl)
theorem dX5_isRim_20 : decode cX5_isRim 20 = .ok (.ifCond .eq 11, 3) := dk_153 0 11 (dk_at dksX5_isRim_0 20 rfl rfl)
theorem dX5_isRim_23 : decode cX5_isRim 23 = .ok (.iload_n 0, 1) := dk_26 (dk_at dksX5_isRim_0 23 rfl rfl)
theorem dX5_isRim_24 : decode cX5_isRim 24 = .ok (.bipush 8, 2) := dk_16 8 (dk_at dksX5_isRim_1 0 rfl rfl)
theorem dX5_isRim_26 : decode cX5_isRim 26 = .ok (.idiv, 1) := dk_108 (dk_at dksX5_isRim_1 2 rfl rfl)
theorem dX5_isRim_27 : decode cX5_isRim 27 = .ok (.iconst 5, 1) := dk_8 (dk_at dksX5_isRim_1 3 rfl rfl)
theorem dX5_isRim_28 : decode cX5_isRim 28 = .ok (.if_icmp .ne 7, 3) := dk_160 0 7 (dk_at dksX5_isRim_1 4 rfl rfl)
theorem dX5_isRim_31 : decode cX5_isRim 31 = .ok (.iconst 1, 1) := dk_4 (dk_at dksX5_isRim_1 7 rfl rfl)
theorem dX5_isRim_32 : decode cX5_isRim 32 = .ok (.goto 4, 3) := dk_167 0 4 (dk_at dksX5_isRim_1 8 rfl rfl)
theorem dX5_isRim_35 : decode cX5_isRim 35 = .ok (.iconst 0, 1) := dk_3 (dk_at dksX5_isRim_1 11 rfl rfl)
theorem dX5_isRim_36 : decode cX5_isRim 36 = .ok (.ireturn, 1) := dk_172 (dk_at dksX5_isRim_1 12 rfl rfl)
abbrev cX5_belongs : ByteArray := prog_19_method_112_code
def yX5_belongs : MethodName := ⟨RX5, "belongs", "(III)I"⟩
def dkwX5_belongs_8 : List UInt8 := [21, 5, 172]
abbrev dktX5_belongs_8 : List UInt8 := dkwX5_belongs_8 ++ []
def dkwX5_belongs_7 : List UInt8 := [3, 181, 0, 124, 21, 6, 154, 0, 8, 16, 253, 167, 0, 14, 29, 154, 0, 8, 21, 4, 167, 0, 5]
abbrev dktX5_belongs_7 : List UInt8 := dkwX5_belongs_7 ++ dktX5_belongs_8
def dkwX5_belongs_6 : List UInt8 := [54, 4, 21, 5, 21, 9, 184, 0, 239, 54, 5, 132, 8, 1, 167, 255, 216, 132, 7, 1, 167, 255, 195, 42]
abbrev dktX5_belongs_6 : List UInt8 := dkwX5_belongs_6 ++ dktX5_belongs_7
def dkwX5_belongs_5 : List UInt8 := [163, 0, 40, 42, 21, 7, 28, 21, 8, 182, 1, 172, 54, 9, 21, 9, 21, 5, 162, 0, 7, 21, 7]
abbrev dktX5_belongs_5 : List UInt8 := dkwX5_belongs_5 ++ dktX5_belongs_6
def dkwX5_belongs_4 : List UInt8 := [167, 255, 221, 3, 54, 7, 21, 7, 27, 162, 0, 61, 21, 6, 153, 0, 56, 16, 254, 54, 8, 21, 8, 5]
abbrev dktX5_belongs_4 : List UInt8 := dkwX5_belongs_4 ++ dktX5_belongs_5
def dkwX5_belongs_3 : List UInt8 := [153, 0, 18, 42, 21, 7, 182, 1, 89, 16, 25, 163, 0, 7, 4, 167, 0, 4, 3, 54, 6, 132, 7, 1]
abbrev dktX5_belongs_3 : List UInt8 := dkwX5_belongs_3 ++ dktX5_belongs_4
def dkwX5_belongs_2 : List UInt8 := [19, 1, 46, 54, 5, 4, 54, 6, 3, 54, 7, 21, 7, 16, 8, 27, 104, 162, 0, 32, 21, 6]
abbrev dktX5_belongs_2 : List UInt8 := dkwX5_belongs_2 ++ dktX5_belongs_3
def dkwX5_belongs_1 : List UInt8 := [184, 0, 112, 153, 0, 14, 16, 8, 27, 104, 42, 180, 0, 124, 164, 0, 5, 2, 172, 3, 54, 4]
abbrev dktX5_belongs_1 : List UInt8 := dkwX5_belongs_1 ++ dktX5_belongs_2
def dkwX5_belongs_0 : List UInt8 := [27, 4, 16, 16, 184, 0, 112, 153, 0, 32, 28, 3, 8, 184, 0, 112, 153, 0, 23, 29, 3, 4]
abbrev dktX5_belongs_0 : List UInt8 := dkwX5_belongs_0 ++ dktX5_belongs_1
theorem dksX5_belongs_0 : cX5_belongs.data.toList.drop 0 = dktX5_belongs_0 := by decide +kernel
theorem dksX5_belongs_1 : cX5_belongs.data.toList.drop 22 = dktX5_belongs_1 := dk_seg dksX5_belongs_0 22 rfl rfl
theorem dksX5_belongs_2 : cX5_belongs.data.toList.drop 44 = dktX5_belongs_2 := dk_seg dksX5_belongs_1 22 rfl rfl
theorem dksX5_belongs_3 : cX5_belongs.data.toList.drop 66 = dktX5_belongs_3 := dk_seg dksX5_belongs_2 22 rfl rfl
theorem dksX5_belongs_4 : cX5_belongs.data.toList.drop 90 = dktX5_belongs_4 := dk_seg dksX5_belongs_3 24 rfl rfl
theorem dksX5_belongs_5 : cX5_belongs.data.toList.drop 114 = dktX5_belongs_5 := dk_seg dksX5_belongs_4 24 rfl rfl
theorem dksX5_belongs_6 : cX5_belongs.data.toList.drop 137 = dktX5_belongs_6 := dk_seg dksX5_belongs_5 23 rfl rfl
theorem dksX5_belongs_7 : cX5_belongs.data.toList.drop 161 = dktX5_belongs_7 := dk_seg dksX5_belongs_6 24 rfl rfl
theorem dksX5_belongs_8 : cX5_belongs.data.toList.drop 184 = dktX5_belongs_8 := dk_seg dksX5_belongs_7 23 rfl rfl
theorem dX5_belongs_0 : decode cX5_belongs 0 = .ok (.iload_n 1, 1) := dk_27 (dk_at dksX5_belongs_0 0 rfl rfl)
theorem dX5_belongs_1 : decode cX5_belongs 1 = .ok (.iconst 1, 1) := dk_4 (dk_at dksX5_belongs_0 1 rfl rfl)
theorem dX5_belongs_2 : decode cX5_belongs 2 = .ok (.bipush 16, 2) := dk_16 16 (dk_at dksX5_belongs_0 2 rfl rfl)
theorem dX5_belongs_4 : decode cX5_belongs 4 = .ok (.invokestatic 112, 3) := dk_184 0 112 (dk_at dksX5_belongs_0 4 rfl rfl)
theorem dX5_belongs_7 : decode cX5_belongs 7 = .ok (.ifCond .eq 32, 3) := dk_153 0 32 (dk_at dksX5_belongs_0 7 rfl rfl)
theorem dX5_belongs_10 : decode cX5_belongs 10 = .ok (.iload_n 2, 1) := dk_28 (dk_at dksX5_belongs_0 10 rfl rfl)
theorem dX5_belongs_11 : decode cX5_belongs 11 = .ok (.iconst 0, 1) := dk_3 (dk_at dksX5_belongs_0 11 rfl rfl)
theorem dX5_belongs_12 : decode cX5_belongs 12 = .ok (.iconst 5, 1) := dk_8 (dk_at dksX5_belongs_0 12 rfl rfl)
theorem dX5_belongs_13 : decode cX5_belongs 13 = .ok (.invokestatic 112, 3) := dk_184 0 112 (dk_at dksX5_belongs_0 13 rfl rfl)
theorem dX5_belongs_16 : decode cX5_belongs 16 = .ok (.ifCond .eq 23, 3) := dk_153 0 23 (dk_at dksX5_belongs_0 16 rfl rfl)
theorem dX5_belongs_19 : decode cX5_belongs 19 = .ok (.iload_n 3, 1) := dk_29 (dk_at dksX5_belongs_0 19 rfl rfl)
theorem dX5_belongs_20 : decode cX5_belongs 20 = .ok (.iconst 0, 1) := dk_3 (dk_at dksX5_belongs_0 20 rfl rfl)
theorem dX5_belongs_21 : decode cX5_belongs 21 = .ok (.iconst 1, 1) := dk_4 (dk_at dksX5_belongs_0 21 rfl rfl)
theorem dX5_belongs_22 : decode cX5_belongs 22 = .ok (.invokestatic 112, 3) := dk_184 0 112 (dk_at dksX5_belongs_1 0 rfl rfl)
theorem dX5_belongs_25 : decode cX5_belongs 25 = .ok (.ifCond .eq 14, 3) := dk_153 0 14 (dk_at dksX5_belongs_1 3 rfl rfl)
theorem dX5_belongs_28 : decode cX5_belongs 28 = .ok (.bipush 8, 2) := dk_16 8 (dk_at dksX5_belongs_1 6 rfl rfl)
theorem dX5_belongs_30 : decode cX5_belongs 30 = .ok (.iload_n 1, 1) := dk_27 (dk_at dksX5_belongs_1 8 rfl rfl)
theorem dX5_belongs_31 : decode cX5_belongs 31 = .ok (.imul, 1) := dk_104 (dk_at dksX5_belongs_1 9 rfl rfl)
theorem dX5_belongs_32 : decode cX5_belongs 32 = .ok (.aload_n 0, 1) := dk_42 (dk_at dksX5_belongs_1 10 rfl rfl)
theorem dX5_belongs_33 : decode cX5_belongs 33 = .ok (.getfield 124, 3) := dk_180 0 124 (dk_at dksX5_belongs_1 11 rfl rfl)
theorem dX5_belongs_36 : decode cX5_belongs 36 = .ok (.if_icmp .le 5, 3) := dk_164 0 5 (dk_at dksX5_belongs_1 14 rfl rfl)
theorem dX5_belongs_39 : decode cX5_belongs 39 = .ok (.iconst (-1), 1) := dk_2 (dk_at dksX5_belongs_1 17 rfl rfl)
theorem dX5_belongs_40 : decode cX5_belongs 40 = .ok (.ireturn, 1) := dk_172 (dk_at dksX5_belongs_1 18 rfl rfl)
theorem dX5_belongs_41 : decode cX5_belongs 41 = .ok (.iconst 0, 1) := dk_3 (dk_at dksX5_belongs_1 19 rfl rfl)
theorem dX5_belongs_42 : decode cX5_belongs 42 = .ok (.istore 4, 2) := dk_54 4 (dk_at dksX5_belongs_1 20 rfl rfl)
theorem dX5_belongs_44 : decode cX5_belongs 44 = .ok (.ldc_w 302, 3) := dk_19 1 46 (dk_at dksX5_belongs_2 0 rfl rfl)
theorem dX5_belongs_47 : decode cX5_belongs 47 = .ok (.istore 5, 2) := dk_54 5 (dk_at dksX5_belongs_2 3 rfl rfl)
theorem dX5_belongs_49 : decode cX5_belongs 49 = .ok (.iconst 1, 1) := dk_4 (dk_at dksX5_belongs_2 5 rfl rfl)
theorem dX5_belongs_50 : decode cX5_belongs 50 = .ok (.istore 6, 2) := dk_54 6 (dk_at dksX5_belongs_2 6 rfl rfl)
theorem dX5_belongs_52 : decode cX5_belongs 52 = .ok (.iconst 0, 1) := dk_3 (dk_at dksX5_belongs_2 8 rfl rfl)
theorem dX5_belongs_53 : decode cX5_belongs 53 = .ok (.istore 7, 2) := dk_54 7 (dk_at dksX5_belongs_2 9 rfl rfl)
theorem dX5_belongs_55 : decode cX5_belongs 55 = .ok (.iload 7, 2) := dk_21 7 (dk_at dksX5_belongs_2 11 rfl rfl)
theorem dX5_belongs_57 : decode cX5_belongs 57 = .ok (.bipush 8, 2) := dk_16 8 (dk_at dksX5_belongs_2 13 rfl rfl)
theorem dX5_belongs_59 : decode cX5_belongs 59 = .ok (.iload_n 1, 1) := dk_27 (dk_at dksX5_belongs_2 15 rfl rfl)
theorem dX5_belongs_60 : decode cX5_belongs 60 = .ok (.imul, 1) := dk_104 (dk_at dksX5_belongs_2 16 rfl rfl)
theorem dX5_belongs_61 : decode cX5_belongs 61 = .ok (.if_icmp .ge 32, 3) := dk_162 0 32 (dk_at dksX5_belongs_2 17 rfl rfl)
theorem dX5_belongs_64 : decode cX5_belongs 64 = .ok (.iload 6, 2) := dk_21 6 (dk_at dksX5_belongs_2 20 rfl rfl)
theorem dX5_belongs_66 : decode cX5_belongs 66 = .ok (.ifCond .eq 18, 3) := dk_153 0 18 (dk_at dksX5_belongs_3 0 rfl rfl)
theorem dX5_belongs_69 : decode cX5_belongs 69 = .ok (.aload_n 0, 1) := dk_42 (dk_at dksX5_belongs_3 3 rfl rfl)
theorem dX5_belongs_70 : decode cX5_belongs 70 = .ok (.iload 7, 2) := dk_21 7 (dk_at dksX5_belongs_3 4 rfl rfl)
theorem dX5_belongs_72 : decode cX5_belongs 72 = .ok (.invokevirtual 345, 3) := dk_182 1 89 (dk_at dksX5_belongs_3 6 rfl rfl)
theorem dX5_belongs_75 : decode cX5_belongs 75 = .ok (.bipush 25, 2) := dk_16 25 (dk_at dksX5_belongs_3 9 rfl rfl)
theorem dX5_belongs_77 : decode cX5_belongs 77 = .ok (.if_icmp .gt 7, 3) := dk_163 0 7 (dk_at dksX5_belongs_3 11 rfl rfl)
theorem dX5_belongs_80 : decode cX5_belongs 80 = .ok (.iconst 1, 1) := dk_4 (dk_at dksX5_belongs_3 14 rfl rfl)
theorem dX5_belongs_81 : decode cX5_belongs 81 = .ok (.goto 4, 3) := dk_167 0 4 (dk_at dksX5_belongs_3 15 rfl rfl)
theorem dX5_belongs_84 : decode cX5_belongs 84 = .ok (.iconst 0, 1) := dk_3 (dk_at dksX5_belongs_3 18 rfl rfl)
theorem dX5_belongs_85 : decode cX5_belongs 85 = .ok (.istore 6, 2) := dk_54 6 (dk_at dksX5_belongs_3 19 rfl rfl)
theorem dX5_belongs_87 : decode cX5_belongs 87 = .ok (.iinc 7 1, 3) := dk_132 7 1 (dk_at dksX5_belongs_3 21 rfl rfl)
theorem dX5_belongs_90 : decode cX5_belongs 90 = .ok (.goto (-35), 3) := dk_167 255 221 (dk_at dksX5_belongs_4 0 rfl rfl)
theorem dX5_belongs_93 : decode cX5_belongs 93 = .ok (.iconst 0, 1) := dk_3 (dk_at dksX5_belongs_4 3 rfl rfl)
theorem dX5_belongs_94 : decode cX5_belongs 94 = .ok (.istore 7, 2) := dk_54 7 (dk_at dksX5_belongs_4 4 rfl rfl)
theorem dX5_belongs_96 : decode cX5_belongs 96 = .ok (.iload 7, 2) := dk_21 7 (dk_at dksX5_belongs_4 6 rfl rfl)
theorem dX5_belongs_98 : decode cX5_belongs 98 = .ok (.iload_n 1, 1) := dk_27 (dk_at dksX5_belongs_4 8 rfl rfl)
theorem dX5_belongs_99 : decode cX5_belongs 99 = .ok (.if_icmp .ge 61, 3) := dk_162 0 61 (dk_at dksX5_belongs_4 9 rfl rfl)
theorem dX5_belongs_102 : decode cX5_belongs 102 = .ok (.iload 6, 2) := dk_21 6 (dk_at dksX5_belongs_4 12 rfl rfl)
theorem dX5_belongs_104 : decode cX5_belongs 104 = .ok (.ifCond .eq 56, 3) := dk_153 0 56 (dk_at dksX5_belongs_4 14 rfl rfl)
theorem dX5_belongs_107 : decode cX5_belongs 107 = .ok (.bipush (-2), 2) := dk_16 254 (dk_at dksX5_belongs_4 17 rfl rfl)
theorem dX5_belongs_109 : decode cX5_belongs 109 = .ok (.istore 8, 2) := dk_54 8 (dk_at dksX5_belongs_4 19 rfl rfl)
theorem dX5_belongs_111 : decode cX5_belongs 111 = .ok (.iload 8, 2) := dk_21 8 (dk_at dksX5_belongs_4 21 rfl rfl)
theorem dX5_belongs_113 : decode cX5_belongs 113 = .ok (.iconst 2, 1) := dk_5 (dk_at dksX5_belongs_4 23 rfl rfl)
theorem dX5_belongs_114 : decode cX5_belongs 114 = .ok (.if_icmp .gt 40, 3) := dk_163 0 40 (dk_at dksX5_belongs_5 0 rfl rfl)
theorem dX5_belongs_117 : decode cX5_belongs 117 = .ok (.aload_n 0, 1) := dk_42 (dk_at dksX5_belongs_5 3 rfl rfl)
theorem dX5_belongs_118 : decode cX5_belongs 118 = .ok (.iload 7, 2) := dk_21 7 (dk_at dksX5_belongs_5 4 rfl rfl)
theorem dX5_belongs_120 : decode cX5_belongs 120 = .ok (.iload_n 2, 1) := dk_28 (dk_at dksX5_belongs_5 6 rfl rfl)
theorem dX5_belongs_121 : decode cX5_belongs 121 = .ok (.iload 8, 2) := dk_21 8 (dk_at dksX5_belongs_5 7 rfl rfl)
theorem dX5_belongs_123 : decode cX5_belongs 123 = .ok (.invokevirtual 428, 3) := dk_182 1 172 (dk_at dksX5_belongs_5 9 rfl rfl)
theorem dX5_belongs_126 : decode cX5_belongs 126 = .ok (.istore 9, 2) := dk_54 9 (dk_at dksX5_belongs_5 12 rfl rfl)
theorem dX5_belongs_128 : decode cX5_belongs 128 = .ok (.iload 9, 2) := dk_21 9 (dk_at dksX5_belongs_5 14 rfl rfl)
theorem dX5_belongs_130 : decode cX5_belongs 130 = .ok (.iload 5, 2) := dk_21 5 (dk_at dksX5_belongs_5 16 rfl rfl)
theorem dX5_belongs_132 : decode cX5_belongs 132 = .ok (.if_icmp .ge 7, 3) := dk_162 0 7 (dk_at dksX5_belongs_5 18 rfl rfl)
theorem dX5_belongs_135 : decode cX5_belongs 135 = .ok (.iload 7, 2) := dk_21 7 (dk_at dksX5_belongs_5 21 rfl rfl)
theorem dX5_belongs_137 : decode cX5_belongs 137 = .ok (.istore 4, 2) := dk_54 4 (dk_at dksX5_belongs_6 0 rfl rfl)
theorem dX5_belongs_139 : decode cX5_belongs 139 = .ok (.iload 5, 2) := dk_21 5 (dk_at dksX5_belongs_6 2 rfl rfl)
theorem dX5_belongs_141 : decode cX5_belongs 141 = .ok (.iload 9, 2) := dk_21 9 (dk_at dksX5_belongs_6 4 rfl rfl)
theorem dX5_belongs_143 : decode cX5_belongs 143 = .ok (.invokestatic 239, 3) := dk_184 0 239 (dk_at dksX5_belongs_6 6 rfl rfl)
theorem dX5_belongs_146 : decode cX5_belongs 146 = .ok (.istore 5, 2) := dk_54 5 (dk_at dksX5_belongs_6 9 rfl rfl)
theorem dX5_belongs_148 : decode cX5_belongs 148 = .ok (.iinc 8 1, 3) := dk_132 8 1 (dk_at dksX5_belongs_6 11 rfl rfl)
theorem dX5_belongs_151 : decode cX5_belongs 151 = .ok (.goto (-40), 3) := dk_167 255 216 (dk_at dksX5_belongs_6 14 rfl rfl)
theorem dX5_belongs_154 : decode cX5_belongs 154 = .ok (.iinc 7 1, 3) := dk_132 7 1 (dk_at dksX5_belongs_6 17 rfl rfl)
theorem dX5_belongs_157 : decode cX5_belongs 157 = .ok (.goto (-61), 3) := dk_167 255 195 (dk_at dksX5_belongs_6 20 rfl rfl)
theorem dX5_belongs_160 : decode cX5_belongs 160 = .ok (.aload_n 0, 1) := dk_42 (dk_at dksX5_belongs_6 23 rfl rfl)
theorem dX5_belongs_161 : decode cX5_belongs 161 = .ok (.iconst 0, 1) := dk_3 (dk_at dksX5_belongs_7 0 rfl rfl)
theorem dX5_belongs_162 : decode cX5_belongs 162 = .ok (.putfield 124, 3) := dk_181 0 124 (dk_at dksX5_belongs_7 1 rfl rfl)
theorem dX5_belongs_165 : decode cX5_belongs 165 = .ok (.iload 6, 2) := dk_21 6 (dk_at dksX5_belongs_7 4 rfl rfl)
theorem dX5_belongs_167 : decode cX5_belongs 167 = .ok (.ifCond .ne 8, 3) := dk_154 0 8 (dk_at dksX5_belongs_7 6 rfl rfl)
theorem dX5_belongs_170 : decode cX5_belongs 170 = .ok (.bipush (-3), 2) := dk_16 253 (dk_at dksX5_belongs_7 9 rfl rfl)
theorem dX5_belongs_172 : decode cX5_belongs 172 = .ok (.goto 14, 3) := dk_167 0 14 (dk_at dksX5_belongs_7 11 rfl rfl)
theorem dX5_belongs_175 : decode cX5_belongs 175 = .ok (.iload_n 3, 1) := dk_29 (dk_at dksX5_belongs_7 14 rfl rfl)
theorem dX5_belongs_176 : decode cX5_belongs 176 = .ok (.ifCond .ne 8, 3) := dk_154 0 8 (dk_at dksX5_belongs_7 15 rfl rfl)
theorem dX5_belongs_179 : decode cX5_belongs 179 = .ok (.iload 4, 2) := dk_21 4 (dk_at dksX5_belongs_7 18 rfl rfl)
theorem dX5_belongs_181 : decode cX5_belongs 181 = .ok (.goto 5, 3) := dk_167 0 5 (dk_at dksX5_belongs_7 20 rfl rfl)
theorem dX5_belongs_184 : decode cX5_belongs 184 = .ok (.iload 5, 2) := dk_21 5 (dk_at dksX5_belongs_8 0 rfl rfl)
theorem dX5_belongs_186 : decode cX5_belongs 186 = .ok (.ireturn, 1) := dk_172 (dk_at dksX5_belongs_8 2 rfl rfl)
abbrev cX5_gapsMoved : ByteArray := prog_19_method_111_code
def yX5_gapsMoved : MethodName := ⟨RX5, "gapsMoved", "(III)I"⟩
def dkwX5_gapsMoved_3 : List UInt8 := [96, 54, 5, 21, 6, 4, 96, 54, 6, 132, 7, 1, 167, 255, 184, 21, 6, 21, 4, 104, 21, 5, 100, 172]
abbrev dktX5_gapsMoved_3 : List UInt8 := dkwX5_gapsMoved_3 ++ []
def dkwX5_gapsMoved_2 : List UInt8 := [21, 7, 96, 29, 96, 182, 1, 34, 96, 54, 8, 21, 4, 21, 8, 184, 0, 242, 54, 4, 21, 5, 21, 8]
abbrev dktX5_gapsMoved_2 : List UInt8 := dkwX5_gapsMoved_2 ++ dktX5_gapsMoved_3
def dkwX5_gapsMoved_1 : List UInt8 := [16, 7, 184, 0, 112, 153, 0, 52, 42, 16, 8, 27, 104, 21, 7, 96, 182, 1, 89, 42, 16, 8, 28, 104]
abbrev dktX5_gapsMoved_1 : List UInt8 := dkwX5_gapsMoved_1 ++ dktX5_gapsMoved_2
def dkwX5_gapsMoved_0 : List UInt8 := [3, 54, 4, 3, 54, 5, 3, 54, 6, 3, 54, 7, 21, 7, 16, 8, 162, 0, 71, 21, 7, 29, 96, 3]
abbrev dktX5_gapsMoved_0 : List UInt8 := dkwX5_gapsMoved_0 ++ dktX5_gapsMoved_1
theorem dksX5_gapsMoved_0 : cX5_gapsMoved.data.toList.drop 0 = dktX5_gapsMoved_0 := by decide +kernel
theorem dksX5_gapsMoved_1 : cX5_gapsMoved.data.toList.drop 24 = dktX5_gapsMoved_1 := dk_seg dksX5_gapsMoved_0 24 rfl rfl
theorem dksX5_gapsMoved_2 : cX5_gapsMoved.data.toList.drop 48 = dktX5_gapsMoved_2 := dk_seg dksX5_gapsMoved_1 24 rfl rfl
theorem dksX5_gapsMoved_3 : cX5_gapsMoved.data.toList.drop 72 = dktX5_gapsMoved_3 := dk_seg dksX5_gapsMoved_2 24 rfl rfl
theorem dX5_gapsMoved_0 : decode cX5_gapsMoved 0 = .ok (.iconst 0, 1) := dk_3 (dk_at dksX5_gapsMoved_0 0 rfl rfl)
theorem dX5_gapsMoved_1 : decode cX5_gapsMoved 1 = .ok (.istore 4, 2) := dk_54 4 (dk_at dksX5_gapsMoved_0 1 rfl rfl)
theorem dX5_gapsMoved_3 : decode cX5_gapsMoved 3 = .ok (.iconst 0, 1) := dk_3 (dk_at dksX5_gapsMoved_0 3 rfl rfl)
theorem dX5_gapsMoved_4 : decode cX5_gapsMoved 4 = .ok (.istore 5, 2) := dk_54 5 (dk_at dksX5_gapsMoved_0 4 rfl rfl)
theorem dX5_gapsMoved_6 : decode cX5_gapsMoved 6 = .ok (.iconst 0, 1) := dk_3 (dk_at dksX5_gapsMoved_0 6 rfl rfl)
theorem dX5_gapsMoved_7 : decode cX5_gapsMoved 7 = .ok (.istore 6, 2) := dk_54 6 (dk_at dksX5_gapsMoved_0 7 rfl rfl)
theorem dX5_gapsMoved_9 : decode cX5_gapsMoved 9 = .ok (.iconst 0, 1) := dk_3 (dk_at dksX5_gapsMoved_0 9 rfl rfl)
theorem dX5_gapsMoved_10 : decode cX5_gapsMoved 10 = .ok (.istore 7, 2) := dk_54 7 (dk_at dksX5_gapsMoved_0 10 rfl rfl)
theorem dX5_gapsMoved_12 : decode cX5_gapsMoved 12 = .ok (.iload 7, 2) := dk_21 7 (dk_at dksX5_gapsMoved_0 12 rfl rfl)
theorem dX5_gapsMoved_14 : decode cX5_gapsMoved 14 = .ok (.bipush 8, 2) := dk_16 8 (dk_at dksX5_gapsMoved_0 14 rfl rfl)
theorem dX5_gapsMoved_16 : decode cX5_gapsMoved 16 = .ok (.if_icmp .ge 71, 3) := dk_162 0 71 (dk_at dksX5_gapsMoved_0 16 rfl rfl)
theorem dX5_gapsMoved_19 : decode cX5_gapsMoved 19 = .ok (.iload 7, 2) := dk_21 7 (dk_at dksX5_gapsMoved_0 19 rfl rfl)
theorem dX5_gapsMoved_21 : decode cX5_gapsMoved 21 = .ok (.iload_n 3, 1) := dk_29 (dk_at dksX5_gapsMoved_0 21 rfl rfl)
theorem dX5_gapsMoved_22 : decode cX5_gapsMoved 22 = .ok (.iadd, 1) := dk_96 (dk_at dksX5_gapsMoved_0 22 rfl rfl)
theorem dX5_gapsMoved_23 : decode cX5_gapsMoved 23 = .ok (.iconst 0, 1) := dk_3 (dk_at dksX5_gapsMoved_0 23 rfl rfl)
theorem dX5_gapsMoved_24 : decode cX5_gapsMoved 24 = .ok (.bipush 7, 2) := dk_16 7 (dk_at dksX5_gapsMoved_1 0 rfl rfl)
theorem dX5_gapsMoved_26 : decode cX5_gapsMoved 26 = .ok (.invokestatic 112, 3) := dk_184 0 112 (dk_at dksX5_gapsMoved_1 2 rfl rfl)
theorem dX5_gapsMoved_29 : decode cX5_gapsMoved 29 = .ok (.ifCond .eq 52, 3) := dk_153 0 52 (dk_at dksX5_gapsMoved_1 5 rfl rfl)
theorem dX5_gapsMoved_32 : decode cX5_gapsMoved 32 = .ok (.aload_n 0, 1) := dk_42 (dk_at dksX5_gapsMoved_1 8 rfl rfl)
theorem dX5_gapsMoved_33 : decode cX5_gapsMoved 33 = .ok (.bipush 8, 2) := dk_16 8 (dk_at dksX5_gapsMoved_1 9 rfl rfl)
theorem dX5_gapsMoved_35 : decode cX5_gapsMoved 35 = .ok (.iload_n 1, 1) := dk_27 (dk_at dksX5_gapsMoved_1 11 rfl rfl)
theorem dX5_gapsMoved_36 : decode cX5_gapsMoved 36 = .ok (.imul, 1) := dk_104 (dk_at dksX5_gapsMoved_1 12 rfl rfl)
theorem dX5_gapsMoved_37 : decode cX5_gapsMoved 37 = .ok (.iload 7, 2) := dk_21 7 (dk_at dksX5_gapsMoved_1 13 rfl rfl)
theorem dX5_gapsMoved_39 : decode cX5_gapsMoved 39 = .ok (.iadd, 1) := dk_96 (dk_at dksX5_gapsMoved_1 15 rfl rfl)
theorem dX5_gapsMoved_40 : decode cX5_gapsMoved 40 = .ok (.invokevirtual 345, 3) := dk_182 1 89 (dk_at dksX5_gapsMoved_1 16 rfl rfl)
theorem dX5_gapsMoved_43 : decode cX5_gapsMoved 43 = .ok (.aload_n 0, 1) := dk_42 (dk_at dksX5_gapsMoved_1 19 rfl rfl)
theorem dX5_gapsMoved_44 : decode cX5_gapsMoved 44 = .ok (.bipush 8, 2) := dk_16 8 (dk_at dksX5_gapsMoved_1 20 rfl rfl)
theorem dX5_gapsMoved_46 : decode cX5_gapsMoved 46 = .ok (.iload_n 2, 1) := dk_28 (dk_at dksX5_gapsMoved_1 22 rfl rfl)
theorem dX5_gapsMoved_47 : decode cX5_gapsMoved 47 = .ok (.imul, 1) := dk_104 (dk_at dksX5_gapsMoved_1 23 rfl rfl)
theorem dX5_gapsMoved_48 : decode cX5_gapsMoved 48 = .ok (.iload 7, 2) := dk_21 7 (dk_at dksX5_gapsMoved_2 0 rfl rfl)
theorem dX5_gapsMoved_50 : decode cX5_gapsMoved 50 = .ok (.iadd, 1) := dk_96 (dk_at dksX5_gapsMoved_2 2 rfl rfl)
theorem dX5_gapsMoved_51 : decode cX5_gapsMoved 51 = .ok (.iload_n 3, 1) := dk_29 (dk_at dksX5_gapsMoved_2 3 rfl rfl)
theorem dX5_gapsMoved_52 : decode cX5_gapsMoved 52 = .ok (.iadd, 1) := dk_96 (dk_at dksX5_gapsMoved_2 4 rfl rfl)
theorem dX5_gapsMoved_53 : decode cX5_gapsMoved 53 = .ok (.invokevirtual 290, 3) := dk_182 1 34 (dk_at dksX5_gapsMoved_2 5 rfl rfl)
theorem dX5_gapsMoved_56 : decode cX5_gapsMoved 56 = .ok (.iadd, 1) := dk_96 (dk_at dksX5_gapsMoved_2 8 rfl rfl)
theorem dX5_gapsMoved_57 : decode cX5_gapsMoved 57 = .ok (.istore 8, 2) := dk_54 8 (dk_at dksX5_gapsMoved_2 9 rfl rfl)
theorem dX5_gapsMoved_59 : decode cX5_gapsMoved 59 = .ok (.iload 4, 2) := dk_21 4 (dk_at dksX5_gapsMoved_2 11 rfl rfl)
theorem dX5_gapsMoved_61 : decode cX5_gapsMoved 61 = .ok (.iload 8, 2) := dk_21 8 (dk_at dksX5_gapsMoved_2 13 rfl rfl)
theorem dX5_gapsMoved_63 : decode cX5_gapsMoved 63 = .ok (.invokestatic 242, 3) := dk_184 0 242 (dk_at dksX5_gapsMoved_2 15 rfl rfl)
theorem dX5_gapsMoved_66 : decode cX5_gapsMoved 66 = .ok (.istore 4, 2) := dk_54 4 (dk_at dksX5_gapsMoved_2 18 rfl rfl)
theorem dX5_gapsMoved_68 : decode cX5_gapsMoved 68 = .ok (.iload 5, 2) := dk_21 5 (dk_at dksX5_gapsMoved_2 20 rfl rfl)
theorem dX5_gapsMoved_70 : decode cX5_gapsMoved 70 = .ok (.iload 8, 2) := dk_21 8 (dk_at dksX5_gapsMoved_2 22 rfl rfl)
theorem dX5_gapsMoved_72 : decode cX5_gapsMoved 72 = .ok (.iadd, 1) := dk_96 (dk_at dksX5_gapsMoved_3 0 rfl rfl)
theorem dX5_gapsMoved_73 : decode cX5_gapsMoved 73 = .ok (.istore 5, 2) := dk_54 5 (dk_at dksX5_gapsMoved_3 1 rfl rfl)
theorem dX5_gapsMoved_75 : decode cX5_gapsMoved 75 = .ok (.iload 6, 2) := dk_21 6 (dk_at dksX5_gapsMoved_3 3 rfl rfl)
theorem dX5_gapsMoved_77 : decode cX5_gapsMoved 77 = .ok (.iconst 1, 1) := dk_4 (dk_at dksX5_gapsMoved_3 5 rfl rfl)
theorem dX5_gapsMoved_78 : decode cX5_gapsMoved 78 = .ok (.iadd, 1) := dk_96 (dk_at dksX5_gapsMoved_3 6 rfl rfl)
theorem dX5_gapsMoved_79 : decode cX5_gapsMoved 79 = .ok (.istore 6, 2) := dk_54 6 (dk_at dksX5_gapsMoved_3 7 rfl rfl)
theorem dX5_gapsMoved_81 : decode cX5_gapsMoved 81 = .ok (.iinc 7 1, 3) := dk_132 7 1 (dk_at dksX5_gapsMoved_3 9 rfl rfl)
theorem dX5_gapsMoved_84 : decode cX5_gapsMoved 84 = .ok (.goto (-72), 3) := dk_167 255 184 (dk_at dksX5_gapsMoved_3 12 rfl rfl)
theorem dX5_gapsMoved_87 : decode cX5_gapsMoved 87 = .ok (.iload 6, 2) := dk_21 6 (dk_at dksX5_gapsMoved_3 15 rfl rfl)
theorem dX5_gapsMoved_89 : decode cX5_gapsMoved 89 = .ok (.iload 4, 2) := dk_21 4 (dk_at dksX5_gapsMoved_3 17 rfl rfl)
theorem dX5_gapsMoved_91 : decode cX5_gapsMoved 91 = .ok (.imul, 1) := dk_104 (dk_at dksX5_gapsMoved_3 19 rfl rfl)
theorem dX5_gapsMoved_92 : decode cX5_gapsMoved 92 = .ok (.iload 5, 2) := dk_21 5 (dk_at dksX5_gapsMoved_3 20 rfl rfl)
theorem dX5_gapsMoved_94 : decode cX5_gapsMoved 94 = .ok (.isub, 1) := dk_100 (dk_at dksX5_gapsMoved_3 22 rfl rfl)
theorem dX5_gapsMoved_95 : decode cX5_gapsMoved 95 = .ok (.ireturn, 1) := dk_172 (dk_at dksX5_gapsMoved_3 23 rfl rfl)
abbrev cX5_along : ByteArray := prog_19_method_114_code
def yX5_along : MethodName := ⟨RX5, "along", "(II)I"⟩
def dkwX5_along_10 : List UInt8 := [160, 0, 8, 21, 5, 167, 0, 15, 28, 6, 160, 0, 8, 21, 6, 167, 0, 5, 21, 7, 172]
abbrev dktX5_along_10 : List UInt8 := dkwX5_along_10 ++ []
def dkwX5_along_9 : List UInt8 := [154, 0, 10, 42, 180, 1, 28, 167, 0, 35, 28, 4, 160, 0, 8, 21, 4, 167, 0, 25, 28, 5]
abbrev dktX5_along_9 : List UInt8 := dkwX5_along_9 ++ dktX5_along_10
def dkwX5_along_8 : List UInt8 := [21, 5, 42, 180, 0, 84, 21, 9, 46, 184, 0, 239, 54, 5, 21, 9, 62, 132, 8, 1, 167, 255, 141, 28]
abbrev dktX5_along_8 : List UInt8 := dkwX5_along_8 ++ dktX5_along_9
def dkwX5_along_7 : List UInt8 := [54, 7, 42, 180, 0, 102, 21, 9, 4, 84, 21, 4, 42, 180, 0, 84, 21, 9, 46, 184, 0, 242, 54, 4]
abbrev dktX5_along_7 : List UInt8 := dkwX5_along_7 ++ dktX5_along_8
def dkwX5_along_6 : List UInt8 := [164, 0, 9, 21, 6, 4, 96, 54, 6, 42, 180, 0, 102, 21, 9, 51, 154, 0, 9, 21, 7, 4, 96]
abbrev dktX5_along_6 : List UInt8 := dkwX5_along_6 ++ dktX5_along_7
def dkwX5_along_5 : List UInt8 := [180, 1, 178, 184, 1, 74, 54, 9, 42, 180, 0, 84, 21, 9, 46, 42, 180, 0, 84, 29, 46, 100, 27]
abbrev dktX5_along_5 : List UInt8 := dkwX5_along_5 ++ dktX5_along_6
def dkwX5_along_4 : List UInt8 := [180, 1, 28, 162, 0, 112, 42, 42, 180, 0, 66, 21, 8, 46, 182, 1, 181, 42, 180, 1, 175, 42]
abbrev dktX5_along_4 : List UInt8 := dkwX5_along_4 ++ dktX5_along_5
def dkwX5_along_3 : List UInt8 := [54, 4, 42, 180, 0, 84, 29, 46, 54, 5, 3, 54, 6, 4, 54, 7, 3, 54, 8, 21, 8, 42]
abbrev dktX5_along_3 : List UInt8 := dkwX5_along_3 ++ dktX5_along_4
def dkwX5_along_2 : List UInt8 := [42, 3, 181, 1, 178, 3, 3, 184, 1, 74, 62, 42, 180, 0, 102, 29, 4, 84, 42, 180, 0, 84, 29, 46]
abbrev dktX5_along_2 : List UInt8 := dkwX5_along_2 ++ dktX5_along_3
def dkwX5_along_1 : List UInt8 := [29, 16, 63, 162, 0, 16, 42, 180, 0, 102, 29, 3, 84, 132, 3, 1, 167, 255, 240, 42, 3, 181, 1, 175]
abbrev dktX5_along_1 : List UInt8 := dkwX5_along_1 ++ dktX5_along_2
def dkwX5_along_0 : List UInt8 := [27, 184, 1, 50, 153, 0, 12, 28, 3, 7, 184, 0, 112, 154, 0, 5, 2, 172, 42, 182, 1, 71, 3, 62]
abbrev dktX5_along_0 : List UInt8 := dkwX5_along_0 ++ dktX5_along_1
theorem dksX5_along_0 : cX5_along.data.toList.drop 0 = dktX5_along_0 := by decide +kernel
theorem dksX5_along_1 : cX5_along.data.toList.drop 24 = dktX5_along_1 := dk_seg dksX5_along_0 24 rfl rfl
theorem dksX5_along_2 : cX5_along.data.toList.drop 48 = dktX5_along_2 := dk_seg dksX5_along_1 24 rfl rfl
theorem dksX5_along_3 : cX5_along.data.toList.drop 72 = dktX5_along_3 := dk_seg dksX5_along_2 24 rfl rfl
theorem dksX5_along_4 : cX5_along.data.toList.drop 94 = dktX5_along_4 := dk_seg dksX5_along_3 22 rfl rfl
theorem dksX5_along_5 : cX5_along.data.toList.drop 116 = dktX5_along_5 := dk_seg dksX5_along_4 22 rfl rfl
theorem dksX5_along_6 : cX5_along.data.toList.drop 139 = dktX5_along_6 := dk_seg dksX5_along_5 23 rfl rfl
theorem dksX5_along_7 : cX5_along.data.toList.drop 162 = dktX5_along_7 := dk_seg dksX5_along_6 23 rfl rfl
theorem dksX5_along_8 : cX5_along.data.toList.drop 186 = dktX5_along_8 := dk_seg dksX5_along_7 24 rfl rfl
theorem dksX5_along_9 : cX5_along.data.toList.drop 210 = dktX5_along_9 := dk_seg dksX5_along_8 24 rfl rfl
theorem dksX5_along_10 : cX5_along.data.toList.drop 232 = dktX5_along_10 := dk_seg dksX5_along_9 22 rfl rfl
theorem dX5_along_0 : decode cX5_along 0 = .ok (.iload_n 1, 1) := dk_27 (dk_at dksX5_along_0 0 rfl rfl)
theorem dX5_along_1 : decode cX5_along 1 = .ok (.invokestatic 306, 3) := dk_184 1 50 (dk_at dksX5_along_0 1 rfl rfl)
theorem dX5_along_4 : decode cX5_along 4 = .ok (.ifCond .eq 12, 3) := dk_153 0 12 (dk_at dksX5_along_0 4 rfl rfl)
theorem dX5_along_7 : decode cX5_along 7 = .ok (.iload_n 2, 1) := dk_28 (dk_at dksX5_along_0 7 rfl rfl)
theorem dX5_along_8 : decode cX5_along 8 = .ok (.iconst 0, 1) := dk_3 (dk_at dksX5_along_0 8 rfl rfl)
theorem dX5_along_9 : decode cX5_along 9 = .ok (.iconst 4, 1) := dk_7 (dk_at dksX5_along_0 9 rfl rfl)
theorem dX5_along_10 : decode cX5_along 10 = .ok (.invokestatic 112, 3) := dk_184 0 112 (dk_at dksX5_along_0 10 rfl rfl)
theorem dX5_along_13 : decode cX5_along 13 = .ok (.ifCond .ne 5, 3) := dk_154 0 5 (dk_at dksX5_along_0 13 rfl rfl)
theorem dX5_along_16 : decode cX5_along 16 = .ok (.iconst (-1), 1) := dk_2 (dk_at dksX5_along_0 16 rfl rfl)
theorem dX5_along_17 : decode cX5_along 17 = .ok (.ireturn, 1) := dk_172 (dk_at dksX5_along_0 17 rfl rfl)
theorem dX5_along_18 : decode cX5_along 18 = .ok (.aload_n 0, 1) := dk_42 (dk_at dksX5_along_0 18 rfl rfl)
theorem dX5_along_19 : decode cX5_along 19 = .ok (.invokevirtual 327, 3) := dk_182 1 71 (dk_at dksX5_along_0 19 rfl rfl)
theorem dX5_along_22 : decode cX5_along 22 = .ok (.iconst 0, 1) := dk_3 (dk_at dksX5_along_0 22 rfl rfl)
theorem dX5_along_23 : decode cX5_along 23 = .ok (.istore_n 3, 1) := dk_62 (dk_at dksX5_along_0 23 rfl rfl)
theorem dX5_along_24 : decode cX5_along 24 = .ok (.iload_n 3, 1) := dk_29 (dk_at dksX5_along_1 0 rfl rfl)
theorem dX5_along_25 : decode cX5_along 25 = .ok (.bipush 63, 2) := dk_16 63 (dk_at dksX5_along_1 1 rfl rfl)
theorem dX5_along_27 : decode cX5_along 27 = .ok (.if_icmp .ge 16, 3) := dk_162 0 16 (dk_at dksX5_along_1 3 rfl rfl)
theorem dX5_along_30 : decode cX5_along 30 = .ok (.aload_n 0, 1) := dk_42 (dk_at dksX5_along_1 6 rfl rfl)
theorem dX5_along_31 : decode cX5_along 31 = .ok (.getfield 102, 3) := dk_180 0 102 (dk_at dksX5_along_1 7 rfl rfl)
theorem dX5_along_34 : decode cX5_along 34 = .ok (.iload_n 3, 1) := dk_29 (dk_at dksX5_along_1 10 rfl rfl)
theorem dX5_along_35 : decode cX5_along 35 = .ok (.iconst 0, 1) := dk_3 (dk_at dksX5_along_1 11 rfl rfl)
theorem dX5_along_36 : decode cX5_along 36 = .ok (.bastore, 1) := dk_84 (dk_at dksX5_along_1 12 rfl rfl)
theorem dX5_along_37 : decode cX5_along 37 = .ok (.iinc 3 1, 3) := dk_132 3 1 (dk_at dksX5_along_1 13 rfl rfl)
theorem dX5_along_40 : decode cX5_along 40 = .ok (.goto (-16), 3) := dk_167 255 240 (dk_at dksX5_along_1 16 rfl rfl)
theorem dX5_along_43 : decode cX5_along 43 = .ok (.aload_n 0, 1) := dk_42 (dk_at dksX5_along_1 19 rfl rfl)
theorem dX5_along_44 : decode cX5_along 44 = .ok (.iconst 0, 1) := dk_3 (dk_at dksX5_along_1 20 rfl rfl)
theorem dX5_along_45 : decode cX5_along 45 = .ok (.putfield 431, 3) := dk_181 1 175 (dk_at dksX5_along_1 21 rfl rfl)
theorem dX5_along_48 : decode cX5_along 48 = .ok (.aload_n 0, 1) := dk_42 (dk_at dksX5_along_2 0 rfl rfl)
theorem dX5_along_49 : decode cX5_along 49 = .ok (.iconst 0, 1) := dk_3 (dk_at dksX5_along_2 1 rfl rfl)
theorem dX5_along_50 : decode cX5_along 50 = .ok (.putfield 434, 3) := dk_181 1 178 (dk_at dksX5_along_2 2 rfl rfl)
theorem dX5_along_53 : decode cX5_along 53 = .ok (.iconst 0, 1) := dk_3 (dk_at dksX5_along_2 5 rfl rfl)
theorem dX5_along_54 : decode cX5_along 54 = .ok (.iconst 0, 1) := dk_3 (dk_at dksX5_along_2 6 rfl rfl)
theorem dX5_along_55 : decode cX5_along 55 = .ok (.invokestatic 330, 3) := dk_184 1 74 (dk_at dksX5_along_2 7 rfl rfl)
theorem dX5_along_58 : decode cX5_along 58 = .ok (.istore_n 3, 1) := dk_62 (dk_at dksX5_along_2 10 rfl rfl)
theorem dX5_along_59 : decode cX5_along 59 = .ok (.aload_n 0, 1) := dk_42 (dk_at dksX5_along_2 11 rfl rfl)
theorem dX5_along_60 : decode cX5_along 60 = .ok (.getfield 102, 3) := dk_180 0 102 (dk_at dksX5_along_2 12 rfl rfl)
theorem dX5_along_63 : decode cX5_along 63 = .ok (.iload_n 3, 1) := dk_29 (dk_at dksX5_along_2 15 rfl rfl)
theorem dX5_along_64 : decode cX5_along 64 = .ok (.iconst 1, 1) := dk_4 (dk_at dksX5_along_2 16 rfl rfl)
theorem dX5_along_65 : decode cX5_along 65 = .ok (.bastore, 1) := dk_84 (dk_at dksX5_along_2 17 rfl rfl)
theorem dX5_along_66 : decode cX5_along 66 = .ok (.aload_n 0, 1) := dk_42 (dk_at dksX5_along_2 18 rfl rfl)
theorem dX5_along_67 : decode cX5_along 67 = .ok (.getfield 84, 3) := dk_180 0 84 (dk_at dksX5_along_2 19 rfl rfl)
theorem dX5_along_70 : decode cX5_along 70 = .ok (.iload_n 3, 1) := dk_29 (dk_at dksX5_along_2 22 rfl rfl)
theorem dX5_along_71 : decode cX5_along 71 = .ok (.iaload, 1) := dk_46 (dk_at dksX5_along_2 23 rfl rfl)
theorem dX5_along_72 : decode cX5_along 72 = .ok (.istore 4, 2) := dk_54 4 (dk_at dksX5_along_3 0 rfl rfl)
theorem dX5_along_74 : decode cX5_along 74 = .ok (.aload_n 0, 1) := dk_42 (dk_at dksX5_along_3 2 rfl rfl)
theorem dX5_along_75 : decode cX5_along 75 = .ok (.getfield 84, 3) := dk_180 0 84 (dk_at dksX5_along_3 3 rfl rfl)
theorem dX5_along_78 : decode cX5_along 78 = .ok (.iload_n 3, 1) := dk_29 (dk_at dksX5_along_3 6 rfl rfl)
theorem dX5_along_79 : decode cX5_along 79 = .ok (.iaload, 1) := dk_46 (dk_at dksX5_along_3 7 rfl rfl)
theorem dX5_along_80 : decode cX5_along 80 = .ok (.istore 5, 2) := dk_54 5 (dk_at dksX5_along_3 8 rfl rfl)
theorem dX5_along_82 : decode cX5_along 82 = .ok (.iconst 0, 1) := dk_3 (dk_at dksX5_along_3 10 rfl rfl)
theorem dX5_along_83 : decode cX5_along 83 = .ok (.istore 6, 2) := dk_54 6 (dk_at dksX5_along_3 11 rfl rfl)
theorem dX5_along_85 : decode cX5_along 85 = .ok (.iconst 1, 1) := dk_4 (dk_at dksX5_along_3 13 rfl rfl)
theorem dX5_along_86 : decode cX5_along 86 = .ok (.istore 7, 2) := dk_54 7 (dk_at dksX5_along_3 14 rfl rfl)
theorem dX5_along_88 : decode cX5_along 88 = .ok (.iconst 0, 1) := dk_3 (dk_at dksX5_along_3 16 rfl rfl)
theorem dX5_along_89 : decode cX5_along 89 = .ok (.istore 8, 2) := dk_54 8 (dk_at dksX5_along_3 17 rfl rfl)
theorem dX5_along_91 : decode cX5_along 91 = .ok (.iload 8, 2) := dk_21 8 (dk_at dksX5_along_3 19 rfl rfl)
theorem dX5_along_93 : decode cX5_along 93 = .ok (.aload_n 0, 1) := dk_42 (dk_at dksX5_along_3 21 rfl rfl)
theorem dX5_along_94 : decode cX5_along 94 = .ok (.getfield 284, 3) := dk_180 1 28 (dk_at dksX5_along_4 0 rfl rfl)
theorem dX5_along_97 : decode cX5_along 97 = .ok (.if_icmp .ge 112, 3) := dk_162 0 112 (dk_at dksX5_along_4 3 rfl rfl)
theorem dX5_along_100 : decode cX5_along 100 = .ok (.aload_n 0, 1) := dk_42 (dk_at dksX5_along_4 6 rfl rfl)
theorem dX5_along_101 : decode cX5_along 101 = .ok (.aload_n 0, 1) := dk_42 (dk_at dksX5_along_4 7 rfl rfl)
theorem dX5_along_102 : decode cX5_along 102 = .ok (.getfield 66, 3) := dk_180 0 66 (dk_at dksX5_along_4 8 rfl rfl)
theorem dX5_along_105 : decode cX5_along 105 = .ok (.iload 8, 2) := dk_21 8 (dk_at dksX5_along_4 11 rfl rfl)
theorem dX5_along_107 : decode cX5_along 107 = .ok (.iaload, 1) := dk_46 (dk_at dksX5_along_4 13 rfl rfl)
theorem dX5_along_108 : decode cX5_along 108 = .ok (.invokevirtual 437, 3) := dk_182 1 181 (dk_at dksX5_along_4 14 rfl rfl)
theorem dX5_along_111 : decode cX5_along 111 = .ok (.aload_n 0, 1) := dk_42 (dk_at dksX5_along_4 17 rfl rfl)
theorem dX5_along_112 : decode cX5_along 112 = .ok (.getfield 431, 3) := dk_180 1 175 (dk_at dksX5_along_4 18 rfl rfl)
theorem dX5_along_115 : decode cX5_along 115 = .ok (.aload_n 0, 1) := dk_42 (dk_at dksX5_along_4 21 rfl rfl)
theorem dX5_along_116 : decode cX5_along 116 = .ok (.getfield 434, 3) := dk_180 1 178 (dk_at dksX5_along_5 0 rfl rfl)
theorem dX5_along_119 : decode cX5_along 119 = .ok (.invokestatic 330, 3) := dk_184 1 74 (dk_at dksX5_along_5 3 rfl rfl)
theorem dX5_along_122 : decode cX5_along 122 = .ok (.istore 9, 2) := dk_54 9 (dk_at dksX5_along_5 6 rfl rfl)
theorem dX5_along_124 : decode cX5_along 124 = .ok (.aload_n 0, 1) := dk_42 (dk_at dksX5_along_5 8 rfl rfl)
theorem dX5_along_125 : decode cX5_along 125 = .ok (.getfield 84, 3) := dk_180 0 84 (dk_at dksX5_along_5 9 rfl rfl)
theorem dX5_along_128 : decode cX5_along 128 = .ok (.iload 9, 2) := dk_21 9 (dk_at dksX5_along_5 12 rfl rfl)
theorem dX5_along_130 : decode cX5_along 130 = .ok (.iaload, 1) := dk_46 (dk_at dksX5_along_5 14 rfl rfl)
theorem dX5_along_131 : decode cX5_along 131 = .ok (.aload_n 0, 1) := dk_42 (dk_at dksX5_along_5 15 rfl rfl)
theorem dX5_along_132 : decode cX5_along 132 = .ok (.getfield 84, 3) := dk_180 0 84 (dk_at dksX5_along_5 16 rfl rfl)
theorem dX5_along_135 : decode cX5_along 135 = .ok (.iload_n 3, 1) := dk_29 (dk_at dksX5_along_5 19 rfl rfl)
theorem dX5_along_136 : decode cX5_along 136 = .ok (.iaload, 1) := dk_46 (dk_at dksX5_along_5 20 rfl rfl)
theorem dX5_along_137 : decode cX5_along 137 = .ok (.isub, 1) := dk_100 (dk_at dksX5_along_5 21 rfl rfl)
theorem dX5_along_138 : decode cX5_along 138 = .ok (.iload_n 1, 1) := dk_27 (dk_at dksX5_along_5 22 rfl rfl)
theorem dX5_along_139 : decode cX5_along 139 = .ok (.if_icmp .le 9, 3) := dk_164 0 9 (dk_at dksX5_along_6 0 rfl rfl)
theorem dX5_along_142 : decode cX5_along 142 = .ok (.iload 6, 2) := dk_21 6 (dk_at dksX5_along_6 3 rfl rfl)
theorem dX5_along_144 : decode cX5_along 144 = .ok (.iconst 1, 1) := dk_4 (dk_at dksX5_along_6 5 rfl rfl)
theorem dX5_along_145 : decode cX5_along 145 = .ok (.iadd, 1) := dk_96 (dk_at dksX5_along_6 6 rfl rfl)
theorem dX5_along_146 : decode cX5_along 146 = .ok (.istore 6, 2) := dk_54 6 (dk_at dksX5_along_6 7 rfl rfl)
theorem dX5_along_148 : decode cX5_along 148 = .ok (.aload_n 0, 1) := dk_42 (dk_at dksX5_along_6 9 rfl rfl)
theorem dX5_along_149 : decode cX5_along 149 = .ok (.getfield 102, 3) := dk_180 0 102 (dk_at dksX5_along_6 10 rfl rfl)
theorem dX5_along_152 : decode cX5_along 152 = .ok (.iload 9, 2) := dk_21 9 (dk_at dksX5_along_6 13 rfl rfl)
theorem dX5_along_154 : decode cX5_along 154 = .ok (.baload, 1) := dk_51 (dk_at dksX5_along_6 15 rfl rfl)
theorem dX5_along_155 : decode cX5_along 155 = .ok (.ifCond .ne 9, 3) := dk_154 0 9 (dk_at dksX5_along_6 16 rfl rfl)
theorem dX5_along_158 : decode cX5_along 158 = .ok (.iload 7, 2) := dk_21 7 (dk_at dksX5_along_6 19 rfl rfl)
theorem dX5_along_160 : decode cX5_along 160 = .ok (.iconst 1, 1) := dk_4 (dk_at dksX5_along_6 21 rfl rfl)
theorem dX5_along_161 : decode cX5_along 161 = .ok (.iadd, 1) := dk_96 (dk_at dksX5_along_6 22 rfl rfl)
theorem dX5_along_162 : decode cX5_along 162 = .ok (.istore 7, 2) := dk_54 7 (dk_at dksX5_along_7 0 rfl rfl)
theorem dX5_along_164 : decode cX5_along 164 = .ok (.aload_n 0, 1) := dk_42 (dk_at dksX5_along_7 2 rfl rfl)
theorem dX5_along_165 : decode cX5_along 165 = .ok (.getfield 102, 3) := dk_180 0 102 (dk_at dksX5_along_7 3 rfl rfl)
theorem dX5_along_168 : decode cX5_along 168 = .ok (.iload 9, 2) := dk_21 9 (dk_at dksX5_along_7 6 rfl rfl)
theorem dX5_along_170 : decode cX5_along 170 = .ok (.iconst 1, 1) := dk_4 (dk_at dksX5_along_7 8 rfl rfl)
theorem dX5_along_171 : decode cX5_along 171 = .ok (.bastore, 1) := dk_84 (dk_at dksX5_along_7 9 rfl rfl)
theorem dX5_along_172 : decode cX5_along 172 = .ok (.iload 4, 2) := dk_21 4 (dk_at dksX5_along_7 10 rfl rfl)
theorem dX5_along_174 : decode cX5_along 174 = .ok (.aload_n 0, 1) := dk_42 (dk_at dksX5_along_7 12 rfl rfl)
theorem dX5_along_175 : decode cX5_along 175 = .ok (.getfield 84, 3) := dk_180 0 84 (dk_at dksX5_along_7 13 rfl rfl)
theorem dX5_along_178 : decode cX5_along 178 = .ok (.iload 9, 2) := dk_21 9 (dk_at dksX5_along_7 16 rfl rfl)
theorem dX5_along_180 : decode cX5_along 180 = .ok (.iaload, 1) := dk_46 (dk_at dksX5_along_7 18 rfl rfl)
theorem dX5_along_181 : decode cX5_along 181 = .ok (.invokestatic 242, 3) := dk_184 0 242 (dk_at dksX5_along_7 19 rfl rfl)
theorem dX5_along_184 : decode cX5_along 184 = .ok (.istore 4, 2) := dk_54 4 (dk_at dksX5_along_7 22 rfl rfl)
theorem dX5_along_186 : decode cX5_along 186 = .ok (.iload 5, 2) := dk_21 5 (dk_at dksX5_along_8 0 rfl rfl)
theorem dX5_along_188 : decode cX5_along 188 = .ok (.aload_n 0, 1) := dk_42 (dk_at dksX5_along_8 2 rfl rfl)
theorem dX5_along_189 : decode cX5_along 189 = .ok (.getfield 84, 3) := dk_180 0 84 (dk_at dksX5_along_8 3 rfl rfl)
theorem dX5_along_192 : decode cX5_along 192 = .ok (.iload 9, 2) := dk_21 9 (dk_at dksX5_along_8 6 rfl rfl)
theorem dX5_along_194 : decode cX5_along 194 = .ok (.iaload, 1) := dk_46 (dk_at dksX5_along_8 8 rfl rfl)
theorem dX5_along_195 : decode cX5_along 195 = .ok (.invokestatic 239, 3) := dk_184 0 239 (dk_at dksX5_along_8 9 rfl rfl)
theorem dX5_along_198 : decode cX5_along 198 = .ok (.istore 5, 2) := dk_54 5 (dk_at dksX5_along_8 12 rfl rfl)
theorem dX5_along_200 : decode cX5_along 200 = .ok (.iload 9, 2) := dk_21 9 (dk_at dksX5_along_8 14 rfl rfl)
theorem dX5_along_202 : decode cX5_along 202 = .ok (.istore_n 3, 1) := dk_62 (dk_at dksX5_along_8 16 rfl rfl)
theorem dX5_along_203 : decode cX5_along 203 = .ok (.iinc 8 1, 3) := dk_132 8 1 (dk_at dksX5_along_8 17 rfl rfl)
theorem dX5_along_206 : decode cX5_along 206 = .ok (.goto (-115), 3) := dk_167 255 141 (dk_at dksX5_along_8 20 rfl rfl)
theorem dX5_along_209 : decode cX5_along 209 = .ok (.iload_n 2, 1) := dk_28 (dk_at dksX5_along_8 23 rfl rfl)
theorem dX5_along_210 : decode cX5_along 210 = .ok (.ifCond .ne 10, 3) := dk_154 0 10 (dk_at dksX5_along_9 0 rfl rfl)
theorem dX5_along_213 : decode cX5_along 213 = .ok (.aload_n 0, 1) := dk_42 (dk_at dksX5_along_9 3 rfl rfl)
theorem dX5_along_214 : decode cX5_along 214 = .ok (.getfield 284, 3) := dk_180 1 28 (dk_at dksX5_along_9 4 rfl rfl)
theorem dX5_along_217 : decode cX5_along 217 = .ok (.goto 35, 3) := dk_167 0 35 (dk_at dksX5_along_9 7 rfl rfl)
theorem dX5_along_220 : decode cX5_along 220 = .ok (.iload_n 2, 1) := dk_28 (dk_at dksX5_along_9 10 rfl rfl)
theorem dX5_along_221 : decode cX5_along 221 = .ok (.iconst 1, 1) := dk_4 (dk_at dksX5_along_9 11 rfl rfl)
theorem dX5_along_222 : decode cX5_along 222 = .ok (.if_icmp .ne 8, 3) := dk_160 0 8 (dk_at dksX5_along_9 12 rfl rfl)
theorem dX5_along_225 : decode cX5_along 225 = .ok (.iload 4, 2) := dk_21 4 (dk_at dksX5_along_9 15 rfl rfl)
theorem dX5_along_227 : decode cX5_along 227 = .ok (.goto 25, 3) := dk_167 0 25 (dk_at dksX5_along_9 17 rfl rfl)
theorem dX5_along_230 : decode cX5_along 230 = .ok (.iload_n 2, 1) := dk_28 (dk_at dksX5_along_9 20 rfl rfl)
theorem dX5_along_231 : decode cX5_along 231 = .ok (.iconst 2, 1) := dk_5 (dk_at dksX5_along_9 21 rfl rfl)
theorem dX5_along_232 : decode cX5_along 232 = .ok (.if_icmp .ne 8, 3) := dk_160 0 8 (dk_at dksX5_along_10 0 rfl rfl)
theorem dX5_along_235 : decode cX5_along 235 = .ok (.iload 5, 2) := dk_21 5 (dk_at dksX5_along_10 3 rfl rfl)
theorem dX5_along_237 : decode cX5_along 237 = .ok (.goto 15, 3) := dk_167 0 15 (dk_at dksX5_along_10 5 rfl rfl)
theorem dX5_along_240 : decode cX5_along 240 = .ok (.iload_n 2, 1) := dk_28 (dk_at dksX5_along_10 8 rfl rfl)
theorem dX5_along_241 : decode cX5_along 241 = .ok (.iconst 3, 1) := dk_6 (dk_at dksX5_along_10 9 rfl rfl)
theorem dX5_along_242 : decode cX5_along 242 = .ok (.if_icmp .ne 8, 3) := dk_160 0 8 (dk_at dksX5_along_10 10 rfl rfl)
theorem dX5_along_245 : decode cX5_along 245 = .ok (.iload 6, 2) := dk_21 6 (dk_at dksX5_along_10 13 rfl rfl)
theorem dX5_along_247 : decode cX5_along 247 = .ok (.goto 5, 3) := dk_167 0 5 (dk_at dksX5_along_10 15 rfl rfl)
theorem dX5_along_250 : decode cX5_along 250 = .ok (.iload 7, 2) := dk_21 7 (dk_at dksX5_along_10 18 rfl rfl)
theorem dX5_along_252 : decode cX5_along 252 = .ok (.ireturn, 1) := dk_172 (dk_at dksX5_along_10 20 rfl rfl)
abbrev cX5_glides : ByteArray := prog_19_method_113_code
def yX5_glides : MethodName := ⟨RX5, "glides", "(I)V"⟩
def dkwX5_glides_3 : List UInt8 := [29, 184, 1, 47, 153, 0, 13, 42, 28, 181, 1, 175, 42, 29, 181, 1, 178, 177]
abbrev dktX5_glides_3 : List UInt8 := dkwX5_glides_3 ++ []
def dkwX5_glides_2 : List UInt8 := [27, 16, 102, 160, 0, 7, 2, 167, 0, 14, 27, 16, 98, 160, 0, 7, 4, 167, 0, 4, 3, 96, 62, 28]
abbrev dktX5_glides_2 : List UInt8 := dkwX5_glides_2 ++ dktX5_glides_3
def dkwX5_glides_1 : List UInt8 := [160, 0, 7, 2, 167, 0, 14, 27, 16, 114, 160, 0, 7, 4, 167, 0, 4, 3, 96, 61, 42, 180, 1, 178]
abbrev dktX5_glides_1 : List UInt8 := dkwX5_glides_1 ++ dktX5_glides_2
def dkwX5_glides_0 : List UInt8 := [27, 16, 46, 160, 0, 13, 42, 3, 181, 1, 175, 42, 3, 181, 1, 178, 42, 180, 1, 175, 27, 16, 108]
abbrev dktX5_glides_0 : List UInt8 := dkwX5_glides_0 ++ dktX5_glides_1
theorem dksX5_glides_0 : cX5_glides.data.toList.drop 0 = dktX5_glides_0 := by decide +kernel
theorem dksX5_glides_1 : cX5_glides.data.toList.drop 23 = dktX5_glides_1 := dk_seg dksX5_glides_0 23 rfl rfl
theorem dksX5_glides_2 : cX5_glides.data.toList.drop 47 = dktX5_glides_2 := dk_seg dksX5_glides_1 24 rfl rfl
theorem dksX5_glides_3 : cX5_glides.data.toList.drop 71 = dktX5_glides_3 := dk_seg dksX5_glides_2 24 rfl rfl
theorem dX5_glides_0 : decode cX5_glides 0 = .ok (.iload_n 1, 1) := dk_27 (dk_at dksX5_glides_0 0 rfl rfl)
theorem dX5_glides_1 : decode cX5_glides 1 = .ok (.bipush 46, 2) := dk_16 46 (dk_at dksX5_glides_0 1 rfl rfl)
theorem dX5_glides_3 : decode cX5_glides 3 = .ok (.if_icmp .ne 13, 3) := dk_160 0 13 (dk_at dksX5_glides_0 3 rfl rfl)
theorem dX5_glides_6 : decode cX5_glides 6 = .ok (.aload_n 0, 1) := dk_42 (dk_at dksX5_glides_0 6 rfl rfl)
theorem dX5_glides_7 : decode cX5_glides 7 = .ok (.iconst 0, 1) := dk_3 (dk_at dksX5_glides_0 7 rfl rfl)
theorem dX5_glides_8 : decode cX5_glides 8 = .ok (.putfield 431, 3) := dk_181 1 175 (dk_at dksX5_glides_0 8 rfl rfl)
theorem dX5_glides_11 : decode cX5_glides 11 = .ok (.aload_n 0, 1) := dk_42 (dk_at dksX5_glides_0 11 rfl rfl)
theorem dX5_glides_12 : decode cX5_glides 12 = .ok (.iconst 0, 1) := dk_3 (dk_at dksX5_glides_0 12 rfl rfl)
theorem dX5_glides_13 : decode cX5_glides 13 = .ok (.putfield 434, 3) := dk_181 1 178 (dk_at dksX5_glides_0 13 rfl rfl)
theorem dX5_glides_16 : decode cX5_glides 16 = .ok (.aload_n 0, 1) := dk_42 (dk_at dksX5_glides_0 16 rfl rfl)
theorem dX5_glides_17 : decode cX5_glides 17 = .ok (.getfield 431, 3) := dk_180 1 175 (dk_at dksX5_glides_0 17 rfl rfl)
theorem dX5_glides_20 : decode cX5_glides 20 = .ok (.iload_n 1, 1) := dk_27 (dk_at dksX5_glides_0 20 rfl rfl)
theorem dX5_glides_21 : decode cX5_glides 21 = .ok (.bipush 108, 2) := dk_16 108 (dk_at dksX5_glides_0 21 rfl rfl)
theorem dX5_glides_23 : decode cX5_glides 23 = .ok (.if_icmp .ne 7, 3) := dk_160 0 7 (dk_at dksX5_glides_1 0 rfl rfl)
theorem dX5_glides_26 : decode cX5_glides 26 = .ok (.iconst (-1), 1) := dk_2 (dk_at dksX5_glides_1 3 rfl rfl)
theorem dX5_glides_27 : decode cX5_glides 27 = .ok (.goto 14, 3) := dk_167 0 14 (dk_at dksX5_glides_1 4 rfl rfl)
theorem dX5_glides_30 : decode cX5_glides 30 = .ok (.iload_n 1, 1) := dk_27 (dk_at dksX5_glides_1 7 rfl rfl)
theorem dX5_glides_31 : decode cX5_glides 31 = .ok (.bipush 114, 2) := dk_16 114 (dk_at dksX5_glides_1 8 rfl rfl)
theorem dX5_glides_33 : decode cX5_glides 33 = .ok (.if_icmp .ne 7, 3) := dk_160 0 7 (dk_at dksX5_glides_1 10 rfl rfl)
theorem dX5_glides_36 : decode cX5_glides 36 = .ok (.iconst 1, 1) := dk_4 (dk_at dksX5_glides_1 13 rfl rfl)
theorem dX5_glides_37 : decode cX5_glides 37 = .ok (.goto 4, 3) := dk_167 0 4 (dk_at dksX5_glides_1 14 rfl rfl)
theorem dX5_glides_40 : decode cX5_glides 40 = .ok (.iconst 0, 1) := dk_3 (dk_at dksX5_glides_1 17 rfl rfl)
theorem dX5_glides_41 : decode cX5_glides 41 = .ok (.iadd, 1) := dk_96 (dk_at dksX5_glides_1 18 rfl rfl)
theorem dX5_glides_42 : decode cX5_glides 42 = .ok (.istore_n 2, 1) := dk_61 (dk_at dksX5_glides_1 19 rfl rfl)
theorem dX5_glides_43 : decode cX5_glides 43 = .ok (.aload_n 0, 1) := dk_42 (dk_at dksX5_glides_1 20 rfl rfl)
theorem dX5_glides_44 : decode cX5_glides 44 = .ok (.getfield 434, 3) := dk_180 1 178 (dk_at dksX5_glides_1 21 rfl rfl)
theorem dX5_glides_47 : decode cX5_glides 47 = .ok (.iload_n 1, 1) := dk_27 (dk_at dksX5_glides_2 0 rfl rfl)
theorem dX5_glides_48 : decode cX5_glides 48 = .ok (.bipush 102, 2) := dk_16 102 (dk_at dksX5_glides_2 1 rfl rfl)
theorem dX5_glides_50 : decode cX5_glides 50 = .ok (.if_icmp .ne 7, 3) := dk_160 0 7 (dk_at dksX5_glides_2 3 rfl rfl)
theorem dX5_glides_53 : decode cX5_glides 53 = .ok (.iconst (-1), 1) := dk_2 (dk_at dksX5_glides_2 6 rfl rfl)
theorem dX5_glides_54 : decode cX5_glides 54 = .ok (.goto 14, 3) := dk_167 0 14 (dk_at dksX5_glides_2 7 rfl rfl)
theorem dX5_glides_57 : decode cX5_glides 57 = .ok (.iload_n 1, 1) := dk_27 (dk_at dksX5_glides_2 10 rfl rfl)
theorem dX5_glides_58 : decode cX5_glides 58 = .ok (.bipush 98, 2) := dk_16 98 (dk_at dksX5_glides_2 11 rfl rfl)
theorem dX5_glides_60 : decode cX5_glides 60 = .ok (.if_icmp .ne 7, 3) := dk_160 0 7 (dk_at dksX5_glides_2 13 rfl rfl)
theorem dX5_glides_63 : decode cX5_glides 63 = .ok (.iconst 1, 1) := dk_4 (dk_at dksX5_glides_2 16 rfl rfl)
theorem dX5_glides_64 : decode cX5_glides 64 = .ok (.goto 4, 3) := dk_167 0 4 (dk_at dksX5_glides_2 17 rfl rfl)
theorem dX5_glides_67 : decode cX5_glides 67 = .ok (.iconst 0, 1) := dk_3 (dk_at dksX5_glides_2 20 rfl rfl)
theorem dX5_glides_68 : decode cX5_glides 68 = .ok (.iadd, 1) := dk_96 (dk_at dksX5_glides_2 21 rfl rfl)
theorem dX5_glides_69 : decode cX5_glides 69 = .ok (.istore_n 3, 1) := dk_62 (dk_at dksX5_glides_2 22 rfl rfl)
theorem dX5_glides_70 : decode cX5_glides 70 = .ok (.iload_n 2, 1) := dk_28 (dk_at dksX5_glides_2 23 rfl rfl)
theorem dX5_glides_71 : decode cX5_glides 71 = .ok (.iload_n 3, 1) := dk_29 (dk_at dksX5_glides_3 0 rfl rfl)
theorem dX5_glides_72 : decode cX5_glides 72 = .ok (.invokestatic 303, 3) := dk_184 1 47 (dk_at dksX5_glides_3 1 rfl rfl)
theorem dX5_glides_75 : decode cX5_glides 75 = .ok (.ifCond .eq 13, 3) := dk_153 0 13 (dk_at dksX5_glides_3 4 rfl rfl)
theorem dX5_glides_78 : decode cX5_glides 78 = .ok (.aload_n 0, 1) := dk_42 (dk_at dksX5_glides_3 7 rfl rfl)
theorem dX5_glides_79 : decode cX5_glides 79 = .ok (.iload_n 2, 1) := dk_28 (dk_at dksX5_glides_3 8 rfl rfl)
theorem dX5_glides_80 : decode cX5_glides 80 = .ok (.putfield 431, 3) := dk_181 1 175 (dk_at dksX5_glides_3 9 rfl rfl)
theorem dX5_glides_83 : decode cX5_glides 83 = .ok (.aload_n 0, 1) := dk_42 (dk_at dksX5_glides_3 12 rfl rfl)
theorem dX5_glides_84 : decode cX5_glides 84 = .ok (.iload_n 3, 1) := dk_29 (dk_at dksX5_glides_3 13 rfl rfl)
theorem dX5_glides_85 : decode cX5_glides 85 = .ok (.putfield 434, 3) := dk_181 1 178 (dk_at dksX5_glides_3 14 rfl rfl)
theorem dX5_glides_88 : decode cX5_glides 88 = .ok (.return_, 1) := dk_177 (dk_at dksX5_glides_3 17 rfl rfl)
abbrev cX5_nights : ByteArray := prog_19_method_119_code
def yX5_nights : MethodName := ⟨RX5, "nights", "(II)I"⟩
def dkwX5_nights_0 : List UInt8 := [27, 28, 184, 1, 199, 153, 0, 12, 42, 27, 28, 182, 1, 202, 167, 0, 4, 2, 172]
abbrev dktX5_nights_0 : List UInt8 := dkwX5_nights_0 ++ []
theorem dksX5_nights_0 : cX5_nights.data.toList.drop 0 = dktX5_nights_0 := by decide +kernel
theorem dX5_nights_0 : decode cX5_nights 0 = .ok (.iload_n 1, 1) := dk_27 (dk_at dksX5_nights_0 0 rfl rfl)
theorem dX5_nights_1 : decode cX5_nights 1 = .ok (.iload_n 2, 1) := dk_28 (dk_at dksX5_nights_0 1 rfl rfl)
theorem dX5_nights_2 : decode cX5_nights 2 = .ok (.invokestatic 455, 3) := dk_184 1 199 (dk_at dksX5_nights_0 2 rfl rfl)
theorem dX5_nights_5 : decode cX5_nights 5 = .ok (.ifCond .eq 12, 3) := dk_153 0 12 (dk_at dksX5_nights_0 5 rfl rfl)
theorem dX5_nights_8 : decode cX5_nights 8 = .ok (.aload_n 0, 1) := dk_42 (dk_at dksX5_nights_0 8 rfl rfl)
theorem dX5_nights_9 : decode cX5_nights 9 = .ok (.iload_n 1, 1) := dk_27 (dk_at dksX5_nights_0 9 rfl rfl)
theorem dX5_nights_10 : decode cX5_nights 10 = .ok (.iload_n 2, 1) := dk_28 (dk_at dksX5_nights_0 10 rfl rfl)
theorem dX5_nights_11 : decode cX5_nights 11 = .ok (.invokevirtual 458, 3) := dk_182 1 202 (dk_at dksX5_nights_0 11 rfl rfl)
theorem dX5_nights_14 : decode cX5_nights 14 = .ok (.goto 4, 3) := dk_167 0 4 (dk_at dksX5_nights_0 14 rfl rfl)
theorem dX5_nights_17 : decode cX5_nights 17 = .ok (.iconst (-1), 1) := dk_2 (dk_at dksX5_nights_0 17 rfl rfl)
theorem dX5_nights_18 : decode cX5_nights 18 = .ok (.ireturn, 1) := dk_172 (dk_at dksX5_nights_0 18 rfl rfl)
abbrev cX5_isNights : ByteArray := prog_19_method_117_code
def yX5_isNights : MethodName := ⟨RX5, "isNights", "(II)Z"⟩
def dkwX5_isNights_0 : List UInt8 := [26, 4, 16, 30, 184, 0, 112, 153, 0, 14, 27, 184, 1, 50, 153, 0, 7, 4, 167, 0, 4, 3, 172]
abbrev dktX5_isNights_0 : List UInt8 := dkwX5_isNights_0 ++ []
theorem dksX5_isNights_0 : cX5_isNights.data.toList.drop 0 = dktX5_isNights_0 := by decide +kernel
theorem dX5_isNights_0 : decode cX5_isNights 0 = .ok (.iload_n 0, 1) := dk_26 (dk_at dksX5_isNights_0 0 rfl rfl)
theorem dX5_isNights_1 : decode cX5_isNights 1 = .ok (.iconst 1, 1) := dk_4 (dk_at dksX5_isNights_0 1 rfl rfl)
theorem dX5_isNights_2 : decode cX5_isNights 2 = .ok (.bipush 30, 2) := dk_16 30 (dk_at dksX5_isNights_0 2 rfl rfl)
theorem dX5_isNights_4 : decode cX5_isNights 4 = .ok (.invokestatic 112, 3) := dk_184 0 112 (dk_at dksX5_isNights_0 4 rfl rfl)
theorem dX5_isNights_7 : decode cX5_isNights 7 = .ok (.ifCond .eq 14, 3) := dk_153 0 14 (dk_at dksX5_isNights_0 7 rfl rfl)
theorem dX5_isNights_10 : decode cX5_isNights 10 = .ok (.iload_n 1, 1) := dk_27 (dk_at dksX5_isNights_0 10 rfl rfl)
theorem dX5_isNights_11 : decode cX5_isNights 11 = .ok (.invokestatic 306, 3) := dk_184 1 50 (dk_at dksX5_isNights_0 11 rfl rfl)
theorem dX5_isNights_14 : decode cX5_isNights 14 = .ok (.ifCond .eq 7, 3) := dk_153 0 7 (dk_at dksX5_isNights_0 14 rfl rfl)
theorem dX5_isNights_17 : decode cX5_isNights 17 = .ok (.iconst 1, 1) := dk_4 (dk_at dksX5_isNights_0 17 rfl rfl)
theorem dX5_isNights_18 : decode cX5_isNights 18 = .ok (.goto 4, 3) := dk_167 0 4 (dk_at dksX5_isNights_0 18 rfl rfl)
theorem dX5_isNights_21 : decode cX5_isNights 21 = .ok (.iconst 0, 1) := dk_3 (dk_at dksX5_isNights_0 21 rfl rfl)
theorem dX5_isNights_22 : decode cX5_isNights 22 = .ok (.ireturn, 1) := dk_172 (dk_at dksX5_isNights_0 22 rfl rfl)
abbrev cX5_wears : ByteArray := prog_19_method_118_code
def yX5_wears : MethodName := ⟨RX5, "wears", "(II)I"⟩
def dkwX5_wears_1 : List UInt8 := [182, 1, 196, 96, 62, 132, 4, 1, 167, 255, 229, 29, 172]
abbrev dktX5_wears_1 : List UInt8 := dkwX5_wears_1 ++ []
def dkwX5_wears_0 : List UInt8 := [3, 62, 3, 54, 4, 21, 4, 27, 162, 0, 27, 42, 180, 1, 184, 17, 39, 15, 162, 0, 17, 29, 42, 28]
abbrev dktX5_wears_0 : List UInt8 := dkwX5_wears_0 ++ dktX5_wears_1
theorem dksX5_wears_0 : cX5_wears.data.toList.drop 0 = dktX5_wears_0 := by decide +kernel
theorem dksX5_wears_1 : cX5_wears.data.toList.drop 24 = dktX5_wears_1 := dk_seg dksX5_wears_0 24 rfl rfl
theorem dX5_wears_0 : decode cX5_wears 0 = .ok (.iconst 0, 1) := dk_3 (dk_at dksX5_wears_0 0 rfl rfl)
theorem dX5_wears_1 : decode cX5_wears 1 = .ok (.istore_n 3, 1) := dk_62 (dk_at dksX5_wears_0 1 rfl rfl)
theorem dX5_wears_2 : decode cX5_wears 2 = .ok (.iconst 0, 1) := dk_3 (dk_at dksX5_wears_0 2 rfl rfl)
theorem dX5_wears_3 : decode cX5_wears 3 = .ok (.istore 4, 2) := dk_54 4 (dk_at dksX5_wears_0 3 rfl rfl)
theorem dX5_wears_5 : decode cX5_wears 5 = .ok (.iload 4, 2) := dk_21 4 (dk_at dksX5_wears_0 5 rfl rfl)
theorem dX5_wears_7 : decode cX5_wears 7 = .ok (.iload_n 1, 1) := dk_27 (dk_at dksX5_wears_0 7 rfl rfl)
theorem dX5_wears_8 : decode cX5_wears 8 = .ok (.if_icmp .ge 27, 3) := dk_162 0 27 (dk_at dksX5_wears_0 8 rfl rfl)
theorem dX5_wears_11 : decode cX5_wears 11 = .ok (.aload_n 0, 1) := dk_42 (dk_at dksX5_wears_0 11 rfl rfl)
theorem dX5_wears_12 : decode cX5_wears 12 = .ok (.getfield 440, 3) := dk_180 1 184 (dk_at dksX5_wears_0 12 rfl rfl)
theorem dX5_wears_15 : decode cX5_wears 15 = .ok (.sipush 9999, 3) := dk_17 39 15 (dk_at dksX5_wears_0 15 rfl rfl)
theorem dX5_wears_18 : decode cX5_wears 18 = .ok (.if_icmp .ge 17, 3) := dk_162 0 17 (dk_at dksX5_wears_0 18 rfl rfl)
theorem dX5_wears_21 : decode cX5_wears 21 = .ok (.iload_n 3, 1) := dk_29 (dk_at dksX5_wears_0 21 rfl rfl)
theorem dX5_wears_22 : decode cX5_wears 22 = .ok (.aload_n 0, 1) := dk_42 (dk_at dksX5_wears_0 22 rfl rfl)
theorem dX5_wears_23 : decode cX5_wears 23 = .ok (.iload_n 2, 1) := dk_28 (dk_at dksX5_wears_0 23 rfl rfl)
theorem dX5_wears_24 : decode cX5_wears 24 = .ok (.invokevirtual 452, 3) := dk_182 1 196 (dk_at dksX5_wears_1 0 rfl rfl)
theorem dX5_wears_27 : decode cX5_wears 27 = .ok (.iadd, 1) := dk_96 (dk_at dksX5_wears_1 3 rfl rfl)
theorem dX5_wears_28 : decode cX5_wears 28 = .ok (.istore_n 3, 1) := dk_62 (dk_at dksX5_wears_1 4 rfl rfl)
theorem dX5_wears_29 : decode cX5_wears 29 = .ok (.iinc 4 1, 3) := dk_132 4 1 (dk_at dksX5_wears_1 5 rfl rfl)
theorem dX5_wears_32 : decode cX5_wears 32 = .ok (.goto (-27), 3) := dk_167 255 229 (dk_at dksX5_wears_1 8 rfl rfl)
theorem dX5_wears_35 : decode cX5_wears 35 = .ok (.iload_n 3, 1) := dk_29 (dk_at dksX5_wears_1 11 rfl rfl)
theorem dX5_wears_36 : decode cX5_wears 36 = .ok (.ireturn, 1) := dk_172 (dk_at dksX5_wears_1 12 rfl rfl)
abbrev cX5_wearsNight : ByteArray := prog_19_method_116_code
def yX5_wearsNight : MethodName := ⟨RX5, "wearsNight", "(I)I"⟩
def dkwX5_wearsNight_4 : List UInt8 := [4, 96, 181, 1, 184, 28, 172]
abbrev dktX5_wearsNight_4 : List UInt8 := dkwX5_wearsNight_4 ++ []
def dkwX5_wearsNight_3 : List UInt8 := [21, 4, 182, 1, 193, 96, 61, 132, 5, 1, 167, 255, 224, 132, 3, 1, 167, 255, 182, 42, 42, 180, 1, 184]
abbrev dktX5_wearsNight_3 : List UInt8 := dkwX5_wearsNight_3 ++ dktX5_wearsNight_4
def dkwX5_wearsNight_2 : List UInt8 := [54, 5, 21, 5, 16, 48, 162, 0, 31, 42, 180, 0, 81, 21, 5, 51, 153, 0, 15, 28, 42, 21, 5, 29]
abbrev dktX5_wearsNight_2 : List UInt8 := dkwX5_wearsNight_2 ++ dktX5_wearsNight_3
def dkwX5_wearsNight_1 : List UInt8 := [180, 0, 66, 29, 46, 182, 1, 181, 42, 42, 180, 1, 175, 42, 180, 1, 178, 27, 182, 1, 53, 54, 4, 3]
abbrev dktX5_wearsNight_1 : List UInt8 := dkwX5_wearsNight_1 ++ dktX5_wearsNight_2
def dkwX5_wearsNight_0 : List UInt8 := [42, 3, 181, 1, 175, 42, 3, 181, 1, 178, 3, 61, 3, 62, 29, 42, 180, 1, 28, 162, 0, 72, 42, 42]
abbrev dktX5_wearsNight_0 : List UInt8 := dkwX5_wearsNight_0 ++ dktX5_wearsNight_1
theorem dksX5_wearsNight_0 : cX5_wearsNight.data.toList.drop 0 = dktX5_wearsNight_0 := by decide +kernel
theorem dksX5_wearsNight_1 : cX5_wearsNight.data.toList.drop 24 = dktX5_wearsNight_1 := dk_seg dksX5_wearsNight_0 24 rfl rfl
theorem dksX5_wearsNight_2 : cX5_wearsNight.data.toList.drop 48 = dktX5_wearsNight_2 := dk_seg dksX5_wearsNight_1 24 rfl rfl
theorem dksX5_wearsNight_3 : cX5_wearsNight.data.toList.drop 72 = dktX5_wearsNight_3 := dk_seg dksX5_wearsNight_2 24 rfl rfl
theorem dksX5_wearsNight_4 : cX5_wearsNight.data.toList.drop 96 = dktX5_wearsNight_4 := dk_seg dksX5_wearsNight_3 24 rfl rfl
theorem dX5_wearsNight_0 : decode cX5_wearsNight 0 = .ok (.aload_n 0, 1) := dk_42 (dk_at dksX5_wearsNight_0 0 rfl rfl)
theorem dX5_wearsNight_1 : decode cX5_wearsNight 1 = .ok (.iconst 0, 1) := dk_3 (dk_at dksX5_wearsNight_0 1 rfl rfl)
theorem dX5_wearsNight_2 : decode cX5_wearsNight 2 = .ok (.putfield 431, 3) := dk_181 1 175 (dk_at dksX5_wearsNight_0 2 rfl rfl)
theorem dX5_wearsNight_5 : decode cX5_wearsNight 5 = .ok (.aload_n 0, 1) := dk_42 (dk_at dksX5_wearsNight_0 5 rfl rfl)
theorem dX5_wearsNight_6 : decode cX5_wearsNight 6 = .ok (.iconst 0, 1) := dk_3 (dk_at dksX5_wearsNight_0 6 rfl rfl)
theorem dX5_wearsNight_7 : decode cX5_wearsNight 7 = .ok (.putfield 434, 3) := dk_181 1 178 (dk_at dksX5_wearsNight_0 7 rfl rfl)
theorem dX5_wearsNight_10 : decode cX5_wearsNight 10 = .ok (.iconst 0, 1) := dk_3 (dk_at dksX5_wearsNight_0 10 rfl rfl)
theorem dX5_wearsNight_11 : decode cX5_wearsNight 11 = .ok (.istore_n 2, 1) := dk_61 (dk_at dksX5_wearsNight_0 11 rfl rfl)
theorem dX5_wearsNight_12 : decode cX5_wearsNight 12 = .ok (.iconst 0, 1) := dk_3 (dk_at dksX5_wearsNight_0 12 rfl rfl)
theorem dX5_wearsNight_13 : decode cX5_wearsNight 13 = .ok (.istore_n 3, 1) := dk_62 (dk_at dksX5_wearsNight_0 13 rfl rfl)
theorem dX5_wearsNight_14 : decode cX5_wearsNight 14 = .ok (.iload_n 3, 1) := dk_29 (dk_at dksX5_wearsNight_0 14 rfl rfl)
theorem dX5_wearsNight_15 : decode cX5_wearsNight 15 = .ok (.aload_n 0, 1) := dk_42 (dk_at dksX5_wearsNight_0 15 rfl rfl)
theorem dX5_wearsNight_16 : decode cX5_wearsNight 16 = .ok (.getfield 284, 3) := dk_180 1 28 (dk_at dksX5_wearsNight_0 16 rfl rfl)
theorem dX5_wearsNight_19 : decode cX5_wearsNight 19 = .ok (.if_icmp .ge 72, 3) := dk_162 0 72 (dk_at dksX5_wearsNight_0 19 rfl rfl)
theorem dX5_wearsNight_22 : decode cX5_wearsNight 22 = .ok (.aload_n 0, 1) := dk_42 (dk_at dksX5_wearsNight_0 22 rfl rfl)
theorem dX5_wearsNight_23 : decode cX5_wearsNight 23 = .ok (.aload_n 0, 1) := dk_42 (dk_at dksX5_wearsNight_0 23 rfl rfl)
theorem dX5_wearsNight_24 : decode cX5_wearsNight 24 = .ok (.getfield 66, 3) := dk_180 0 66 (dk_at dksX5_wearsNight_1 0 rfl rfl)
theorem dX5_wearsNight_27 : decode cX5_wearsNight 27 = .ok (.iload_n 3, 1) := dk_29 (dk_at dksX5_wearsNight_1 3 rfl rfl)
theorem dX5_wearsNight_28 : decode cX5_wearsNight 28 = .ok (.iaload, 1) := dk_46 (dk_at dksX5_wearsNight_1 4 rfl rfl)
theorem dX5_wearsNight_29 : decode cX5_wearsNight 29 = .ok (.invokevirtual 437, 3) := dk_182 1 181 (dk_at dksX5_wearsNight_1 5 rfl rfl)
theorem dX5_wearsNight_32 : decode cX5_wearsNight 32 = .ok (.aload_n 0, 1) := dk_42 (dk_at dksX5_wearsNight_1 8 rfl rfl)
theorem dX5_wearsNight_33 : decode cX5_wearsNight 33 = .ok (.aload_n 0, 1) := dk_42 (dk_at dksX5_wearsNight_1 9 rfl rfl)
theorem dX5_wearsNight_34 : decode cX5_wearsNight 34 = .ok (.getfield 431, 3) := dk_180 1 175 (dk_at dksX5_wearsNight_1 10 rfl rfl)
theorem dX5_wearsNight_37 : decode cX5_wearsNight 37 = .ok (.aload_n 0, 1) := dk_42 (dk_at dksX5_wearsNight_1 13 rfl rfl)
theorem dX5_wearsNight_38 : decode cX5_wearsNight 38 = .ok (.getfield 434, 3) := dk_180 1 178 (dk_at dksX5_wearsNight_1 14 rfl rfl)
theorem dX5_wearsNight_41 : decode cX5_wearsNight 41 = .ok (.iload_n 1, 1) := dk_27 (dk_at dksX5_wearsNight_1 17 rfl rfl)
theorem dX5_wearsNight_42 : decode cX5_wearsNight 42 = .ok (.invokevirtual 309, 3) := dk_182 1 53 (dk_at dksX5_wearsNight_1 18 rfl rfl)
theorem dX5_wearsNight_45 : decode cX5_wearsNight 45 = .ok (.istore 4, 2) := dk_54 4 (dk_at dksX5_wearsNight_1 21 rfl rfl)
theorem dX5_wearsNight_47 : decode cX5_wearsNight 47 = .ok (.iconst 0, 1) := dk_3 (dk_at dksX5_wearsNight_1 23 rfl rfl)
theorem dX5_wearsNight_48 : decode cX5_wearsNight 48 = .ok (.istore 5, 2) := dk_54 5 (dk_at dksX5_wearsNight_2 0 rfl rfl)
theorem dX5_wearsNight_50 : decode cX5_wearsNight 50 = .ok (.iload 5, 2) := dk_21 5 (dk_at dksX5_wearsNight_2 2 rfl rfl)
theorem dX5_wearsNight_52 : decode cX5_wearsNight 52 = .ok (.bipush 48, 2) := dk_16 48 (dk_at dksX5_wearsNight_2 4 rfl rfl)
theorem dX5_wearsNight_54 : decode cX5_wearsNight 54 = .ok (.if_icmp .ge 31, 3) := dk_162 0 31 (dk_at dksX5_wearsNight_2 6 rfl rfl)
theorem dX5_wearsNight_57 : decode cX5_wearsNight 57 = .ok (.aload_n 0, 1) := dk_42 (dk_at dksX5_wearsNight_2 9 rfl rfl)
theorem dX5_wearsNight_58 : decode cX5_wearsNight 58 = .ok (.getfield 81, 3) := dk_180 0 81 (dk_at dksX5_wearsNight_2 10 rfl rfl)
theorem dX5_wearsNight_61 : decode cX5_wearsNight 61 = .ok (.iload 5, 2) := dk_21 5 (dk_at dksX5_wearsNight_2 13 rfl rfl)
theorem dX5_wearsNight_63 : decode cX5_wearsNight 63 = .ok (.baload, 1) := dk_51 (dk_at dksX5_wearsNight_2 15 rfl rfl)
theorem dX5_wearsNight_64 : decode cX5_wearsNight 64 = .ok (.ifCond .eq 15, 3) := dk_153 0 15 (dk_at dksX5_wearsNight_2 16 rfl rfl)
theorem dX5_wearsNight_67 : decode cX5_wearsNight 67 = .ok (.iload_n 2, 1) := dk_28 (dk_at dksX5_wearsNight_2 19 rfl rfl)
theorem dX5_wearsNight_68 : decode cX5_wearsNight 68 = .ok (.aload_n 0, 1) := dk_42 (dk_at dksX5_wearsNight_2 20 rfl rfl)
theorem dX5_wearsNight_69 : decode cX5_wearsNight 69 = .ok (.iload 5, 2) := dk_21 5 (dk_at dksX5_wearsNight_2 21 rfl rfl)
theorem dX5_wearsNight_71 : decode cX5_wearsNight 71 = .ok (.iload_n 3, 1) := dk_29 (dk_at dksX5_wearsNight_2 23 rfl rfl)
theorem dX5_wearsNight_72 : decode cX5_wearsNight 72 = .ok (.iload 4, 2) := dk_21 4 (dk_at dksX5_wearsNight_3 0 rfl rfl)
theorem dX5_wearsNight_74 : decode cX5_wearsNight 74 = .ok (.invokevirtual 449, 3) := dk_182 1 193 (dk_at dksX5_wearsNight_3 2 rfl rfl)
theorem dX5_wearsNight_77 : decode cX5_wearsNight 77 = .ok (.iadd, 1) := dk_96 (dk_at dksX5_wearsNight_3 5 rfl rfl)
theorem dX5_wearsNight_78 : decode cX5_wearsNight 78 = .ok (.istore_n 2, 1) := dk_61 (dk_at dksX5_wearsNight_3 6 rfl rfl)
theorem dX5_wearsNight_79 : decode cX5_wearsNight 79 = .ok (.iinc 5 1, 3) := dk_132 5 1 (dk_at dksX5_wearsNight_3 7 rfl rfl)
theorem dX5_wearsNight_82 : decode cX5_wearsNight 82 = .ok (.goto (-32), 3) := dk_167 255 224 (dk_at dksX5_wearsNight_3 10 rfl rfl)
theorem dX5_wearsNight_85 : decode cX5_wearsNight 85 = .ok (.iinc 3 1, 3) := dk_132 3 1 (dk_at dksX5_wearsNight_3 13 rfl rfl)
theorem dX5_wearsNight_88 : decode cX5_wearsNight 88 = .ok (.goto (-74), 3) := dk_167 255 182 (dk_at dksX5_wearsNight_3 16 rfl rfl)
theorem dX5_wearsNight_91 : decode cX5_wearsNight 91 = .ok (.aload_n 0, 1) := dk_42 (dk_at dksX5_wearsNight_3 19 rfl rfl)
theorem dX5_wearsNight_92 : decode cX5_wearsNight 92 = .ok (.aload_n 0, 1) := dk_42 (dk_at dksX5_wearsNight_3 20 rfl rfl)
theorem dX5_wearsNight_93 : decode cX5_wearsNight 93 = .ok (.getfield 440, 3) := dk_180 1 184 (dk_at dksX5_wearsNight_3 21 rfl rfl)
theorem dX5_wearsNight_96 : decode cX5_wearsNight 96 = .ok (.iconst 1, 1) := dk_4 (dk_at dksX5_wearsNight_4 0 rfl rfl)
theorem dX5_wearsNight_97 : decode cX5_wearsNight 97 = .ok (.iadd, 1) := dk_96 (dk_at dksX5_wearsNight_4 1 rfl rfl)
theorem dX5_wearsNight_98 : decode cX5_wearsNight 98 = .ok (.putfield 440, 3) := dk_181 1 184 (dk_at dksX5_wearsNight_4 2 rfl rfl)
theorem dX5_wearsNight_101 : decode cX5_wearsNight 101 = .ok (.iload_n 2, 1) := dk_28 (dk_at dksX5_wearsNight_4 5 rfl rfl)
theorem dX5_wearsNight_102 : decode cX5_wearsNight 102 = .ok (.ireturn, 1) := dk_172 (dk_at dksX5_wearsNight_4 6 rfl rfl)
abbrev cX5_wearsAt : ByteArray := prog_19_method_115_code
def yX5_wearsAt : MethodName := ⟨RX5, "wearsAt", "(III)I"⟩
def dkwX5_wearsAt_9 : List UInt8 := [21, 5, 182, 1, 98, 42, 3, 21, 4, 21, 6, 182, 1, 98, 21, 5, 21, 6, 96, 172]
abbrev dktX5_wearsAt_9 : List UInt8 := dkwX5_wearsAt_9 ++ []
def dkwX5_wearsAt_8 : List UInt8 := [167, 0, 19, 42, 21, 4, 182, 1, 37, 42, 16, 121, 4, 182, 1, 190, 184, 0, 239, 54, 6, 42, 4, 27]
abbrev dktX5_wearsAt_8 : List UInt8 := dkwX5_wearsAt_8 ++ dktX5_wearsAt_9
def dkwX5_wearsAt_7 : List UInt8 := [16, 118, 3, 182, 1, 190, 184, 0, 239, 54, 5, 42, 180, 0, 16, 21, 4, 51, 153, 0, 7, 3]
abbrev dktX5_wearsAt_7 : List UInt8 := dkwX5_wearsAt_7 ++ dktX5_wearsAt_8
def dkwX5_wearsAt_6 : List UInt8 := [162, 0, 5, 3, 172, 42, 180, 0, 16, 27, 51, 153, 0, 7, 3, 167, 0, 18, 42, 27, 182, 1, 34, 42]
abbrev dktX5_wearsAt_6 : List UInt8 := dkwX5_wearsAt_6 ++ dktX5_wearsAt_7
def dkwX5_wearsAt_5 : List UInt8 := [180, 0, 60, 16, 9, 42, 182, 1, 187, 16, 10, 112, 79, 42, 16, 120, 182, 0, 236, 42, 180, 0, 225]
abbrev dktX5_wearsAt_5 : List UInt8 := dkwX5_wearsAt_5 ++ dktX5_wearsAt_6
def dkwX5_wearsAt_4 : List UInt8 := [16, 7, 28, 16, 100, 112, 79, 42, 180, 0, 60, 16, 8, 42, 180, 1, 184, 16, 100, 112, 79, 42]
abbrev dktX5_wearsAt_4 : List UInt8 := dkwX5_wearsAt_4 ++ dktX5_wearsAt_5
def dkwX5_wearsAt_3 : List UInt8 := [180, 0, 60, 8, 42, 180, 1, 178, 6, 96, 79, 42, 180, 0, 60, 16, 6, 29, 79, 42, 180, 0, 60]
abbrev dktX5_wearsAt_3 : List UInt8 := dkwX5_wearsAt_3 ++ dktX5_wearsAt_4
def dkwX5_wearsAt_2 : List UInt8 := [180, 0, 60, 6, 27, 16, 8, 108, 79, 42, 180, 0, 60, 7, 42, 180, 1, 175, 7, 96, 79, 42]
abbrev dktX5_wearsAt_2 : List UInt8 := dkwX5_wearsAt_2 ++ dktX5_wearsAt_3
def dkwX5_wearsAt_1 : List UInt8 := [79, 42, 180, 0, 60, 4, 42, 21, 4, 182, 1, 37, 79, 42, 180, 0, 60, 5, 27, 16, 8, 112, 79, 42]
abbrev dktX5_wearsAt_1 : List UInt8 := dkwX5_wearsAt_1 ++ dktX5_wearsAt_2
def dkwX5_wearsAt_0 : List UInt8 := [27, 42, 180, 1, 175, 42, 180, 1, 178, 184, 1, 31, 54, 4, 42, 180, 0, 60, 3, 42, 27, 182, 1, 34]
abbrev dktX5_wearsAt_0 : List UInt8 := dkwX5_wearsAt_0 ++ dktX5_wearsAt_1
theorem dksX5_wearsAt_0 : cX5_wearsAt.data.toList.drop 0 = dktX5_wearsAt_0 := by decide +kernel
theorem dksX5_wearsAt_1 : cX5_wearsAt.data.toList.drop 24 = dktX5_wearsAt_1 := dk_seg dksX5_wearsAt_0 24 rfl rfl
theorem dksX5_wearsAt_2 : cX5_wearsAt.data.toList.drop 48 = dktX5_wearsAt_2 := dk_seg dksX5_wearsAt_1 24 rfl rfl
theorem dksX5_wearsAt_3 : cX5_wearsAt.data.toList.drop 70 = dktX5_wearsAt_3 := dk_seg dksX5_wearsAt_2 22 rfl rfl
theorem dksX5_wearsAt_4 : cX5_wearsAt.data.toList.drop 93 = dktX5_wearsAt_4 := dk_seg dksX5_wearsAt_3 23 rfl rfl
theorem dksX5_wearsAt_5 : cX5_wearsAt.data.toList.drop 115 = dktX5_wearsAt_5 := dk_seg dksX5_wearsAt_4 22 rfl rfl
theorem dksX5_wearsAt_6 : cX5_wearsAt.data.toList.drop 138 = dktX5_wearsAt_6 := dk_seg dksX5_wearsAt_5 23 rfl rfl
theorem dksX5_wearsAt_7 : cX5_wearsAt.data.toList.drop 162 = dktX5_wearsAt_7 := dk_seg dksX5_wearsAt_6 24 rfl rfl
theorem dksX5_wearsAt_8 : cX5_wearsAt.data.toList.drop 184 = dktX5_wearsAt_8 := dk_seg dksX5_wearsAt_7 22 rfl rfl
theorem dksX5_wearsAt_9 : cX5_wearsAt.data.toList.drop 208 = dktX5_wearsAt_9 := dk_seg dksX5_wearsAt_8 24 rfl rfl
theorem dX5_wearsAt_0 : decode cX5_wearsAt 0 = .ok (.iload_n 1, 1) := dk_27 (dk_at dksX5_wearsAt_0 0 rfl rfl)
theorem dX5_wearsAt_1 : decode cX5_wearsAt 1 = .ok (.aload_n 0, 1) := dk_42 (dk_at dksX5_wearsAt_0 1 rfl rfl)
theorem dX5_wearsAt_2 : decode cX5_wearsAt 2 = .ok (.getfield 431, 3) := dk_180 1 175 (dk_at dksX5_wearsAt_0 2 rfl rfl)
theorem dX5_wearsAt_5 : decode cX5_wearsAt 5 = .ok (.aload_n 0, 1) := dk_42 (dk_at dksX5_wearsAt_0 5 rfl rfl)
theorem dX5_wearsAt_6 : decode cX5_wearsAt 6 = .ok (.getfield 434, 3) := dk_180 1 178 (dk_at dksX5_wearsAt_0 6 rfl rfl)
theorem dX5_wearsAt_9 : decode cX5_wearsAt 9 = .ok (.invokestatic 287, 3) := dk_184 1 31 (dk_at dksX5_wearsAt_0 9 rfl rfl)
theorem dX5_wearsAt_12 : decode cX5_wearsAt 12 = .ok (.istore 4, 2) := dk_54 4 (dk_at dksX5_wearsAt_0 12 rfl rfl)
theorem dX5_wearsAt_14 : decode cX5_wearsAt 14 = .ok (.aload_n 0, 1) := dk_42 (dk_at dksX5_wearsAt_0 14 rfl rfl)
theorem dX5_wearsAt_15 : decode cX5_wearsAt 15 = .ok (.getfield 60, 3) := dk_180 0 60 (dk_at dksX5_wearsAt_0 15 rfl rfl)
theorem dX5_wearsAt_18 : decode cX5_wearsAt 18 = .ok (.iconst 0, 1) := dk_3 (dk_at dksX5_wearsAt_0 18 rfl rfl)
theorem dX5_wearsAt_19 : decode cX5_wearsAt 19 = .ok (.aload_n 0, 1) := dk_42 (dk_at dksX5_wearsAt_0 19 rfl rfl)
theorem dX5_wearsAt_20 : decode cX5_wearsAt 20 = .ok (.iload_n 1, 1) := dk_27 (dk_at dksX5_wearsAt_0 20 rfl rfl)
theorem dX5_wearsAt_21 : decode cX5_wearsAt 21 = .ok (.invokevirtual 290, 3) := dk_182 1 34 (dk_at dksX5_wearsAt_0 21 rfl rfl)
theorem dX5_wearsAt_24 : decode cX5_wearsAt 24 = .ok (.iastore, 1) := dk_79 (dk_at dksX5_wearsAt_1 0 rfl rfl)
theorem dX5_wearsAt_25 : decode cX5_wearsAt 25 = .ok (.aload_n 0, 1) := dk_42 (dk_at dksX5_wearsAt_1 1 rfl rfl)
theorem dX5_wearsAt_26 : decode cX5_wearsAt 26 = .ok (.getfield 60, 3) := dk_180 0 60 (dk_at dksX5_wearsAt_1 2 rfl rfl)
theorem dX5_wearsAt_29 : decode cX5_wearsAt 29 = .ok (.iconst 1, 1) := dk_4 (dk_at dksX5_wearsAt_1 5 rfl rfl)
theorem dX5_wearsAt_30 : decode cX5_wearsAt 30 = .ok (.aload_n 0, 1) := dk_42 (dk_at dksX5_wearsAt_1 6 rfl rfl)
theorem dX5_wearsAt_31 : decode cX5_wearsAt 31 = .ok (.iload 4, 2) := dk_21 4 (dk_at dksX5_wearsAt_1 7 rfl rfl)
theorem dX5_wearsAt_33 : decode cX5_wearsAt 33 = .ok (.invokevirtual 293, 3) := dk_182 1 37 (dk_at dksX5_wearsAt_1 9 rfl rfl)
theorem dX5_wearsAt_36 : decode cX5_wearsAt 36 = .ok (.iastore, 1) := dk_79 (dk_at dksX5_wearsAt_1 12 rfl rfl)
theorem dX5_wearsAt_37 : decode cX5_wearsAt 37 = .ok (.aload_n 0, 1) := dk_42 (dk_at dksX5_wearsAt_1 13 rfl rfl)
theorem dX5_wearsAt_38 : decode cX5_wearsAt 38 = .ok (.getfield 60, 3) := dk_180 0 60 (dk_at dksX5_wearsAt_1 14 rfl rfl)
theorem dX5_wearsAt_41 : decode cX5_wearsAt 41 = .ok (.iconst 2, 1) := dk_5 (dk_at dksX5_wearsAt_1 17 rfl rfl)
theorem dX5_wearsAt_42 : decode cX5_wearsAt 42 = .ok (.iload_n 1, 1) := dk_27 (dk_at dksX5_wearsAt_1 18 rfl rfl)
theorem dX5_wearsAt_43 : decode cX5_wearsAt 43 = .ok (.bipush 8, 2) := dk_16 8 (dk_at dksX5_wearsAt_1 19 rfl rfl)
theorem dX5_wearsAt_45 : decode cX5_wearsAt 45 = .ok (.irem, 1) := dk_112 (dk_at dksX5_wearsAt_1 21 rfl rfl)
theorem dX5_wearsAt_46 : decode cX5_wearsAt 46 = .ok (.iastore, 1) := dk_79 (dk_at dksX5_wearsAt_1 22 rfl rfl)
theorem dX5_wearsAt_47 : decode cX5_wearsAt 47 = .ok (.aload_n 0, 1) := dk_42 (dk_at dksX5_wearsAt_1 23 rfl rfl)
theorem dX5_wearsAt_48 : decode cX5_wearsAt 48 = .ok (.getfield 60, 3) := dk_180 0 60 (dk_at dksX5_wearsAt_2 0 rfl rfl)
theorem dX5_wearsAt_51 : decode cX5_wearsAt 51 = .ok (.iconst 3, 1) := dk_6 (dk_at dksX5_wearsAt_2 3 rfl rfl)
theorem dX5_wearsAt_52 : decode cX5_wearsAt 52 = .ok (.iload_n 1, 1) := dk_27 (dk_at dksX5_wearsAt_2 4 rfl rfl)
theorem dX5_wearsAt_53 : decode cX5_wearsAt 53 = .ok (.bipush 8, 2) := dk_16 8 (dk_at dksX5_wearsAt_2 5 rfl rfl)
theorem dX5_wearsAt_55 : decode cX5_wearsAt 55 = .ok (.idiv, 1) := dk_108 (dk_at dksX5_wearsAt_2 7 rfl rfl)
theorem dX5_wearsAt_56 : decode cX5_wearsAt 56 = .ok (.iastore, 1) := dk_79 (dk_at dksX5_wearsAt_2 8 rfl rfl)
theorem dX5_wearsAt_57 : decode cX5_wearsAt 57 = .ok (.aload_n 0, 1) := dk_42 (dk_at dksX5_wearsAt_2 9 rfl rfl)
theorem dX5_wearsAt_58 : decode cX5_wearsAt 58 = .ok (.getfield 60, 3) := dk_180 0 60 (dk_at dksX5_wearsAt_2 10 rfl rfl)
theorem dX5_wearsAt_61 : decode cX5_wearsAt 61 = .ok (.iconst 4, 1) := dk_7 (dk_at dksX5_wearsAt_2 13 rfl rfl)
theorem dX5_wearsAt_62 : decode cX5_wearsAt 62 = .ok (.aload_n 0, 1) := dk_42 (dk_at dksX5_wearsAt_2 14 rfl rfl)
theorem dX5_wearsAt_63 : decode cX5_wearsAt 63 = .ok (.getfield 431, 3) := dk_180 1 175 (dk_at dksX5_wearsAt_2 15 rfl rfl)
theorem dX5_wearsAt_66 : decode cX5_wearsAt 66 = .ok (.iconst 4, 1) := dk_7 (dk_at dksX5_wearsAt_2 18 rfl rfl)
theorem dX5_wearsAt_67 : decode cX5_wearsAt 67 = .ok (.iadd, 1) := dk_96 (dk_at dksX5_wearsAt_2 19 rfl rfl)
theorem dX5_wearsAt_68 : decode cX5_wearsAt 68 = .ok (.iastore, 1) := dk_79 (dk_at dksX5_wearsAt_2 20 rfl rfl)
theorem dX5_wearsAt_69 : decode cX5_wearsAt 69 = .ok (.aload_n 0, 1) := dk_42 (dk_at dksX5_wearsAt_2 21 rfl rfl)
theorem dX5_wearsAt_70 : decode cX5_wearsAt 70 = .ok (.getfield 60, 3) := dk_180 0 60 (dk_at dksX5_wearsAt_3 0 rfl rfl)
theorem dX5_wearsAt_73 : decode cX5_wearsAt 73 = .ok (.iconst 5, 1) := dk_8 (dk_at dksX5_wearsAt_3 3 rfl rfl)
theorem dX5_wearsAt_74 : decode cX5_wearsAt 74 = .ok (.aload_n 0, 1) := dk_42 (dk_at dksX5_wearsAt_3 4 rfl rfl)
theorem dX5_wearsAt_75 : decode cX5_wearsAt 75 = .ok (.getfield 434, 3) := dk_180 1 178 (dk_at dksX5_wearsAt_3 5 rfl rfl)
theorem dX5_wearsAt_78 : decode cX5_wearsAt 78 = .ok (.iconst 3, 1) := dk_6 (dk_at dksX5_wearsAt_3 8 rfl rfl)
theorem dX5_wearsAt_79 : decode cX5_wearsAt 79 = .ok (.iadd, 1) := dk_96 (dk_at dksX5_wearsAt_3 9 rfl rfl)
theorem dX5_wearsAt_80 : decode cX5_wearsAt 80 = .ok (.iastore, 1) := dk_79 (dk_at dksX5_wearsAt_3 10 rfl rfl)
theorem dX5_wearsAt_81 : decode cX5_wearsAt 81 = .ok (.aload_n 0, 1) := dk_42 (dk_at dksX5_wearsAt_3 11 rfl rfl)
theorem dX5_wearsAt_82 : decode cX5_wearsAt 82 = .ok (.getfield 60, 3) := dk_180 0 60 (dk_at dksX5_wearsAt_3 12 rfl rfl)
theorem dX5_wearsAt_85 : decode cX5_wearsAt 85 = .ok (.bipush 6, 2) := dk_16 6 (dk_at dksX5_wearsAt_3 15 rfl rfl)
theorem dX5_wearsAt_87 : decode cX5_wearsAt 87 = .ok (.iload_n 3, 1) := dk_29 (dk_at dksX5_wearsAt_3 17 rfl rfl)
theorem dX5_wearsAt_88 : decode cX5_wearsAt 88 = .ok (.iastore, 1) := dk_79 (dk_at dksX5_wearsAt_3 18 rfl rfl)
theorem dX5_wearsAt_89 : decode cX5_wearsAt 89 = .ok (.aload_n 0, 1) := dk_42 (dk_at dksX5_wearsAt_3 19 rfl rfl)
theorem dX5_wearsAt_90 : decode cX5_wearsAt 90 = .ok (.getfield 60, 3) := dk_180 0 60 (dk_at dksX5_wearsAt_3 20 rfl rfl)
theorem dX5_wearsAt_93 : decode cX5_wearsAt 93 = .ok (.bipush 7, 2) := dk_16 7 (dk_at dksX5_wearsAt_4 0 rfl rfl)
theorem dX5_wearsAt_95 : decode cX5_wearsAt 95 = .ok (.iload_n 2, 1) := dk_28 (dk_at dksX5_wearsAt_4 2 rfl rfl)
theorem dX5_wearsAt_96 : decode cX5_wearsAt 96 = .ok (.bipush 100, 2) := dk_16 100 (dk_at dksX5_wearsAt_4 3 rfl rfl)
theorem dX5_wearsAt_98 : decode cX5_wearsAt 98 = .ok (.irem, 1) := dk_112 (dk_at dksX5_wearsAt_4 5 rfl rfl)
theorem dX5_wearsAt_99 : decode cX5_wearsAt 99 = .ok (.iastore, 1) := dk_79 (dk_at dksX5_wearsAt_4 6 rfl rfl)
theorem dX5_wearsAt_100 : decode cX5_wearsAt 100 = .ok (.aload_n 0, 1) := dk_42 (dk_at dksX5_wearsAt_4 7 rfl rfl)
theorem dX5_wearsAt_101 : decode cX5_wearsAt 101 = .ok (.getfield 60, 3) := dk_180 0 60 (dk_at dksX5_wearsAt_4 8 rfl rfl)
theorem dX5_wearsAt_104 : decode cX5_wearsAt 104 = .ok (.bipush 8, 2) := dk_16 8 (dk_at dksX5_wearsAt_4 11 rfl rfl)
theorem dX5_wearsAt_106 : decode cX5_wearsAt 106 = .ok (.aload_n 0, 1) := dk_42 (dk_at dksX5_wearsAt_4 13 rfl rfl)
theorem dX5_wearsAt_107 : decode cX5_wearsAt 107 = .ok (.getfield 440, 3) := dk_180 1 184 (dk_at dksX5_wearsAt_4 14 rfl rfl)
theorem dX5_wearsAt_110 : decode cX5_wearsAt 110 = .ok (.bipush 100, 2) := dk_16 100 (dk_at dksX5_wearsAt_4 17 rfl rfl)
theorem dX5_wearsAt_112 : decode cX5_wearsAt 112 = .ok (.irem, 1) := dk_112 (dk_at dksX5_wearsAt_4 19 rfl rfl)
theorem dX5_wearsAt_113 : decode cX5_wearsAt 113 = .ok (.iastore, 1) := dk_79 (dk_at dksX5_wearsAt_4 20 rfl rfl)
theorem dX5_wearsAt_114 : decode cX5_wearsAt 114 = .ok (.aload_n 0, 1) := dk_42 (dk_at dksX5_wearsAt_4 21 rfl rfl)
theorem dX5_wearsAt_115 : decode cX5_wearsAt 115 = .ok (.getfield 60, 3) := dk_180 0 60 (dk_at dksX5_wearsAt_5 0 rfl rfl)
theorem dX5_wearsAt_118 : decode cX5_wearsAt 118 = .ok (.bipush 9, 2) := dk_16 9 (dk_at dksX5_wearsAt_5 3 rfl rfl)
theorem dX5_wearsAt_120 : decode cX5_wearsAt 120 = .ok (.aload_n 0, 1) := dk_42 (dk_at dksX5_wearsAt_5 5 rfl rfl)
theorem dX5_wearsAt_121 : decode cX5_wearsAt 121 = .ok (.invokevirtual 443, 3) := dk_182 1 187 (dk_at dksX5_wearsAt_5 6 rfl rfl)
theorem dX5_wearsAt_124 : decode cX5_wearsAt 124 = .ok (.bipush 10, 2) := dk_16 10 (dk_at dksX5_wearsAt_5 9 rfl rfl)
theorem dX5_wearsAt_126 : decode cX5_wearsAt 126 = .ok (.irem, 1) := dk_112 (dk_at dksX5_wearsAt_5 11 rfl rfl)
theorem dX5_wearsAt_127 : decode cX5_wearsAt 127 = .ok (.iastore, 1) := dk_79 (dk_at dksX5_wearsAt_5 12 rfl rfl)
theorem dX5_wearsAt_128 : decode cX5_wearsAt 128 = .ok (.aload_n 0, 1) := dk_42 (dk_at dksX5_wearsAt_5 13 rfl rfl)
theorem dX5_wearsAt_129 : decode cX5_wearsAt 129 = .ok (.bipush 120, 2) := dk_16 120 (dk_at dksX5_wearsAt_5 14 rfl rfl)
theorem dX5_wearsAt_131 : decode cX5_wearsAt 131 = .ok (.invokevirtual 236, 3) := dk_182 0 236 (dk_at dksX5_wearsAt_5 16 rfl rfl)
theorem dX5_wearsAt_134 : decode cX5_wearsAt 134 = .ok (.aload_n 0, 1) := dk_42 (dk_at dksX5_wearsAt_5 19 rfl rfl)
theorem dX5_wearsAt_135 : decode cX5_wearsAt 135 = .ok (.getfield 225, 3) := dk_180 0 225 (dk_at dksX5_wearsAt_5 20 rfl rfl)
theorem dX5_wearsAt_138 : decode cX5_wearsAt 138 = .ok (.if_icmp .ge 5, 3) := dk_162 0 5 (dk_at dksX5_wearsAt_6 0 rfl rfl)
theorem dX5_wearsAt_141 : decode cX5_wearsAt 141 = .ok (.iconst 0, 1) := dk_3 (dk_at dksX5_wearsAt_6 3 rfl rfl)
theorem dX5_wearsAt_142 : decode cX5_wearsAt 142 = .ok (.ireturn, 1) := dk_172 (dk_at dksX5_wearsAt_6 4 rfl rfl)
theorem dX5_wearsAt_143 : decode cX5_wearsAt 143 = .ok (.aload_n 0, 1) := dk_42 (dk_at dksX5_wearsAt_6 5 rfl rfl)
theorem dX5_wearsAt_144 : decode cX5_wearsAt 144 = .ok (.getfield 16, 3) := dk_180 0 16 (dk_at dksX5_wearsAt_6 6 rfl rfl)
theorem dX5_wearsAt_147 : decode cX5_wearsAt 147 = .ok (.iload_n 1, 1) := dk_27 (dk_at dksX5_wearsAt_6 9 rfl rfl)
theorem dX5_wearsAt_148 : decode cX5_wearsAt 148 = .ok (.baload, 1) := dk_51 (dk_at dksX5_wearsAt_6 10 rfl rfl)
theorem dX5_wearsAt_149 : decode cX5_wearsAt 149 = .ok (.ifCond .eq 7, 3) := dk_153 0 7 (dk_at dksX5_wearsAt_6 11 rfl rfl)
theorem dX5_wearsAt_152 : decode cX5_wearsAt 152 = .ok (.iconst 0, 1) := dk_3 (dk_at dksX5_wearsAt_6 14 rfl rfl)
theorem dX5_wearsAt_153 : decode cX5_wearsAt 153 = .ok (.goto 18, 3) := dk_167 0 18 (dk_at dksX5_wearsAt_6 15 rfl rfl)
theorem dX5_wearsAt_156 : decode cX5_wearsAt 156 = .ok (.aload_n 0, 1) := dk_42 (dk_at dksX5_wearsAt_6 18 rfl rfl)
theorem dX5_wearsAt_157 : decode cX5_wearsAt 157 = .ok (.iload_n 1, 1) := dk_27 (dk_at dksX5_wearsAt_6 19 rfl rfl)
theorem dX5_wearsAt_158 : decode cX5_wearsAt 158 = .ok (.invokevirtual 290, 3) := dk_182 1 34 (dk_at dksX5_wearsAt_6 20 rfl rfl)
theorem dX5_wearsAt_161 : decode cX5_wearsAt 161 = .ok (.aload_n 0, 1) := dk_42 (dk_at dksX5_wearsAt_6 23 rfl rfl)
theorem dX5_wearsAt_162 : decode cX5_wearsAt 162 = .ok (.bipush 118, 2) := dk_16 118 (dk_at dksX5_wearsAt_7 0 rfl rfl)
theorem dX5_wearsAt_164 : decode cX5_wearsAt 164 = .ok (.iconst 0, 1) := dk_3 (dk_at dksX5_wearsAt_7 2 rfl rfl)
theorem dX5_wearsAt_165 : decode cX5_wearsAt 165 = .ok (.invokevirtual 446, 3) := dk_182 1 190 (dk_at dksX5_wearsAt_7 3 rfl rfl)
theorem dX5_wearsAt_168 : decode cX5_wearsAt 168 = .ok (.invokestatic 239, 3) := dk_184 0 239 (dk_at dksX5_wearsAt_7 6 rfl rfl)
theorem dX5_wearsAt_171 : decode cX5_wearsAt 171 = .ok (.istore 5, 2) := dk_54 5 (dk_at dksX5_wearsAt_7 9 rfl rfl)
theorem dX5_wearsAt_173 : decode cX5_wearsAt 173 = .ok (.aload_n 0, 1) := dk_42 (dk_at dksX5_wearsAt_7 11 rfl rfl)
theorem dX5_wearsAt_174 : decode cX5_wearsAt 174 = .ok (.getfield 16, 3) := dk_180 0 16 (dk_at dksX5_wearsAt_7 12 rfl rfl)
theorem dX5_wearsAt_177 : decode cX5_wearsAt 177 = .ok (.iload 4, 2) := dk_21 4 (dk_at dksX5_wearsAt_7 15 rfl rfl)
theorem dX5_wearsAt_179 : decode cX5_wearsAt 179 = .ok (.baload, 1) := dk_51 (dk_at dksX5_wearsAt_7 17 rfl rfl)
theorem dX5_wearsAt_180 : decode cX5_wearsAt 180 = .ok (.ifCond .eq 7, 3) := dk_153 0 7 (dk_at dksX5_wearsAt_7 18 rfl rfl)
theorem dX5_wearsAt_183 : decode cX5_wearsAt 183 = .ok (.iconst 0, 1) := dk_3 (dk_at dksX5_wearsAt_7 21 rfl rfl)
theorem dX5_wearsAt_184 : decode cX5_wearsAt 184 = .ok (.goto 19, 3) := dk_167 0 19 (dk_at dksX5_wearsAt_8 0 rfl rfl)
theorem dX5_wearsAt_187 : decode cX5_wearsAt 187 = .ok (.aload_n 0, 1) := dk_42 (dk_at dksX5_wearsAt_8 3 rfl rfl)
theorem dX5_wearsAt_188 : decode cX5_wearsAt 188 = .ok (.iload 4, 2) := dk_21 4 (dk_at dksX5_wearsAt_8 4 rfl rfl)
theorem dX5_wearsAt_190 : decode cX5_wearsAt 190 = .ok (.invokevirtual 293, 3) := dk_182 1 37 (dk_at dksX5_wearsAt_8 6 rfl rfl)
theorem dX5_wearsAt_193 : decode cX5_wearsAt 193 = .ok (.aload_n 0, 1) := dk_42 (dk_at dksX5_wearsAt_8 9 rfl rfl)
theorem dX5_wearsAt_194 : decode cX5_wearsAt 194 = .ok (.bipush 121, 2) := dk_16 121 (dk_at dksX5_wearsAt_8 10 rfl rfl)
theorem dX5_wearsAt_196 : decode cX5_wearsAt 196 = .ok (.iconst 1, 1) := dk_4 (dk_at dksX5_wearsAt_8 12 rfl rfl)
theorem dX5_wearsAt_197 : decode cX5_wearsAt 197 = .ok (.invokevirtual 446, 3) := dk_182 1 190 (dk_at dksX5_wearsAt_8 13 rfl rfl)
theorem dX5_wearsAt_200 : decode cX5_wearsAt 200 = .ok (.invokestatic 239, 3) := dk_184 0 239 (dk_at dksX5_wearsAt_8 16 rfl rfl)
theorem dX5_wearsAt_203 : decode cX5_wearsAt 203 = .ok (.istore 6, 2) := dk_54 6 (dk_at dksX5_wearsAt_8 19 rfl rfl)
theorem dX5_wearsAt_205 : decode cX5_wearsAt 205 = .ok (.aload_n 0, 1) := dk_42 (dk_at dksX5_wearsAt_8 21 rfl rfl)
theorem dX5_wearsAt_206 : decode cX5_wearsAt 206 = .ok (.iconst 1, 1) := dk_4 (dk_at dksX5_wearsAt_8 22 rfl rfl)
theorem dX5_wearsAt_207 : decode cX5_wearsAt 207 = .ok (.iload_n 1, 1) := dk_27 (dk_at dksX5_wearsAt_8 23 rfl rfl)
theorem dX5_wearsAt_208 : decode cX5_wearsAt 208 = .ok (.iload 5, 2) := dk_21 5 (dk_at dksX5_wearsAt_9 0 rfl rfl)
theorem dX5_wearsAt_210 : decode cX5_wearsAt 210 = .ok (.invokevirtual 354, 3) := dk_182 1 98 (dk_at dksX5_wearsAt_9 2 rfl rfl)
theorem dX5_wearsAt_213 : decode cX5_wearsAt 213 = .ok (.aload_n 0, 1) := dk_42 (dk_at dksX5_wearsAt_9 5 rfl rfl)
theorem dX5_wearsAt_214 : decode cX5_wearsAt 214 = .ok (.iconst 0, 1) := dk_3 (dk_at dksX5_wearsAt_9 6 rfl rfl)
theorem dX5_wearsAt_215 : decode cX5_wearsAt 215 = .ok (.iload 4, 2) := dk_21 4 (dk_at dksX5_wearsAt_9 7 rfl rfl)
theorem dX5_wearsAt_217 : decode cX5_wearsAt 217 = .ok (.iload 6, 2) := dk_21 6 (dk_at dksX5_wearsAt_9 9 rfl rfl)
theorem dX5_wearsAt_219 : decode cX5_wearsAt 219 = .ok (.invokevirtual 354, 3) := dk_182 1 98 (dk_at dksX5_wearsAt_9 11 rfl rfl)
theorem dX5_wearsAt_222 : decode cX5_wearsAt 222 = .ok (.iload 5, 2) := dk_21 5 (dk_at dksX5_wearsAt_9 14 rfl rfl)
theorem dX5_wearsAt_224 : decode cX5_wearsAt 224 = .ok (.iload 6, 2) := dk_21 6 (dk_at dksX5_wearsAt_9 16 rfl rfl)
theorem dX5_wearsAt_226 : decode cX5_wearsAt 226 = .ok (.iadd, 1) := dk_96 (dk_at dksX5_wearsAt_9 18 rfl rfl)
theorem dX5_wearsAt_227 : decode cX5_wearsAt 227 = .ok (.ireturn, 1) := dk_172 (dk_at dksX5_wearsAt_9 19 rfl rfl)
abbrev cX5_lotGoes : ByteArray := prog_19_method_9_code
def yX5_lotGoes : MethodName := ⟨RX5, "lotGoes", "()I"⟩
def dkwX5_lotGoes_0 : List UInt8 := [42, 17, 98, 85, 42, 180, 0, 108, 104, 17, 54, 25, 96, 18, 116, 112, 181, 0, 108, 42, 180, 0, 108, 172]
abbrev dktX5_lotGoes_0 : List UInt8 := dkwX5_lotGoes_0 ++ []
theorem dksX5_lotGoes_0 : cX5_lotGoes.data.toList.drop 0 = dktX5_lotGoes_0 := by decide +kernel
theorem dX5_lotGoes_0 : decode cX5_lotGoes 0 = .ok (.aload_n 0, 1) := dk_42 (dk_at dksX5_lotGoes_0 0 rfl rfl)
theorem dX5_lotGoes_1 : decode cX5_lotGoes 1 = .ok (.sipush 25173, 3) := dk_17 98 85 (dk_at dksX5_lotGoes_0 1 rfl rfl)
theorem dX5_lotGoes_4 : decode cX5_lotGoes 4 = .ok (.aload_n 0, 1) := dk_42 (dk_at dksX5_lotGoes_0 4 rfl rfl)
theorem dX5_lotGoes_5 : decode cX5_lotGoes 5 = .ok (.getfield 108, 3) := dk_180 0 108 (dk_at dksX5_lotGoes_0 5 rfl rfl)
theorem dX5_lotGoes_8 : decode cX5_lotGoes 8 = .ok (.imul, 1) := dk_104 (dk_at dksX5_lotGoes_0 8 rfl rfl)
theorem dX5_lotGoes_9 : decode cX5_lotGoes 9 = .ok (.sipush 13849, 3) := dk_17 54 25 (dk_at dksX5_lotGoes_0 9 rfl rfl)
theorem dX5_lotGoes_12 : decode cX5_lotGoes 12 = .ok (.iadd, 1) := dk_96 (dk_at dksX5_lotGoes_0 12 rfl rfl)
theorem dX5_lotGoes_13 : decode cX5_lotGoes 13 = .ok (.ldc 116, 2) := dk_18 116 (dk_at dksX5_lotGoes_0 13 rfl rfl)
theorem dX5_lotGoes_15 : decode cX5_lotGoes 15 = .ok (.irem, 1) := dk_112 (dk_at dksX5_lotGoes_0 15 rfl rfl)
theorem dX5_lotGoes_16 : decode cX5_lotGoes 16 = .ok (.putfield 108, 3) := dk_181 0 108 (dk_at dksX5_lotGoes_0 16 rfl rfl)
theorem dX5_lotGoes_19 : decode cX5_lotGoes 19 = .ok (.aload_n 0, 1) := dk_42 (dk_at dksX5_lotGoes_0 19 rfl rfl)
theorem dX5_lotGoes_20 : decode cX5_lotGoes 20 = .ok (.getfield 108, 3) := dk_180 0 108 (dk_at dksX5_lotGoes_0 20 rfl rfl)
theorem dX5_lotGoes_23 : decode cX5_lotGoes 23 = .ok (.ireturn, 1) := dk_172 (dk_at dksX5_lotGoes_0 23 rfl rfl)
abbrev cX5_firstOf : ByteArray := prog_19_method_42_code
def yX5_firstOf : MethodName := ⟨RX5, "firstOf", "(I)I"⟩
def dkwX5_firstOf_2 : List UInt8 := [167, 255, 214, 28, 172]
abbrev dktX5_firstOf_2 : List UInt8 := dkwX5_firstOf_2 ++ []
def dkwX5_firstOf_1 : List UInt8 := [180, 0, 51, 28, 46, 42, 180, 0, 54, 28, 46, 182, 0, 232, 4, 159, 0, 10, 28, 4, 96, 61]
abbrev dktX5_firstOf_1 : List UInt8 := dkwX5_firstOf_1 ++ dktX5_firstOf_2
def dkwX5_firstOf_0 : List UInt8 := [3, 61, 28, 42, 180, 0, 225, 162, 0, 40, 42, 180, 0, 45, 28, 46, 27, 160, 0, 23, 42, 42]
abbrev dktX5_firstOf_0 : List UInt8 := dkwX5_firstOf_0 ++ dktX5_firstOf_1
theorem dksX5_firstOf_0 : cX5_firstOf.data.toList.drop 0 = dktX5_firstOf_0 := by decide +kernel
theorem dksX5_firstOf_1 : cX5_firstOf.data.toList.drop 22 = dktX5_firstOf_1 := dk_seg dksX5_firstOf_0 22 rfl rfl
theorem dksX5_firstOf_2 : cX5_firstOf.data.toList.drop 44 = dktX5_firstOf_2 := dk_seg dksX5_firstOf_1 22 rfl rfl
theorem dX5_firstOf_0 : decode cX5_firstOf 0 = .ok (.iconst 0, 1) := dk_3 (dk_at dksX5_firstOf_0 0 rfl rfl)
theorem dX5_firstOf_1 : decode cX5_firstOf 1 = .ok (.istore_n 2, 1) := dk_61 (dk_at dksX5_firstOf_0 1 rfl rfl)
theorem dX5_firstOf_2 : decode cX5_firstOf 2 = .ok (.iload_n 2, 1) := dk_28 (dk_at dksX5_firstOf_0 2 rfl rfl)
theorem dX5_firstOf_3 : decode cX5_firstOf 3 = .ok (.aload_n 0, 1) := dk_42 (dk_at dksX5_firstOf_0 3 rfl rfl)
theorem dX5_firstOf_4 : decode cX5_firstOf 4 = .ok (.getfield 225, 3) := dk_180 0 225 (dk_at dksX5_firstOf_0 4 rfl rfl)
theorem dX5_firstOf_7 : decode cX5_firstOf 7 = .ok (.if_icmp .ge 40, 3) := dk_162 0 40 (dk_at dksX5_firstOf_0 7 rfl rfl)
theorem dX5_firstOf_10 : decode cX5_firstOf 10 = .ok (.aload_n 0, 1) := dk_42 (dk_at dksX5_firstOf_0 10 rfl rfl)
theorem dX5_firstOf_11 : decode cX5_firstOf 11 = .ok (.getfield 45, 3) := dk_180 0 45 (dk_at dksX5_firstOf_0 11 rfl rfl)
theorem dX5_firstOf_14 : decode cX5_firstOf 14 = .ok (.iload_n 2, 1) := dk_28 (dk_at dksX5_firstOf_0 14 rfl rfl)
theorem dX5_firstOf_15 : decode cX5_firstOf 15 = .ok (.iaload, 1) := dk_46 (dk_at dksX5_firstOf_0 15 rfl rfl)
theorem dX5_firstOf_16 : decode cX5_firstOf 16 = .ok (.iload_n 1, 1) := dk_27 (dk_at dksX5_firstOf_0 16 rfl rfl)
theorem dX5_firstOf_17 : decode cX5_firstOf 17 = .ok (.if_icmp .ne 23, 3) := dk_160 0 23 (dk_at dksX5_firstOf_0 17 rfl rfl)
theorem dX5_firstOf_20 : decode cX5_firstOf 20 = .ok (.aload_n 0, 1) := dk_42 (dk_at dksX5_firstOf_0 20 rfl rfl)
theorem dX5_firstOf_21 : decode cX5_firstOf 21 = .ok (.aload_n 0, 1) := dk_42 (dk_at dksX5_firstOf_0 21 rfl rfl)
theorem dX5_firstOf_22 : decode cX5_firstOf 22 = .ok (.getfield 51, 3) := dk_180 0 51 (dk_at dksX5_firstOf_1 0 rfl rfl)
theorem dX5_firstOf_25 : decode cX5_firstOf 25 = .ok (.iload_n 2, 1) := dk_28 (dk_at dksX5_firstOf_1 3 rfl rfl)
theorem dX5_firstOf_26 : decode cX5_firstOf 26 = .ok (.iaload, 1) := dk_46 (dk_at dksX5_firstOf_1 4 rfl rfl)
theorem dX5_firstOf_27 : decode cX5_firstOf 27 = .ok (.aload_n 0, 1) := dk_42 (dk_at dksX5_firstOf_1 5 rfl rfl)
theorem dX5_firstOf_28 : decode cX5_firstOf 28 = .ok (.getfield 54, 3) := dk_180 0 54 (dk_at dksX5_firstOf_1 6 rfl rfl)
theorem dX5_firstOf_31 : decode cX5_firstOf 31 = .ok (.iload_n 2, 1) := dk_28 (dk_at dksX5_firstOf_1 9 rfl rfl)
theorem dX5_firstOf_32 : decode cX5_firstOf 32 = .ok (.iaload, 1) := dk_46 (dk_at dksX5_firstOf_1 10 rfl rfl)
theorem dX5_firstOf_33 : decode cX5_firstOf 33 = .ok (.invokevirtual 232, 3) := dk_182 0 232 (dk_at dksX5_firstOf_1 11 rfl rfl)
theorem dX5_firstOf_36 : decode cX5_firstOf 36 = .ok (.iconst 1, 1) := dk_4 (dk_at dksX5_firstOf_1 14 rfl rfl)
theorem dX5_firstOf_37 : decode cX5_firstOf 37 = .ok (.if_icmp .eq 10, 3) := dk_159 0 10 (dk_at dksX5_firstOf_1 15 rfl rfl)
theorem dX5_firstOf_40 : decode cX5_firstOf 40 = .ok (.iload_n 2, 1) := dk_28 (dk_at dksX5_firstOf_1 18 rfl rfl)
theorem dX5_firstOf_41 : decode cX5_firstOf 41 = .ok (.iconst 1, 1) := dk_4 (dk_at dksX5_firstOf_1 19 rfl rfl)
theorem dX5_firstOf_42 : decode cX5_firstOf 42 = .ok (.iadd, 1) := dk_96 (dk_at dksX5_firstOf_1 20 rfl rfl)
theorem dX5_firstOf_43 : decode cX5_firstOf 43 = .ok (.istore_n 2, 1) := dk_61 (dk_at dksX5_firstOf_1 21 rfl rfl)
theorem dX5_firstOf_44 : decode cX5_firstOf 44 = .ok (.goto (-42), 3) := dk_167 255 214 (dk_at dksX5_firstOf_2 0 rfl rfl)
theorem dX5_firstOf_47 : decode cX5_firstOf 47 = .ok (.iload_n 2, 1) := dk_28 (dk_at dksX5_firstOf_2 3 rfl rfl)
theorem dX5_firstOf_48 : decode cX5_firstOf 48 = .ok (.ireturn, 1) := dk_172 (dk_at dksX5_firstOf_2 4 rfl rfl)
abbrev cX5_reckonsTo : ByteArray := prog_19_method_41_code
def yX5_reckonsTo : MethodName := ⟨RX5, "reckonsTo", "(II)I"⟩
def dkwX5_reckonsTo_10 : List UInt8 := [3, 46, 172]
abbrev dktX5_reckonsTo_10 : List UInt8 := dkwX5_reckonsTo_10 ++ []
def dkwX5_reckonsTo_9 : List UInt8 := [180, 0, 57, 29, 4, 100, 46, 42, 180, 0, 57, 29, 46, 184, 0, 228, 79, 167, 255, 42, 42, 180, 0, 57]
abbrev dktX5_reckonsTo_9 : List UInt8 := dkwX5_reckonsTo_9 ++ dktX5_reckonsTo_10
def dkwX5_reckonsTo_8 : List UInt8 := [160, 0, 14, 42, 180, 0, 57, 29, 46, 154, 0, 5, 3, 172, 42, 180, 0, 57, 29, 4, 100, 21, 6, 42]
abbrev dktX5_reckonsTo_8 : List UInt8 := dkwX5_reckonsTo_8 ++ dktX5_reckonsTo_9
def dkwX5_reckonsTo_7 : List UInt8 := [167, 0, 65, 29, 4, 100, 62, 167, 0, 58, 29, 4, 100, 62, 21, 6, 8, 159, 0, 10, 21, 6, 16, 6]
abbrev dktX5_reckonsTo_7 : List UInt8 := dkwX5_reckonsTo_7 ++ dktX5_reckonsTo_8
def dkwX5_reckonsTo_6 : List UInt8 := [100, 46, 21, 6, 16, 12, 160, 0, 7, 4, 167, 0, 4, 3, 160, 0, 13, 21, 4, 21, 7, 96, 54, 5]
abbrev dktX5_reckonsTo_6 : List UInt8 := dkwX5_reckonsTo_6 ++ dktX5_reckonsTo_7
def dkwX5_reckonsTo_5 : List UInt8 := [79, 167, 0, 112, 21, 6, 16, 11, 159, 0, 10, 21, 6, 16, 12, 160, 0, 43, 42, 180, 0, 57, 29, 4]
abbrev dktX5_reckonsTo_5 : List UInt8 := dkwX5_reckonsTo_5 ++ dktX5_reckonsTo_6
def dkwX5_reckonsTo_4 : List UInt8 := [21, 6, 16, 10, 160, 0, 24, 42, 180, 0, 57, 29, 4, 100, 4, 42, 180, 0, 57, 29, 4, 100, 46, 100]
abbrev dktX5_reckonsTo_4 : List UInt8 := dkwX5_reckonsTo_4 ++ dktX5_reckonsTo_5
def dkwX5_reckonsTo_3 : List UInt8 := [154, 0, 8, 21, 7, 167, 0, 10, 42, 180, 0, 60, 21, 7, 46, 79, 29, 4, 96, 62, 167, 0, 140]
abbrev dktX5_reckonsTo_3 : List UInt8 := dkwX5_reckonsTo_3 ++ dktX5_reckonsTo_4
def dkwX5_reckonsTo_2 : List UInt8 := [21, 5, 4, 96, 54, 5, 21, 6, 153, 0, 9, 21, 6, 4, 160, 0, 33, 42, 180, 0, 57, 29, 21, 6]
abbrev dktX5_reckonsTo_2 : List UInt8 := dkwX5_reckonsTo_2 ++ dktX5_reckonsTo_3
def dkwX5_reckonsTo_1 : List UInt8 := [180, 0, 42, 21, 5, 46, 18, 158, 108, 54, 6, 42, 180, 0, 42, 21, 5, 46, 18, 158, 112, 54, 7]
abbrev dktX5_reckonsTo_1 : List UInt8 := dkwX5_reckonsTo_1 ++ dktX5_reckonsTo_2
def dkwX5_reckonsTo_0 : List UInt8 := [3, 62, 17, 1, 4, 27, 17, 1, 4, 108, 104, 54, 4, 27, 54, 5, 21, 5, 28, 162, 0, 214, 42]
abbrev dktX5_reckonsTo_0 : List UInt8 := dkwX5_reckonsTo_0 ++ dktX5_reckonsTo_1
theorem dksX5_reckonsTo_0 : cX5_reckonsTo.data.toList.drop 0 = dktX5_reckonsTo_0 := by decide +kernel
theorem dksX5_reckonsTo_1 : cX5_reckonsTo.data.toList.drop 23 = dktX5_reckonsTo_1 := dk_seg dksX5_reckonsTo_0 23 rfl rfl
theorem dksX5_reckonsTo_2 : cX5_reckonsTo.data.toList.drop 46 = dktX5_reckonsTo_2 := dk_seg dksX5_reckonsTo_1 23 rfl rfl
theorem dksX5_reckonsTo_3 : cX5_reckonsTo.data.toList.drop 70 = dktX5_reckonsTo_3 := dk_seg dksX5_reckonsTo_2 24 rfl rfl
theorem dksX5_reckonsTo_4 : cX5_reckonsTo.data.toList.drop 93 = dktX5_reckonsTo_4 := dk_seg dksX5_reckonsTo_3 23 rfl rfl
theorem dksX5_reckonsTo_5 : cX5_reckonsTo.data.toList.drop 117 = dktX5_reckonsTo_5 := dk_seg dksX5_reckonsTo_4 24 rfl rfl
theorem dksX5_reckonsTo_6 : cX5_reckonsTo.data.toList.drop 141 = dktX5_reckonsTo_6 := dk_seg dksX5_reckonsTo_5 24 rfl rfl
theorem dksX5_reckonsTo_7 : cX5_reckonsTo.data.toList.drop 165 = dktX5_reckonsTo_7 := dk_seg dksX5_reckonsTo_6 24 rfl rfl
theorem dksX5_reckonsTo_8 : cX5_reckonsTo.data.toList.drop 189 = dktX5_reckonsTo_8 := dk_seg dksX5_reckonsTo_7 24 rfl rfl
theorem dksX5_reckonsTo_9 : cX5_reckonsTo.data.toList.drop 213 = dktX5_reckonsTo_9 := dk_seg dksX5_reckonsTo_8 24 rfl rfl
theorem dksX5_reckonsTo_10 : cX5_reckonsTo.data.toList.drop 237 = dktX5_reckonsTo_10 := dk_seg dksX5_reckonsTo_9 24 rfl rfl
theorem dX5_reckonsTo_0 : decode cX5_reckonsTo 0 = .ok (.iconst 0, 1) := dk_3 (dk_at dksX5_reckonsTo_0 0 rfl rfl)
theorem dX5_reckonsTo_1 : decode cX5_reckonsTo 1 = .ok (.istore_n 3, 1) := dk_62 (dk_at dksX5_reckonsTo_0 1 rfl rfl)
theorem dX5_reckonsTo_2 : decode cX5_reckonsTo 2 = .ok (.sipush 260, 3) := dk_17 1 4 (dk_at dksX5_reckonsTo_0 2 rfl rfl)
theorem dX5_reckonsTo_5 : decode cX5_reckonsTo 5 = .ok (.iload_n 1, 1) := dk_27 (dk_at dksX5_reckonsTo_0 5 rfl rfl)
theorem dX5_reckonsTo_6 : decode cX5_reckonsTo 6 = .ok (.sipush 260, 3) := dk_17 1 4 (dk_at dksX5_reckonsTo_0 6 rfl rfl)
theorem dX5_reckonsTo_9 : decode cX5_reckonsTo 9 = .ok (.idiv, 1) := dk_108 (dk_at dksX5_reckonsTo_0 9 rfl rfl)
theorem dX5_reckonsTo_10 : decode cX5_reckonsTo 10 = .ok (.imul, 1) := dk_104 (dk_at dksX5_reckonsTo_0 10 rfl rfl)
theorem dX5_reckonsTo_11 : decode cX5_reckonsTo 11 = .ok (.istore 4, 2) := dk_54 4 (dk_at dksX5_reckonsTo_0 11 rfl rfl)
theorem dX5_reckonsTo_13 : decode cX5_reckonsTo 13 = .ok (.iload_n 1, 1) := dk_27 (dk_at dksX5_reckonsTo_0 13 rfl rfl)
theorem dX5_reckonsTo_14 : decode cX5_reckonsTo 14 = .ok (.istore 5, 2) := dk_54 5 (dk_at dksX5_reckonsTo_0 14 rfl rfl)
theorem dX5_reckonsTo_16 : decode cX5_reckonsTo 16 = .ok (.iload 5, 2) := dk_21 5 (dk_at dksX5_reckonsTo_0 16 rfl rfl)
theorem dX5_reckonsTo_18 : decode cX5_reckonsTo 18 = .ok (.iload_n 2, 1) := dk_28 (dk_at dksX5_reckonsTo_0 18 rfl rfl)
theorem dX5_reckonsTo_19 : decode cX5_reckonsTo 19 = .ok (.if_icmp .ge 214, 3) := dk_162 0 214 (dk_at dksX5_reckonsTo_0 19 rfl rfl)
theorem dX5_reckonsTo_22 : decode cX5_reckonsTo 22 = .ok (.aload_n 0, 1) := dk_42 (dk_at dksX5_reckonsTo_0 22 rfl rfl)
theorem dX5_reckonsTo_23 : decode cX5_reckonsTo 23 = .ok (.getfield 42, 3) := dk_180 0 42 (dk_at dksX5_reckonsTo_1 0 rfl rfl)
theorem dX5_reckonsTo_26 : decode cX5_reckonsTo 26 = .ok (.iload 5, 2) := dk_21 5 (dk_at dksX5_reckonsTo_1 3 rfl rfl)
theorem dX5_reckonsTo_28 : decode cX5_reckonsTo 28 = .ok (.iaload, 1) := dk_46 (dk_at dksX5_reckonsTo_1 5 rfl rfl)
theorem dX5_reckonsTo_29 : decode cX5_reckonsTo 29 = .ok (.ldc 158, 2) := dk_18 158 (dk_at dksX5_reckonsTo_1 6 rfl rfl)
theorem dX5_reckonsTo_31 : decode cX5_reckonsTo 31 = .ok (.idiv, 1) := dk_108 (dk_at dksX5_reckonsTo_1 8 rfl rfl)
theorem dX5_reckonsTo_32 : decode cX5_reckonsTo 32 = .ok (.istore 6, 2) := dk_54 6 (dk_at dksX5_reckonsTo_1 9 rfl rfl)
theorem dX5_reckonsTo_34 : decode cX5_reckonsTo 34 = .ok (.aload_n 0, 1) := dk_42 (dk_at dksX5_reckonsTo_1 11 rfl rfl)
theorem dX5_reckonsTo_35 : decode cX5_reckonsTo 35 = .ok (.getfield 42, 3) := dk_180 0 42 (dk_at dksX5_reckonsTo_1 12 rfl rfl)
theorem dX5_reckonsTo_38 : decode cX5_reckonsTo 38 = .ok (.iload 5, 2) := dk_21 5 (dk_at dksX5_reckonsTo_1 15 rfl rfl)
theorem dX5_reckonsTo_40 : decode cX5_reckonsTo 40 = .ok (.iaload, 1) := dk_46 (dk_at dksX5_reckonsTo_1 17 rfl rfl)
theorem dX5_reckonsTo_41 : decode cX5_reckonsTo 41 = .ok (.ldc 158, 2) := dk_18 158 (dk_at dksX5_reckonsTo_1 18 rfl rfl)
theorem dX5_reckonsTo_43 : decode cX5_reckonsTo 43 = .ok (.irem, 1) := dk_112 (dk_at dksX5_reckonsTo_1 20 rfl rfl)
theorem dX5_reckonsTo_44 : decode cX5_reckonsTo 44 = .ok (.istore 7, 2) := dk_54 7 (dk_at dksX5_reckonsTo_1 21 rfl rfl)
theorem dX5_reckonsTo_46 : decode cX5_reckonsTo 46 = .ok (.iload 5, 2) := dk_21 5 (dk_at dksX5_reckonsTo_2 0 rfl rfl)
theorem dX5_reckonsTo_48 : decode cX5_reckonsTo 48 = .ok (.iconst 1, 1) := dk_4 (dk_at dksX5_reckonsTo_2 2 rfl rfl)
theorem dX5_reckonsTo_49 : decode cX5_reckonsTo 49 = .ok (.iadd, 1) := dk_96 (dk_at dksX5_reckonsTo_2 3 rfl rfl)
theorem dX5_reckonsTo_50 : decode cX5_reckonsTo 50 = .ok (.istore 5, 2) := dk_54 5 (dk_at dksX5_reckonsTo_2 4 rfl rfl)
theorem dX5_reckonsTo_52 : decode cX5_reckonsTo 52 = .ok (.iload 6, 2) := dk_21 6 (dk_at dksX5_reckonsTo_2 6 rfl rfl)
theorem dX5_reckonsTo_54 : decode cX5_reckonsTo 54 = .ok (.ifCond .eq 9, 3) := dk_153 0 9 (dk_at dksX5_reckonsTo_2 8 rfl rfl)
theorem dX5_reckonsTo_57 : decode cX5_reckonsTo 57 = .ok (.iload 6, 2) := dk_21 6 (dk_at dksX5_reckonsTo_2 11 rfl rfl)
theorem dX5_reckonsTo_59 : decode cX5_reckonsTo 59 = .ok (.iconst 1, 1) := dk_4 (dk_at dksX5_reckonsTo_2 13 rfl rfl)
theorem dX5_reckonsTo_60 : decode cX5_reckonsTo 60 = .ok (.if_icmp .ne 33, 3) := dk_160 0 33 (dk_at dksX5_reckonsTo_2 14 rfl rfl)
theorem dX5_reckonsTo_63 : decode cX5_reckonsTo 63 = .ok (.aload_n 0, 1) := dk_42 (dk_at dksX5_reckonsTo_2 17 rfl rfl)
theorem dX5_reckonsTo_64 : decode cX5_reckonsTo 64 = .ok (.getfield 57, 3) := dk_180 0 57 (dk_at dksX5_reckonsTo_2 18 rfl rfl)
theorem dX5_reckonsTo_67 : decode cX5_reckonsTo 67 = .ok (.iload_n 3, 1) := dk_29 (dk_at dksX5_reckonsTo_2 21 rfl rfl)
theorem dX5_reckonsTo_68 : decode cX5_reckonsTo 68 = .ok (.iload 6, 2) := dk_21 6 (dk_at dksX5_reckonsTo_2 22 rfl rfl)
theorem dX5_reckonsTo_70 : decode cX5_reckonsTo 70 = .ok (.ifCond .ne 8, 3) := dk_154 0 8 (dk_at dksX5_reckonsTo_3 0 rfl rfl)
theorem dX5_reckonsTo_73 : decode cX5_reckonsTo 73 = .ok (.iload 7, 2) := dk_21 7 (dk_at dksX5_reckonsTo_3 3 rfl rfl)
theorem dX5_reckonsTo_75 : decode cX5_reckonsTo 75 = .ok (.goto 10, 3) := dk_167 0 10 (dk_at dksX5_reckonsTo_3 5 rfl rfl)
theorem dX5_reckonsTo_78 : decode cX5_reckonsTo 78 = .ok (.aload_n 0, 1) := dk_42 (dk_at dksX5_reckonsTo_3 8 rfl rfl)
theorem dX5_reckonsTo_79 : decode cX5_reckonsTo 79 = .ok (.getfield 60, 3) := dk_180 0 60 (dk_at dksX5_reckonsTo_3 9 rfl rfl)
theorem dX5_reckonsTo_82 : decode cX5_reckonsTo 82 = .ok (.iload 7, 2) := dk_21 7 (dk_at dksX5_reckonsTo_3 12 rfl rfl)
theorem dX5_reckonsTo_84 : decode cX5_reckonsTo 84 = .ok (.iaload, 1) := dk_46 (dk_at dksX5_reckonsTo_3 14 rfl rfl)
theorem dX5_reckonsTo_85 : decode cX5_reckonsTo 85 = .ok (.iastore, 1) := dk_79 (dk_at dksX5_reckonsTo_3 15 rfl rfl)
theorem dX5_reckonsTo_86 : decode cX5_reckonsTo 86 = .ok (.iload_n 3, 1) := dk_29 (dk_at dksX5_reckonsTo_3 16 rfl rfl)
theorem dX5_reckonsTo_87 : decode cX5_reckonsTo 87 = .ok (.iconst 1, 1) := dk_4 (dk_at dksX5_reckonsTo_3 17 rfl rfl)
theorem dX5_reckonsTo_88 : decode cX5_reckonsTo 88 = .ok (.iadd, 1) := dk_96 (dk_at dksX5_reckonsTo_3 18 rfl rfl)
theorem dX5_reckonsTo_89 : decode cX5_reckonsTo 89 = .ok (.istore_n 3, 1) := dk_62 (dk_at dksX5_reckonsTo_3 19 rfl rfl)
theorem dX5_reckonsTo_90 : decode cX5_reckonsTo 90 = .ok (.goto 140, 3) := dk_167 0 140 (dk_at dksX5_reckonsTo_3 20 rfl rfl)
theorem dX5_reckonsTo_93 : decode cX5_reckonsTo 93 = .ok (.iload 6, 2) := dk_21 6 (dk_at dksX5_reckonsTo_4 0 rfl rfl)
theorem dX5_reckonsTo_95 : decode cX5_reckonsTo 95 = .ok (.bipush 10, 2) := dk_16 10 (dk_at dksX5_reckonsTo_4 2 rfl rfl)
theorem dX5_reckonsTo_97 : decode cX5_reckonsTo 97 = .ok (.if_icmp .ne 24, 3) := dk_160 0 24 (dk_at dksX5_reckonsTo_4 4 rfl rfl)
theorem dX5_reckonsTo_100 : decode cX5_reckonsTo 100 = .ok (.aload_n 0, 1) := dk_42 (dk_at dksX5_reckonsTo_4 7 rfl rfl)
theorem dX5_reckonsTo_101 : decode cX5_reckonsTo 101 = .ok (.getfield 57, 3) := dk_180 0 57 (dk_at dksX5_reckonsTo_4 8 rfl rfl)
theorem dX5_reckonsTo_104 : decode cX5_reckonsTo 104 = .ok (.iload_n 3, 1) := dk_29 (dk_at dksX5_reckonsTo_4 11 rfl rfl)
theorem dX5_reckonsTo_105 : decode cX5_reckonsTo 105 = .ok (.iconst 1, 1) := dk_4 (dk_at dksX5_reckonsTo_4 12 rfl rfl)
theorem dX5_reckonsTo_106 : decode cX5_reckonsTo 106 = .ok (.isub, 1) := dk_100 (dk_at dksX5_reckonsTo_4 13 rfl rfl)
theorem dX5_reckonsTo_107 : decode cX5_reckonsTo 107 = .ok (.iconst 1, 1) := dk_4 (dk_at dksX5_reckonsTo_4 14 rfl rfl)
theorem dX5_reckonsTo_108 : decode cX5_reckonsTo 108 = .ok (.aload_n 0, 1) := dk_42 (dk_at dksX5_reckonsTo_4 15 rfl rfl)
theorem dX5_reckonsTo_109 : decode cX5_reckonsTo 109 = .ok (.getfield 57, 3) := dk_180 0 57 (dk_at dksX5_reckonsTo_4 16 rfl rfl)
theorem dX5_reckonsTo_112 : decode cX5_reckonsTo 112 = .ok (.iload_n 3, 1) := dk_29 (dk_at dksX5_reckonsTo_4 19 rfl rfl)
theorem dX5_reckonsTo_113 : decode cX5_reckonsTo 113 = .ok (.iconst 1, 1) := dk_4 (dk_at dksX5_reckonsTo_4 20 rfl rfl)
theorem dX5_reckonsTo_114 : decode cX5_reckonsTo 114 = .ok (.isub, 1) := dk_100 (dk_at dksX5_reckonsTo_4 21 rfl rfl)
theorem dX5_reckonsTo_115 : decode cX5_reckonsTo 115 = .ok (.iaload, 1) := dk_46 (dk_at dksX5_reckonsTo_4 22 rfl rfl)
theorem dX5_reckonsTo_116 : decode cX5_reckonsTo 116 = .ok (.isub, 1) := dk_100 (dk_at dksX5_reckonsTo_4 23 rfl rfl)
theorem dX5_reckonsTo_117 : decode cX5_reckonsTo 117 = .ok (.iastore, 1) := dk_79 (dk_at dksX5_reckonsTo_5 0 rfl rfl)
theorem dX5_reckonsTo_118 : decode cX5_reckonsTo 118 = .ok (.goto 112, 3) := dk_167 0 112 (dk_at dksX5_reckonsTo_5 1 rfl rfl)
theorem dX5_reckonsTo_121 : decode cX5_reckonsTo 121 = .ok (.iload 6, 2) := dk_21 6 (dk_at dksX5_reckonsTo_5 4 rfl rfl)
theorem dX5_reckonsTo_123 : decode cX5_reckonsTo 123 = .ok (.bipush 11, 2) := dk_16 11 (dk_at dksX5_reckonsTo_5 6 rfl rfl)
theorem dX5_reckonsTo_125 : decode cX5_reckonsTo 125 = .ok (.if_icmp .eq 10, 3) := dk_159 0 10 (dk_at dksX5_reckonsTo_5 8 rfl rfl)
theorem dX5_reckonsTo_128 : decode cX5_reckonsTo 128 = .ok (.iload 6, 2) := dk_21 6 (dk_at dksX5_reckonsTo_5 11 rfl rfl)
theorem dX5_reckonsTo_130 : decode cX5_reckonsTo 130 = .ok (.bipush 12, 2) := dk_16 12 (dk_at dksX5_reckonsTo_5 13 rfl rfl)
theorem dX5_reckonsTo_132 : decode cX5_reckonsTo 132 = .ok (.if_icmp .ne 43, 3) := dk_160 0 43 (dk_at dksX5_reckonsTo_5 15 rfl rfl)
theorem dX5_reckonsTo_135 : decode cX5_reckonsTo 135 = .ok (.aload_n 0, 1) := dk_42 (dk_at dksX5_reckonsTo_5 18 rfl rfl)
theorem dX5_reckonsTo_136 : decode cX5_reckonsTo 136 = .ok (.getfield 57, 3) := dk_180 0 57 (dk_at dksX5_reckonsTo_5 19 rfl rfl)
theorem dX5_reckonsTo_139 : decode cX5_reckonsTo 139 = .ok (.iload_n 3, 1) := dk_29 (dk_at dksX5_reckonsTo_5 22 rfl rfl)
theorem dX5_reckonsTo_140 : decode cX5_reckonsTo 140 = .ok (.iconst 1, 1) := dk_4 (dk_at dksX5_reckonsTo_5 23 rfl rfl)
theorem dX5_reckonsTo_141 : decode cX5_reckonsTo 141 = .ok (.isub, 1) := dk_100 (dk_at dksX5_reckonsTo_6 0 rfl rfl)
theorem dX5_reckonsTo_142 : decode cX5_reckonsTo 142 = .ok (.iaload, 1) := dk_46 (dk_at dksX5_reckonsTo_6 1 rfl rfl)
theorem dX5_reckonsTo_143 : decode cX5_reckonsTo 143 = .ok (.iload 6, 2) := dk_21 6 (dk_at dksX5_reckonsTo_6 2 rfl rfl)
theorem dX5_reckonsTo_145 : decode cX5_reckonsTo 145 = .ok (.bipush 12, 2) := dk_16 12 (dk_at dksX5_reckonsTo_6 4 rfl rfl)
theorem dX5_reckonsTo_147 : decode cX5_reckonsTo 147 = .ok (.if_icmp .ne 7, 3) := dk_160 0 7 (dk_at dksX5_reckonsTo_6 6 rfl rfl)
theorem dX5_reckonsTo_150 : decode cX5_reckonsTo 150 = .ok (.iconst 1, 1) := dk_4 (dk_at dksX5_reckonsTo_6 9 rfl rfl)
theorem dX5_reckonsTo_151 : decode cX5_reckonsTo 151 = .ok (.goto 4, 3) := dk_167 0 4 (dk_at dksX5_reckonsTo_6 10 rfl rfl)
theorem dX5_reckonsTo_154 : decode cX5_reckonsTo 154 = .ok (.iconst 0, 1) := dk_3 (dk_at dksX5_reckonsTo_6 13 rfl rfl)
theorem dX5_reckonsTo_155 : decode cX5_reckonsTo 155 = .ok (.if_icmp .ne 13, 3) := dk_160 0 13 (dk_at dksX5_reckonsTo_6 14 rfl rfl)
theorem dX5_reckonsTo_158 : decode cX5_reckonsTo 158 = .ok (.iload 4, 2) := dk_21 4 (dk_at dksX5_reckonsTo_6 17 rfl rfl)
theorem dX5_reckonsTo_160 : decode cX5_reckonsTo 160 = .ok (.iload 7, 2) := dk_21 7 (dk_at dksX5_reckonsTo_6 19 rfl rfl)
theorem dX5_reckonsTo_162 : decode cX5_reckonsTo 162 = .ok (.iadd, 1) := dk_96 (dk_at dksX5_reckonsTo_6 21 rfl rfl)
theorem dX5_reckonsTo_163 : decode cX5_reckonsTo 163 = .ok (.istore 5, 2) := dk_54 5 (dk_at dksX5_reckonsTo_6 22 rfl rfl)
theorem dX5_reckonsTo_165 : decode cX5_reckonsTo 165 = .ok (.goto 65, 3) := dk_167 0 65 (dk_at dksX5_reckonsTo_7 0 rfl rfl)
theorem dX5_reckonsTo_168 : decode cX5_reckonsTo 168 = .ok (.iload_n 3, 1) := dk_29 (dk_at dksX5_reckonsTo_7 3 rfl rfl)
theorem dX5_reckonsTo_169 : decode cX5_reckonsTo 169 = .ok (.iconst 1, 1) := dk_4 (dk_at dksX5_reckonsTo_7 4 rfl rfl)
theorem dX5_reckonsTo_170 : decode cX5_reckonsTo 170 = .ok (.isub, 1) := dk_100 (dk_at dksX5_reckonsTo_7 5 rfl rfl)
theorem dX5_reckonsTo_171 : decode cX5_reckonsTo 171 = .ok (.istore_n 3, 1) := dk_62 (dk_at dksX5_reckonsTo_7 6 rfl rfl)
theorem dX5_reckonsTo_172 : decode cX5_reckonsTo 172 = .ok (.goto 58, 3) := dk_167 0 58 (dk_at dksX5_reckonsTo_7 7 rfl rfl)
theorem dX5_reckonsTo_175 : decode cX5_reckonsTo 175 = .ok (.iload_n 3, 1) := dk_29 (dk_at dksX5_reckonsTo_7 10 rfl rfl)
theorem dX5_reckonsTo_176 : decode cX5_reckonsTo 176 = .ok (.iconst 1, 1) := dk_4 (dk_at dksX5_reckonsTo_7 11 rfl rfl)
theorem dX5_reckonsTo_177 : decode cX5_reckonsTo 177 = .ok (.isub, 1) := dk_100 (dk_at dksX5_reckonsTo_7 12 rfl rfl)
theorem dX5_reckonsTo_178 : decode cX5_reckonsTo 178 = .ok (.istore_n 3, 1) := dk_62 (dk_at dksX5_reckonsTo_7 13 rfl rfl)
theorem dX5_reckonsTo_179 : decode cX5_reckonsTo 179 = .ok (.iload 6, 2) := dk_21 6 (dk_at dksX5_reckonsTo_7 14 rfl rfl)
theorem dX5_reckonsTo_181 : decode cX5_reckonsTo 181 = .ok (.iconst 5, 1) := dk_8 (dk_at dksX5_reckonsTo_7 16 rfl rfl)
theorem dX5_reckonsTo_182 : decode cX5_reckonsTo 182 = .ok (.if_icmp .eq 10, 3) := dk_159 0 10 (dk_at dksX5_reckonsTo_7 17 rfl rfl)
theorem dX5_reckonsTo_185 : decode cX5_reckonsTo 185 = .ok (.iload 6, 2) := dk_21 6 (dk_at dksX5_reckonsTo_7 20 rfl rfl)
theorem dX5_reckonsTo_187 : decode cX5_reckonsTo 187 = .ok (.bipush 6, 2) := dk_16 6 (dk_at dksX5_reckonsTo_7 22 rfl rfl)
theorem dX5_reckonsTo_189 : decode cX5_reckonsTo 189 = .ok (.if_icmp .ne 14, 3) := dk_160 0 14 (dk_at dksX5_reckonsTo_8 0 rfl rfl)
theorem dX5_reckonsTo_192 : decode cX5_reckonsTo 192 = .ok (.aload_n 0, 1) := dk_42 (dk_at dksX5_reckonsTo_8 3 rfl rfl)
theorem dX5_reckonsTo_193 : decode cX5_reckonsTo 193 = .ok (.getfield 57, 3) := dk_180 0 57 (dk_at dksX5_reckonsTo_8 4 rfl rfl)
theorem dX5_reckonsTo_196 : decode cX5_reckonsTo 196 = .ok (.iload_n 3, 1) := dk_29 (dk_at dksX5_reckonsTo_8 7 rfl rfl)
theorem dX5_reckonsTo_197 : decode cX5_reckonsTo 197 = .ok (.iaload, 1) := dk_46 (dk_at dksX5_reckonsTo_8 8 rfl rfl)
theorem dX5_reckonsTo_198 : decode cX5_reckonsTo 198 = .ok (.ifCond .ne 5, 3) := dk_154 0 5 (dk_at dksX5_reckonsTo_8 9 rfl rfl)
theorem dX5_reckonsTo_201 : decode cX5_reckonsTo 201 = .ok (.iconst 0, 1) := dk_3 (dk_at dksX5_reckonsTo_8 12 rfl rfl)
theorem dX5_reckonsTo_202 : decode cX5_reckonsTo 202 = .ok (.ireturn, 1) := dk_172 (dk_at dksX5_reckonsTo_8 13 rfl rfl)
theorem dX5_reckonsTo_203 : decode cX5_reckonsTo 203 = .ok (.aload_n 0, 1) := dk_42 (dk_at dksX5_reckonsTo_8 14 rfl rfl)
theorem dX5_reckonsTo_204 : decode cX5_reckonsTo 204 = .ok (.getfield 57, 3) := dk_180 0 57 (dk_at dksX5_reckonsTo_8 15 rfl rfl)
theorem dX5_reckonsTo_207 : decode cX5_reckonsTo 207 = .ok (.iload_n 3, 1) := dk_29 (dk_at dksX5_reckonsTo_8 18 rfl rfl)
theorem dX5_reckonsTo_208 : decode cX5_reckonsTo 208 = .ok (.iconst 1, 1) := dk_4 (dk_at dksX5_reckonsTo_8 19 rfl rfl)
theorem dX5_reckonsTo_209 : decode cX5_reckonsTo 209 = .ok (.isub, 1) := dk_100 (dk_at dksX5_reckonsTo_8 20 rfl rfl)
theorem dX5_reckonsTo_210 : decode cX5_reckonsTo 210 = .ok (.iload 6, 2) := dk_21 6 (dk_at dksX5_reckonsTo_8 21 rfl rfl)
theorem dX5_reckonsTo_212 : decode cX5_reckonsTo 212 = .ok (.aload_n 0, 1) := dk_42 (dk_at dksX5_reckonsTo_8 23 rfl rfl)
theorem dX5_reckonsTo_213 : decode cX5_reckonsTo 213 = .ok (.getfield 57, 3) := dk_180 0 57 (dk_at dksX5_reckonsTo_9 0 rfl rfl)
theorem dX5_reckonsTo_216 : decode cX5_reckonsTo 216 = .ok (.iload_n 3, 1) := dk_29 (dk_at dksX5_reckonsTo_9 3 rfl rfl)
theorem dX5_reckonsTo_217 : decode cX5_reckonsTo 217 = .ok (.iconst 1, 1) := dk_4 (dk_at dksX5_reckonsTo_9 4 rfl rfl)
theorem dX5_reckonsTo_218 : decode cX5_reckonsTo 218 = .ok (.isub, 1) := dk_100 (dk_at dksX5_reckonsTo_9 5 rfl rfl)
theorem dX5_reckonsTo_219 : decode cX5_reckonsTo 219 = .ok (.iaload, 1) := dk_46 (dk_at dksX5_reckonsTo_9 6 rfl rfl)
theorem dX5_reckonsTo_220 : decode cX5_reckonsTo 220 = .ok (.aload_n 0, 1) := dk_42 (dk_at dksX5_reckonsTo_9 7 rfl rfl)
theorem dX5_reckonsTo_221 : decode cX5_reckonsTo 221 = .ok (.getfield 57, 3) := dk_180 0 57 (dk_at dksX5_reckonsTo_9 8 rfl rfl)
theorem dX5_reckonsTo_224 : decode cX5_reckonsTo 224 = .ok (.iload_n 3, 1) := dk_29 (dk_at dksX5_reckonsTo_9 11 rfl rfl)
theorem dX5_reckonsTo_225 : decode cX5_reckonsTo 225 = .ok (.iaload, 1) := dk_46 (dk_at dksX5_reckonsTo_9 12 rfl rfl)
theorem dX5_reckonsTo_226 : decode cX5_reckonsTo 226 = .ok (.invokestatic 228, 3) := dk_184 0 228 (dk_at dksX5_reckonsTo_9 13 rfl rfl)
theorem dX5_reckonsTo_229 : decode cX5_reckonsTo 229 = .ok (.iastore, 1) := dk_79 (dk_at dksX5_reckonsTo_9 16 rfl rfl)
theorem dX5_reckonsTo_230 : decode cX5_reckonsTo 230 = .ok (.goto (-214), 3) := dk_167 255 42 (dk_at dksX5_reckonsTo_9 17 rfl rfl)
theorem dX5_reckonsTo_233 : decode cX5_reckonsTo 233 = .ok (.aload_n 0, 1) := dk_42 (dk_at dksX5_reckonsTo_9 20 rfl rfl)
theorem dX5_reckonsTo_234 : decode cX5_reckonsTo 234 = .ok (.getfield 57, 3) := dk_180 0 57 (dk_at dksX5_reckonsTo_9 21 rfl rfl)
theorem dX5_reckonsTo_237 : decode cX5_reckonsTo 237 = .ok (.iconst 0, 1) := dk_3 (dk_at dksX5_reckonsTo_10 0 rfl rfl)
theorem dX5_reckonsTo_238 : decode cX5_reckonsTo 238 = .ok (.iaload, 1) := dk_46 (dk_at dksX5_reckonsTo_10 1 rfl rfl)
theorem dX5_reckonsTo_239 : decode cX5_reckonsTo 239 = .ok (.ireturn, 1) := dk_172 (dk_at dksX5_reckonsTo_10 2 rfl rfl)
abbrev cX5_reckon : ByteArray := prog_19_method_40_code
def yX5_reckon : MethodName := ⟨RX5, "reckon", "(III)I"⟩
def dkwX5_reckon_4 : List UInt8 := [160, 0, 7, 4, 167, 0, 4, 3, 172]
abbrev dktX5_reckon_4 : List UInt8 := dkwX5_reckon_4 ++ []
def dkwX5_reckon_3 : List UInt8 := [162, 0, 7, 4, 167, 0, 4, 3, 172, 27, 28, 164, 0, 7, 4, 167, 0, 4, 3, 172, 27, 28]
abbrev dktX5_reckon_3 : List UInt8 := dkwX5_reckon_3 ++ dktX5_reckon_4
def dkwX5_reckon_2 : List UInt8 := [27, 28, 96, 172, 27, 28, 100, 172, 27, 28, 104, 172, 27, 28, 108, 172, 27, 28, 112, 172, 27, 28]
abbrev dktX5_reckon_2 : List UInt8 := dkwX5_reckon_2 ++ dktX5_reckon_3
def dkwX5_reckon_1 : List UInt8 := [170, 0, 0, 0, 0, 0, 85, 0, 0, 0, 2, 0, 0, 0, 8, 0, 0, 0, 43, 0, 0, 0, 47, 0, 0, 0, 51, 0, 0, 0, 55, 0, 0, 0, 59, 0, 0, 0, 63, 0, 0, 0, 74]
abbrev dktX5_reckon_1 : List UInt8 := dkwX5_reckon_1 ++ dktX5_reckon_2
def dkwX5_reckon_0 : List UInt8 := [26]
abbrev dktX5_reckon_0 : List UInt8 := dkwX5_reckon_0 ++ dktX5_reckon_1
theorem dksX5_reckon_0 : cX5_reckon.data.toList.drop 0 = dktX5_reckon_0 := by decide +kernel
theorem dksX5_reckon_1 : cX5_reckon.data.toList.drop 1 = dktX5_reckon_1 := dk_seg dksX5_reckon_0 1 rfl rfl
theorem dksX5_reckon_2 : cX5_reckon.data.toList.drop 44 = dktX5_reckon_2 := dk_seg dksX5_reckon_1 43 rfl rfl
theorem dksX5_reckon_3 : cX5_reckon.data.toList.drop 66 = dktX5_reckon_3 := dk_seg dksX5_reckon_2 22 rfl rfl
theorem dksX5_reckon_4 : cX5_reckon.data.toList.drop 88 = dktX5_reckon_4 := dk_seg dksX5_reckon_3 22 rfl rfl
theorem dX5_reckon_0 : decode cX5_reckon 0 = .ok (.iload_n 0, 1) := dk_26 (dk_at dksX5_reckon_0 0 rfl rfl)
theorem dX5_reckon_1 : decode cX5_reckon 1 = .ok (.tableswitch 85 2 8 #[43, 47, 51, 55, 59, 63, 74], 43) := by decide +kernel
theorem dX5_reckon_44 : decode cX5_reckon 44 = .ok (.iload_n 1, 1) := dk_27 (dk_at dksX5_reckon_2 0 rfl rfl)
theorem dX5_reckon_45 : decode cX5_reckon 45 = .ok (.iload_n 2, 1) := dk_28 (dk_at dksX5_reckon_2 1 rfl rfl)
theorem dX5_reckon_46 : decode cX5_reckon 46 = .ok (.iadd, 1) := dk_96 (dk_at dksX5_reckon_2 2 rfl rfl)
theorem dX5_reckon_47 : decode cX5_reckon 47 = .ok (.ireturn, 1) := dk_172 (dk_at dksX5_reckon_2 3 rfl rfl)
theorem dX5_reckon_48 : decode cX5_reckon 48 = .ok (.iload_n 1, 1) := dk_27 (dk_at dksX5_reckon_2 4 rfl rfl)
theorem dX5_reckon_49 : decode cX5_reckon 49 = .ok (.iload_n 2, 1) := dk_28 (dk_at dksX5_reckon_2 5 rfl rfl)
theorem dX5_reckon_50 : decode cX5_reckon 50 = .ok (.isub, 1) := dk_100 (dk_at dksX5_reckon_2 6 rfl rfl)
theorem dX5_reckon_51 : decode cX5_reckon 51 = .ok (.ireturn, 1) := dk_172 (dk_at dksX5_reckon_2 7 rfl rfl)
theorem dX5_reckon_52 : decode cX5_reckon 52 = .ok (.iload_n 1, 1) := dk_27 (dk_at dksX5_reckon_2 8 rfl rfl)
theorem dX5_reckon_53 : decode cX5_reckon 53 = .ok (.iload_n 2, 1) := dk_28 (dk_at dksX5_reckon_2 9 rfl rfl)
theorem dX5_reckon_54 : decode cX5_reckon 54 = .ok (.imul, 1) := dk_104 (dk_at dksX5_reckon_2 10 rfl rfl)
theorem dX5_reckon_55 : decode cX5_reckon 55 = .ok (.ireturn, 1) := dk_172 (dk_at dksX5_reckon_2 11 rfl rfl)
theorem dX5_reckon_56 : decode cX5_reckon 56 = .ok (.iload_n 1, 1) := dk_27 (dk_at dksX5_reckon_2 12 rfl rfl)
theorem dX5_reckon_57 : decode cX5_reckon 57 = .ok (.iload_n 2, 1) := dk_28 (dk_at dksX5_reckon_2 13 rfl rfl)
theorem dX5_reckon_58 : decode cX5_reckon 58 = .ok (.idiv, 1) := dk_108 (dk_at dksX5_reckon_2 14 rfl rfl)
theorem dX5_reckon_59 : decode cX5_reckon 59 = .ok (.ireturn, 1) := dk_172 (dk_at dksX5_reckon_2 15 rfl rfl)
theorem dX5_reckon_60 : decode cX5_reckon 60 = .ok (.iload_n 1, 1) := dk_27 (dk_at dksX5_reckon_2 16 rfl rfl)
theorem dX5_reckon_61 : decode cX5_reckon 61 = .ok (.iload_n 2, 1) := dk_28 (dk_at dksX5_reckon_2 17 rfl rfl)
theorem dX5_reckon_62 : decode cX5_reckon 62 = .ok (.irem, 1) := dk_112 (dk_at dksX5_reckon_2 18 rfl rfl)
theorem dX5_reckon_63 : decode cX5_reckon 63 = .ok (.ireturn, 1) := dk_172 (dk_at dksX5_reckon_2 19 rfl rfl)
theorem dX5_reckon_64 : decode cX5_reckon 64 = .ok (.iload_n 1, 1) := dk_27 (dk_at dksX5_reckon_2 20 rfl rfl)
theorem dX5_reckon_65 : decode cX5_reckon 65 = .ok (.iload_n 2, 1) := dk_28 (dk_at dksX5_reckon_2 21 rfl rfl)
theorem dX5_reckon_66 : decode cX5_reckon 66 = .ok (.if_icmp .ge 7, 3) := dk_162 0 7 (dk_at dksX5_reckon_3 0 rfl rfl)
theorem dX5_reckon_69 : decode cX5_reckon 69 = .ok (.iconst 1, 1) := dk_4 (dk_at dksX5_reckon_3 3 rfl rfl)
theorem dX5_reckon_70 : decode cX5_reckon 70 = .ok (.goto 4, 3) := dk_167 0 4 (dk_at dksX5_reckon_3 4 rfl rfl)
theorem dX5_reckon_73 : decode cX5_reckon 73 = .ok (.iconst 0, 1) := dk_3 (dk_at dksX5_reckon_3 7 rfl rfl)
theorem dX5_reckon_74 : decode cX5_reckon 74 = .ok (.ireturn, 1) := dk_172 (dk_at dksX5_reckon_3 8 rfl rfl)
theorem dX5_reckon_75 : decode cX5_reckon 75 = .ok (.iload_n 1, 1) := dk_27 (dk_at dksX5_reckon_3 9 rfl rfl)
theorem dX5_reckon_76 : decode cX5_reckon 76 = .ok (.iload_n 2, 1) := dk_28 (dk_at dksX5_reckon_3 10 rfl rfl)
theorem dX5_reckon_77 : decode cX5_reckon 77 = .ok (.if_icmp .le 7, 3) := dk_164 0 7 (dk_at dksX5_reckon_3 11 rfl rfl)
theorem dX5_reckon_80 : decode cX5_reckon 80 = .ok (.iconst 1, 1) := dk_4 (dk_at dksX5_reckon_3 14 rfl rfl)
theorem dX5_reckon_81 : decode cX5_reckon 81 = .ok (.goto 4, 3) := dk_167 0 4 (dk_at dksX5_reckon_3 15 rfl rfl)
theorem dX5_reckon_84 : decode cX5_reckon 84 = .ok (.iconst 0, 1) := dk_3 (dk_at dksX5_reckon_3 18 rfl rfl)
theorem dX5_reckon_85 : decode cX5_reckon 85 = .ok (.ireturn, 1) := dk_172 (dk_at dksX5_reckon_3 19 rfl rfl)
theorem dX5_reckon_86 : decode cX5_reckon 86 = .ok (.iload_n 1, 1) := dk_27 (dk_at dksX5_reckon_3 20 rfl rfl)
theorem dX5_reckon_87 : decode cX5_reckon 87 = .ok (.iload_n 2, 1) := dk_28 (dk_at dksX5_reckon_3 21 rfl rfl)
theorem dX5_reckon_88 : decode cX5_reckon 88 = .ok (.if_icmp .ne 7, 3) := dk_160 0 7 (dk_at dksX5_reckon_4 0 rfl rfl)
theorem dX5_reckon_91 : decode cX5_reckon 91 = .ok (.iconst 1, 1) := dk_4 (dk_at dksX5_reckon_4 3 rfl rfl)
theorem dX5_reckon_92 : decode cX5_reckon 92 = .ok (.goto 4, 3) := dk_167 0 4 (dk_at dksX5_reckon_4 4 rfl rfl)
theorem dX5_reckon_95 : decode cX5_reckon 95 = .ok (.iconst 0, 1) := dk_3 (dk_at dksX5_reckon_4 7 rfl rfl)
theorem dX5_reckon_96 : decode cX5_reckon 96 = .ok (.ireturn, 1) := dk_172 (dk_at dksX5_reckon_4 8 rfl rfl)
abbrev cX5_wornBy : ByteArray := prog_19_method_43_code
def yX5_wornBy : MethodName := ⟨RX5, "wornBy", "(II)I"⟩
def dkwX5_wornBy_1 : List UInt8 := [180, 0, 48, 29, 46, 42, 180, 0, 51, 29, 46, 182, 0, 232, 184, 0, 239, 184, 0, 242, 172]
abbrev dktX5_wornBy_1 : List UInt8 := dkwX5_wornBy_1 ++ []
def dkwX5_wornBy_0 : List UInt8 := [42, 27, 182, 0, 236, 62, 29, 42, 180, 0, 225, 160, 0, 7, 28, 167, 0, 28, 3, 16, 25, 42, 42]
abbrev dktX5_wornBy_0 : List UInt8 := dkwX5_wornBy_0 ++ dktX5_wornBy_1
theorem dksX5_wornBy_0 : cX5_wornBy.data.toList.drop 0 = dktX5_wornBy_0 := by decide +kernel
theorem dksX5_wornBy_1 : cX5_wornBy.data.toList.drop 23 = dktX5_wornBy_1 := dk_seg dksX5_wornBy_0 23 rfl rfl
theorem dX5_wornBy_0 : decode cX5_wornBy 0 = .ok (.aload_n 0, 1) := dk_42 (dk_at dksX5_wornBy_0 0 rfl rfl)
theorem dX5_wornBy_1 : decode cX5_wornBy 1 = .ok (.iload_n 1, 1) := dk_27 (dk_at dksX5_wornBy_0 1 rfl rfl)
theorem dX5_wornBy_2 : decode cX5_wornBy 2 = .ok (.invokevirtual 236, 3) := dk_182 0 236 (dk_at dksX5_wornBy_0 2 rfl rfl)
theorem dX5_wornBy_5 : decode cX5_wornBy 5 = .ok (.istore_n 3, 1) := dk_62 (dk_at dksX5_wornBy_0 5 rfl rfl)
theorem dX5_wornBy_6 : decode cX5_wornBy 6 = .ok (.iload_n 3, 1) := dk_29 (dk_at dksX5_wornBy_0 6 rfl rfl)
theorem dX5_wornBy_7 : decode cX5_wornBy 7 = .ok (.aload_n 0, 1) := dk_42 (dk_at dksX5_wornBy_0 7 rfl rfl)
theorem dX5_wornBy_8 : decode cX5_wornBy 8 = .ok (.getfield 225, 3) := dk_180 0 225 (dk_at dksX5_wornBy_0 8 rfl rfl)
theorem dX5_wornBy_11 : decode cX5_wornBy 11 = .ok (.if_icmp .ne 7, 3) := dk_160 0 7 (dk_at dksX5_wornBy_0 11 rfl rfl)
theorem dX5_wornBy_14 : decode cX5_wornBy 14 = .ok (.iload_n 2, 1) := dk_28 (dk_at dksX5_wornBy_0 14 rfl rfl)
theorem dX5_wornBy_15 : decode cX5_wornBy 15 = .ok (.goto 28, 3) := dk_167 0 28 (dk_at dksX5_wornBy_0 15 rfl rfl)
theorem dX5_wornBy_18 : decode cX5_wornBy 18 = .ok (.iconst 0, 1) := dk_3 (dk_at dksX5_wornBy_0 18 rfl rfl)
theorem dX5_wornBy_19 : decode cX5_wornBy 19 = .ok (.bipush 25, 2) := dk_16 25 (dk_at dksX5_wornBy_0 19 rfl rfl)
theorem dX5_wornBy_21 : decode cX5_wornBy 21 = .ok (.aload_n 0, 1) := dk_42 (dk_at dksX5_wornBy_0 21 rfl rfl)
theorem dX5_wornBy_22 : decode cX5_wornBy 22 = .ok (.aload_n 0, 1) := dk_42 (dk_at dksX5_wornBy_0 22 rfl rfl)
theorem dX5_wornBy_23 : decode cX5_wornBy 23 = .ok (.getfield 48, 3) := dk_180 0 48 (dk_at dksX5_wornBy_1 0 rfl rfl)
theorem dX5_wornBy_26 : decode cX5_wornBy 26 = .ok (.iload_n 3, 1) := dk_29 (dk_at dksX5_wornBy_1 3 rfl rfl)
theorem dX5_wornBy_27 : decode cX5_wornBy 27 = .ok (.iaload, 1) := dk_46 (dk_at dksX5_wornBy_1 4 rfl rfl)
theorem dX5_wornBy_28 : decode cX5_wornBy 28 = .ok (.aload_n 0, 1) := dk_42 (dk_at dksX5_wornBy_1 5 rfl rfl)
theorem dX5_wornBy_29 : decode cX5_wornBy 29 = .ok (.getfield 51, 3) := dk_180 0 51 (dk_at dksX5_wornBy_1 6 rfl rfl)
theorem dX5_wornBy_32 : decode cX5_wornBy 32 = .ok (.iload_n 3, 1) := dk_29 (dk_at dksX5_wornBy_1 9 rfl rfl)
theorem dX5_wornBy_33 : decode cX5_wornBy 33 = .ok (.iaload, 1) := dk_46 (dk_at dksX5_wornBy_1 10 rfl rfl)
theorem dX5_wornBy_34 : decode cX5_wornBy 34 = .ok (.invokevirtual 232, 3) := dk_182 0 232 (dk_at dksX5_wornBy_1 11 rfl rfl)
theorem dX5_wornBy_37 : decode cX5_wornBy 37 = .ok (.invokestatic 239, 3) := dk_184 0 239 (dk_at dksX5_wornBy_1 14 rfl rfl)
theorem dX5_wornBy_40 : decode cX5_wornBy 40 = .ok (.invokestatic 242, 3) := dk_184 0 242 (dk_at dksX5_wornBy_1 17 rfl rfl)
theorem dX5_wornBy_43 : decode cX5_wornBy 43 = .ok (.ireturn, 1) := dk_172 (dk_at dksX5_wornBy_1 20 rfl rfl)
abbrev cX5_tried : ByteArray := prog_19_method_123_code
def yX5_tried : MethodName := ⟨RX5, "tried", "(III)I"⟩
def dkwX5_tried_3 : List UInt8 := [182, 1, 211, 21, 5, 172]
abbrev dktX5_tried_3 : List UInt8 := dkwX5_tried_3 ++ []
def dkwX5_tried_2 : List UInt8 := [182, 1, 205, 42, 27, 28, 182, 1, 202, 54, 4, 42, 21, 4, 29, 182, 1, 208, 54, 5, 42, 3]
abbrev dktX5_tried_2 : List UInt8 := dkwX5_tried_2 ++ dktX5_tried_3
def dkwX5_tried_1 : List UInt8 := [184, 0, 112, 154, 0, 18, 29, 17, 0, 200, 17, 0, 247, 184, 0, 112, 154, 0, 5, 2, 172, 42, 3]
abbrev dktX5_tried_1 : List UInt8 := dkwX5_tried_1 ++ dktX5_tried_2
def dkwX5_tried_0 : List UInt8 := [27, 28, 184, 1, 199, 153, 0, 37, 29, 3, 5, 184, 0, 112, 154, 0, 30, 29, 16, 100, 17, 0, 147]
abbrev dktX5_tried_0 : List UInt8 := dkwX5_tried_0 ++ dktX5_tried_1
theorem dksX5_tried_0 : cX5_tried.data.toList.drop 0 = dktX5_tried_0 := by decide +kernel
theorem dksX5_tried_1 : cX5_tried.data.toList.drop 23 = dktX5_tried_1 := dk_seg dksX5_tried_0 23 rfl rfl
theorem dksX5_tried_2 : cX5_tried.data.toList.drop 46 = dktX5_tried_2 := dk_seg dksX5_tried_1 23 rfl rfl
theorem dksX5_tried_3 : cX5_tried.data.toList.drop 68 = dktX5_tried_3 := dk_seg dksX5_tried_2 22 rfl rfl
theorem dX5_tried_0 : decode cX5_tried 0 = .ok (.iload_n 1, 1) := dk_27 (dk_at dksX5_tried_0 0 rfl rfl)
theorem dX5_tried_1 : decode cX5_tried 1 = .ok (.iload_n 2, 1) := dk_28 (dk_at dksX5_tried_0 1 rfl rfl)
theorem dX5_tried_2 : decode cX5_tried 2 = .ok (.invokestatic 455, 3) := dk_184 1 199 (dk_at dksX5_tried_0 2 rfl rfl)
theorem dX5_tried_5 : decode cX5_tried 5 = .ok (.ifCond .eq 37, 3) := dk_153 0 37 (dk_at dksX5_tried_0 5 rfl rfl)
theorem dX5_tried_8 : decode cX5_tried 8 = .ok (.iload_n 3, 1) := dk_29 (dk_at dksX5_tried_0 8 rfl rfl)
theorem dX5_tried_9 : decode cX5_tried 9 = .ok (.iconst 0, 1) := dk_3 (dk_at dksX5_tried_0 9 rfl rfl)
theorem dX5_tried_10 : decode cX5_tried 10 = .ok (.iconst 2, 1) := dk_5 (dk_at dksX5_tried_0 10 rfl rfl)
theorem dX5_tried_11 : decode cX5_tried 11 = .ok (.invokestatic 112, 3) := dk_184 0 112 (dk_at dksX5_tried_0 11 rfl rfl)
theorem dX5_tried_14 : decode cX5_tried 14 = .ok (.ifCond .ne 30, 3) := dk_154 0 30 (dk_at dksX5_tried_0 14 rfl rfl)
theorem dX5_tried_17 : decode cX5_tried 17 = .ok (.iload_n 3, 1) := dk_29 (dk_at dksX5_tried_0 17 rfl rfl)
theorem dX5_tried_18 : decode cX5_tried 18 = .ok (.bipush 100, 2) := dk_16 100 (dk_at dksX5_tried_0 18 rfl rfl)
theorem dX5_tried_20 : decode cX5_tried 20 = .ok (.sipush 147, 3) := dk_17 0 147 (dk_at dksX5_tried_0 20 rfl rfl)
theorem dX5_tried_23 : decode cX5_tried 23 = .ok (.invokestatic 112, 3) := dk_184 0 112 (dk_at dksX5_tried_1 0 rfl rfl)
theorem dX5_tried_26 : decode cX5_tried 26 = .ok (.ifCond .ne 18, 3) := dk_154 0 18 (dk_at dksX5_tried_1 3 rfl rfl)
theorem dX5_tried_29 : decode cX5_tried 29 = .ok (.iload_n 3, 1) := dk_29 (dk_at dksX5_tried_1 6 rfl rfl)
theorem dX5_tried_30 : decode cX5_tried 30 = .ok (.sipush 200, 3) := dk_17 0 200 (dk_at dksX5_tried_1 7 rfl rfl)
theorem dX5_tried_33 : decode cX5_tried 33 = .ok (.sipush 247, 3) := dk_17 0 247 (dk_at dksX5_tried_1 10 rfl rfl)
theorem dX5_tried_36 : decode cX5_tried 36 = .ok (.invokestatic 112, 3) := dk_184 0 112 (dk_at dksX5_tried_1 13 rfl rfl)
theorem dX5_tried_39 : decode cX5_tried 39 = .ok (.ifCond .ne 5, 3) := dk_154 0 5 (dk_at dksX5_tried_1 16 rfl rfl)
theorem dX5_tried_42 : decode cX5_tried 42 = .ok (.iconst (-1), 1) := dk_2 (dk_at dksX5_tried_1 19 rfl rfl)
theorem dX5_tried_43 : decode cX5_tried 43 = .ok (.ireturn, 1) := dk_172 (dk_at dksX5_tried_1 20 rfl rfl)
theorem dX5_tried_44 : decode cX5_tried 44 = .ok (.aload_n 0, 1) := dk_42 (dk_at dksX5_tried_1 21 rfl rfl)
theorem dX5_tried_45 : decode cX5_tried 45 = .ok (.iconst 0, 1) := dk_3 (dk_at dksX5_tried_1 22 rfl rfl)
theorem dX5_tried_46 : decode cX5_tried 46 = .ok (.invokevirtual 461, 3) := dk_182 1 205 (dk_at dksX5_tried_2 0 rfl rfl)
theorem dX5_tried_49 : decode cX5_tried 49 = .ok (.aload_n 0, 1) := dk_42 (dk_at dksX5_tried_2 3 rfl rfl)
theorem dX5_tried_50 : decode cX5_tried 50 = .ok (.iload_n 1, 1) := dk_27 (dk_at dksX5_tried_2 4 rfl rfl)
theorem dX5_tried_51 : decode cX5_tried 51 = .ok (.iload_n 2, 1) := dk_28 (dk_at dksX5_tried_2 5 rfl rfl)
theorem dX5_tried_52 : decode cX5_tried 52 = .ok (.invokevirtual 458, 3) := dk_182 1 202 (dk_at dksX5_tried_2 6 rfl rfl)
theorem dX5_tried_55 : decode cX5_tried 55 = .ok (.istore 4, 2) := dk_54 4 (dk_at dksX5_tried_2 9 rfl rfl)
theorem dX5_tried_57 : decode cX5_tried 57 = .ok (.aload_n 0, 1) := dk_42 (dk_at dksX5_tried_2 11 rfl rfl)
theorem dX5_tried_58 : decode cX5_tried 58 = .ok (.iload 4, 2) := dk_21 4 (dk_at dksX5_tried_2 12 rfl rfl)
theorem dX5_tried_60 : decode cX5_tried 60 = .ok (.iload_n 3, 1) := dk_29 (dk_at dksX5_tried_2 14 rfl rfl)
theorem dX5_tried_61 : decode cX5_tried 61 = .ok (.invokevirtual 464, 3) := dk_182 1 208 (dk_at dksX5_tried_2 15 rfl rfl)
theorem dX5_tried_64 : decode cX5_tried 64 = .ok (.istore 5, 2) := dk_54 5 (dk_at dksX5_tried_2 18 rfl rfl)
theorem dX5_tried_66 : decode cX5_tried 66 = .ok (.aload_n 0, 1) := dk_42 (dk_at dksX5_tried_2 20 rfl rfl)
theorem dX5_tried_67 : decode cX5_tried 67 = .ok (.iconst 0, 1) := dk_3 (dk_at dksX5_tried_2 21 rfl rfl)
theorem dX5_tried_68 : decode cX5_tried 68 = .ok (.invokevirtual 467, 3) := dk_182 1 211 (dk_at dksX5_tried_3 0 rfl rfl)
theorem dX5_tried_71 : decode cX5_tried 71 = .ok (.iload 5, 2) := dk_21 5 (dk_at dksX5_tried_3 3 rfl rfl)
theorem dX5_tried_73 : decode cX5_tried 73 = .ok (.ireturn, 1) := dk_172 (dk_at dksX5_tried_3 5 rfl rfl)
abbrev cX5_shelves : ByteArray := prog_19_method_120_code
def yX5_shelves : MethodName := ⟨RX5, "shelves", "(I)V"⟩
def dkwX5_shelves_3 : List UInt8 := [180, 0, 108, 79, 42, 180, 0, 105, 27, 16, 99, 96, 42, 180, 1, 184, 79, 177]
abbrev dktX5_shelves_3 : List UInt8 := dkwX5_shelves_3 ++ []
def dkwX5_shelves_2 : List UInt8 := [180, 0, 105, 27, 16, 97, 96, 42, 180, 0, 13, 4, 46, 79, 42, 180, 0, 105, 27, 16, 98, 96, 42]
abbrev dktX5_shelves_2 : List UInt8 := dkwX5_shelves_2 ++ dktX5_shelves_3
def dkwX5_shelves_1 : List UInt8 := [132, 2, 1, 167, 255, 233, 42, 180, 0, 105, 27, 16, 96, 96, 42, 180, 0, 13, 3, 46, 79, 42]
abbrev dktX5_shelves_1 : List UInt8 := dkwX5_shelves_1 ++ dktX5_shelves_2
def dkwX5_shelves_0 : List UInt8 := [3, 61, 28, 16, 96, 162, 0, 23, 42, 180, 0, 105, 27, 28, 96, 42, 180, 0, 7, 28, 46, 79]
abbrev dktX5_shelves_0 : List UInt8 := dkwX5_shelves_0 ++ dktX5_shelves_1
theorem dksX5_shelves_0 : cX5_shelves.data.toList.drop 0 = dktX5_shelves_0 := by decide +kernel
theorem dksX5_shelves_1 : cX5_shelves.data.toList.drop 22 = dktX5_shelves_1 := dk_seg dksX5_shelves_0 22 rfl rfl
theorem dksX5_shelves_2 : cX5_shelves.data.toList.drop 44 = dktX5_shelves_2 := dk_seg dksX5_shelves_1 22 rfl rfl
theorem dksX5_shelves_3 : cX5_shelves.data.toList.drop 67 = dktX5_shelves_3 := dk_seg dksX5_shelves_2 23 rfl rfl
theorem dX5_shelves_0 : decode cX5_shelves 0 = .ok (.iconst 0, 1) := dk_3 (dk_at dksX5_shelves_0 0 rfl rfl)
theorem dX5_shelves_1 : decode cX5_shelves 1 = .ok (.istore_n 2, 1) := dk_61 (dk_at dksX5_shelves_0 1 rfl rfl)
theorem dX5_shelves_2 : decode cX5_shelves 2 = .ok (.iload_n 2, 1) := dk_28 (dk_at dksX5_shelves_0 2 rfl rfl)
theorem dX5_shelves_3 : decode cX5_shelves 3 = .ok (.bipush 96, 2) := dk_16 96 (dk_at dksX5_shelves_0 3 rfl rfl)
theorem dX5_shelves_5 : decode cX5_shelves 5 = .ok (.if_icmp .ge 23, 3) := dk_162 0 23 (dk_at dksX5_shelves_0 5 rfl rfl)
theorem dX5_shelves_8 : decode cX5_shelves 8 = .ok (.aload_n 0, 1) := dk_42 (dk_at dksX5_shelves_0 8 rfl rfl)
theorem dX5_shelves_9 : decode cX5_shelves 9 = .ok (.getfield 105, 3) := dk_180 0 105 (dk_at dksX5_shelves_0 9 rfl rfl)
theorem dX5_shelves_12 : decode cX5_shelves 12 = .ok (.iload_n 1, 1) := dk_27 (dk_at dksX5_shelves_0 12 rfl rfl)
theorem dX5_shelves_13 : decode cX5_shelves 13 = .ok (.iload_n 2, 1) := dk_28 (dk_at dksX5_shelves_0 13 rfl rfl)
theorem dX5_shelves_14 : decode cX5_shelves 14 = .ok (.iadd, 1) := dk_96 (dk_at dksX5_shelves_0 14 rfl rfl)
theorem dX5_shelves_15 : decode cX5_shelves 15 = .ok (.aload_n 0, 1) := dk_42 (dk_at dksX5_shelves_0 15 rfl rfl)
theorem dX5_shelves_16 : decode cX5_shelves 16 = .ok (.getfield 7, 3) := dk_180 0 7 (dk_at dksX5_shelves_0 16 rfl rfl)
theorem dX5_shelves_19 : decode cX5_shelves 19 = .ok (.iload_n 2, 1) := dk_28 (dk_at dksX5_shelves_0 19 rfl rfl)
theorem dX5_shelves_20 : decode cX5_shelves 20 = .ok (.iaload, 1) := dk_46 (dk_at dksX5_shelves_0 20 rfl rfl)
theorem dX5_shelves_21 : decode cX5_shelves 21 = .ok (.iastore, 1) := dk_79 (dk_at dksX5_shelves_0 21 rfl rfl)
theorem dX5_shelves_22 : decode cX5_shelves 22 = .ok (.iinc 2 1, 3) := dk_132 2 1 (dk_at dksX5_shelves_1 0 rfl rfl)
theorem dX5_shelves_25 : decode cX5_shelves 25 = .ok (.goto (-23), 3) := dk_167 255 233 (dk_at dksX5_shelves_1 3 rfl rfl)
theorem dX5_shelves_28 : decode cX5_shelves 28 = .ok (.aload_n 0, 1) := dk_42 (dk_at dksX5_shelves_1 6 rfl rfl)
theorem dX5_shelves_29 : decode cX5_shelves 29 = .ok (.getfield 105, 3) := dk_180 0 105 (dk_at dksX5_shelves_1 7 rfl rfl)
theorem dX5_shelves_32 : decode cX5_shelves 32 = .ok (.iload_n 1, 1) := dk_27 (dk_at dksX5_shelves_1 10 rfl rfl)
theorem dX5_shelves_33 : decode cX5_shelves 33 = .ok (.bipush 96, 2) := dk_16 96 (dk_at dksX5_shelves_1 11 rfl rfl)
theorem dX5_shelves_35 : decode cX5_shelves 35 = .ok (.iadd, 1) := dk_96 (dk_at dksX5_shelves_1 13 rfl rfl)
theorem dX5_shelves_36 : decode cX5_shelves 36 = .ok (.aload_n 0, 1) := dk_42 (dk_at dksX5_shelves_1 14 rfl rfl)
theorem dX5_shelves_37 : decode cX5_shelves 37 = .ok (.getfield 13, 3) := dk_180 0 13 (dk_at dksX5_shelves_1 15 rfl rfl)
theorem dX5_shelves_40 : decode cX5_shelves 40 = .ok (.iconst 0, 1) := dk_3 (dk_at dksX5_shelves_1 18 rfl rfl)
theorem dX5_shelves_41 : decode cX5_shelves 41 = .ok (.iaload, 1) := dk_46 (dk_at dksX5_shelves_1 19 rfl rfl)
theorem dX5_shelves_42 : decode cX5_shelves 42 = .ok (.iastore, 1) := dk_79 (dk_at dksX5_shelves_1 20 rfl rfl)
theorem dX5_shelves_43 : decode cX5_shelves 43 = .ok (.aload_n 0, 1) := dk_42 (dk_at dksX5_shelves_1 21 rfl rfl)
theorem dX5_shelves_44 : decode cX5_shelves 44 = .ok (.getfield 105, 3) := dk_180 0 105 (dk_at dksX5_shelves_2 0 rfl rfl)
theorem dX5_shelves_47 : decode cX5_shelves 47 = .ok (.iload_n 1, 1) := dk_27 (dk_at dksX5_shelves_2 3 rfl rfl)
theorem dX5_shelves_48 : decode cX5_shelves 48 = .ok (.bipush 97, 2) := dk_16 97 (dk_at dksX5_shelves_2 4 rfl rfl)
theorem dX5_shelves_50 : decode cX5_shelves 50 = .ok (.iadd, 1) := dk_96 (dk_at dksX5_shelves_2 6 rfl rfl)
theorem dX5_shelves_51 : decode cX5_shelves 51 = .ok (.aload_n 0, 1) := dk_42 (dk_at dksX5_shelves_2 7 rfl rfl)
theorem dX5_shelves_52 : decode cX5_shelves 52 = .ok (.getfield 13, 3) := dk_180 0 13 (dk_at dksX5_shelves_2 8 rfl rfl)
theorem dX5_shelves_55 : decode cX5_shelves 55 = .ok (.iconst 1, 1) := dk_4 (dk_at dksX5_shelves_2 11 rfl rfl)
theorem dX5_shelves_56 : decode cX5_shelves 56 = .ok (.iaload, 1) := dk_46 (dk_at dksX5_shelves_2 12 rfl rfl)
theorem dX5_shelves_57 : decode cX5_shelves 57 = .ok (.iastore, 1) := dk_79 (dk_at dksX5_shelves_2 13 rfl rfl)
theorem dX5_shelves_58 : decode cX5_shelves 58 = .ok (.aload_n 0, 1) := dk_42 (dk_at dksX5_shelves_2 14 rfl rfl)
theorem dX5_shelves_59 : decode cX5_shelves 59 = .ok (.getfield 105, 3) := dk_180 0 105 (dk_at dksX5_shelves_2 15 rfl rfl)
theorem dX5_shelves_62 : decode cX5_shelves 62 = .ok (.iload_n 1, 1) := dk_27 (dk_at dksX5_shelves_2 18 rfl rfl)
theorem dX5_shelves_63 : decode cX5_shelves 63 = .ok (.bipush 98, 2) := dk_16 98 (dk_at dksX5_shelves_2 19 rfl rfl)
theorem dX5_shelves_65 : decode cX5_shelves 65 = .ok (.iadd, 1) := dk_96 (dk_at dksX5_shelves_2 21 rfl rfl)
theorem dX5_shelves_66 : decode cX5_shelves 66 = .ok (.aload_n 0, 1) := dk_42 (dk_at dksX5_shelves_2 22 rfl rfl)
theorem dX5_shelves_67 : decode cX5_shelves 67 = .ok (.getfield 108, 3) := dk_180 0 108 (dk_at dksX5_shelves_3 0 rfl rfl)
theorem dX5_shelves_70 : decode cX5_shelves 70 = .ok (.iastore, 1) := dk_79 (dk_at dksX5_shelves_3 3 rfl rfl)
theorem dX5_shelves_71 : decode cX5_shelves 71 = .ok (.aload_n 0, 1) := dk_42 (dk_at dksX5_shelves_3 4 rfl rfl)
theorem dX5_shelves_72 : decode cX5_shelves 72 = .ok (.getfield 105, 3) := dk_180 0 105 (dk_at dksX5_shelves_3 5 rfl rfl)
theorem dX5_shelves_75 : decode cX5_shelves 75 = .ok (.iload_n 1, 1) := dk_27 (dk_at dksX5_shelves_3 8 rfl rfl)
theorem dX5_shelves_76 : decode cX5_shelves 76 = .ok (.bipush 99, 2) := dk_16 99 (dk_at dksX5_shelves_3 9 rfl rfl)
theorem dX5_shelves_78 : decode cX5_shelves 78 = .ok (.iadd, 1) := dk_96 (dk_at dksX5_shelves_3 11 rfl rfl)
theorem dX5_shelves_79 : decode cX5_shelves 79 = .ok (.aload_n 0, 1) := dk_42 (dk_at dksX5_shelves_3 12 rfl rfl)
theorem dX5_shelves_80 : decode cX5_shelves 80 = .ok (.getfield 440, 3) := dk_180 1 184 (dk_at dksX5_shelves_3 13 rfl rfl)
theorem dX5_shelves_83 : decode cX5_shelves 83 = .ok (.iastore, 1) := dk_79 (dk_at dksX5_shelves_3 16 rfl rfl)
theorem dX5_shelves_84 : decode cX5_shelves 84 = .ok (.return_, 1) := dk_177 (dk_at dksX5_shelves_3 17 rfl rfl)
abbrev cX5_triedIs : ByteArray := prog_19_method_122_code
def yX5_triedIs : MethodName := ⟨RX5, "triedIs", "(II)I"⟩
def dkwX5_triedIs_3 : List UInt8 := [3, 182, 1, 53, 172]
abbrev dktX5_triedIs_3 : List UInt8 := dkwX5_triedIs_3 ++ []
def dkwX5_triedIs_2 : List UInt8 := [154, 0, 7, 27, 167, 0, 24, 28, 4, 160, 0, 12, 42, 3, 3, 182, 1, 43, 167, 0, 10, 42, 3, 3]
abbrev dktX5_triedIs_2 : List UInt8 := dkwX5_triedIs_2 ++ dktX5_triedIs_3
def dkwX5_triedIs_1 : List UInt8 := [17, 0, 200, 17, 0, 247, 184, 0, 112, 153, 0, 13, 42, 28, 17, 0, 200, 100, 182, 1, 37, 172, 28]
abbrev dktX5_triedIs_1 : List UInt8 := dkwX5_triedIs_1 ++ dktX5_triedIs_2
def dkwX5_triedIs_0 : List UInt8 := [28, 16, 100, 17, 0, 147, 184, 0, 112, 153, 0, 12, 42, 28, 16, 100, 100, 182, 1, 34, 172, 28]
abbrev dktX5_triedIs_0 : List UInt8 := dkwX5_triedIs_0 ++ dktX5_triedIs_1
theorem dksX5_triedIs_0 : cX5_triedIs.data.toList.drop 0 = dktX5_triedIs_0 := by decide +kernel
theorem dksX5_triedIs_1 : cX5_triedIs.data.toList.drop 22 = dktX5_triedIs_1 := dk_seg dksX5_triedIs_0 22 rfl rfl
theorem dksX5_triedIs_2 : cX5_triedIs.data.toList.drop 45 = dktX5_triedIs_2 := dk_seg dksX5_triedIs_1 23 rfl rfl
theorem dksX5_triedIs_3 : cX5_triedIs.data.toList.drop 69 = dktX5_triedIs_3 := dk_seg dksX5_triedIs_2 24 rfl rfl
theorem dX5_triedIs_0 : decode cX5_triedIs 0 = .ok (.iload_n 2, 1) := dk_28 (dk_at dksX5_triedIs_0 0 rfl rfl)
theorem dX5_triedIs_1 : decode cX5_triedIs 1 = .ok (.bipush 100, 2) := dk_16 100 (dk_at dksX5_triedIs_0 1 rfl rfl)
theorem dX5_triedIs_3 : decode cX5_triedIs 3 = .ok (.sipush 147, 3) := dk_17 0 147 (dk_at dksX5_triedIs_0 3 rfl rfl)
theorem dX5_triedIs_6 : decode cX5_triedIs 6 = .ok (.invokestatic 112, 3) := dk_184 0 112 (dk_at dksX5_triedIs_0 6 rfl rfl)
theorem dX5_triedIs_9 : decode cX5_triedIs 9 = .ok (.ifCond .eq 12, 3) := dk_153 0 12 (dk_at dksX5_triedIs_0 9 rfl rfl)
theorem dX5_triedIs_12 : decode cX5_triedIs 12 = .ok (.aload_n 0, 1) := dk_42 (dk_at dksX5_triedIs_0 12 rfl rfl)
theorem dX5_triedIs_13 : decode cX5_triedIs 13 = .ok (.iload_n 2, 1) := dk_28 (dk_at dksX5_triedIs_0 13 rfl rfl)
theorem dX5_triedIs_14 : decode cX5_triedIs 14 = .ok (.bipush 100, 2) := dk_16 100 (dk_at dksX5_triedIs_0 14 rfl rfl)
theorem dX5_triedIs_16 : decode cX5_triedIs 16 = .ok (.isub, 1) := dk_100 (dk_at dksX5_triedIs_0 16 rfl rfl)
theorem dX5_triedIs_17 : decode cX5_triedIs 17 = .ok (.invokevirtual 290, 3) := dk_182 1 34 (dk_at dksX5_triedIs_0 17 rfl rfl)
theorem dX5_triedIs_20 : decode cX5_triedIs 20 = .ok (.ireturn, 1) := dk_172 (dk_at dksX5_triedIs_0 20 rfl rfl)
theorem dX5_triedIs_21 : decode cX5_triedIs 21 = .ok (.iload_n 2, 1) := dk_28 (dk_at dksX5_triedIs_0 21 rfl rfl)
theorem dX5_triedIs_22 : decode cX5_triedIs 22 = .ok (.sipush 200, 3) := dk_17 0 200 (dk_at dksX5_triedIs_1 0 rfl rfl)
theorem dX5_triedIs_25 : decode cX5_triedIs 25 = .ok (.sipush 247, 3) := dk_17 0 247 (dk_at dksX5_triedIs_1 3 rfl rfl)
theorem dX5_triedIs_28 : decode cX5_triedIs 28 = .ok (.invokestatic 112, 3) := dk_184 0 112 (dk_at dksX5_triedIs_1 6 rfl rfl)
theorem dX5_triedIs_31 : decode cX5_triedIs 31 = .ok (.ifCond .eq 13, 3) := dk_153 0 13 (dk_at dksX5_triedIs_1 9 rfl rfl)
theorem dX5_triedIs_34 : decode cX5_triedIs 34 = .ok (.aload_n 0, 1) := dk_42 (dk_at dksX5_triedIs_1 12 rfl rfl)
theorem dX5_triedIs_35 : decode cX5_triedIs 35 = .ok (.iload_n 2, 1) := dk_28 (dk_at dksX5_triedIs_1 13 rfl rfl)
theorem dX5_triedIs_36 : decode cX5_triedIs 36 = .ok (.sipush 200, 3) := dk_17 0 200 (dk_at dksX5_triedIs_1 14 rfl rfl)
theorem dX5_triedIs_39 : decode cX5_triedIs 39 = .ok (.isub, 1) := dk_100 (dk_at dksX5_triedIs_1 17 rfl rfl)
theorem dX5_triedIs_40 : decode cX5_triedIs 40 = .ok (.invokevirtual 293, 3) := dk_182 1 37 (dk_at dksX5_triedIs_1 18 rfl rfl)
theorem dX5_triedIs_43 : decode cX5_triedIs 43 = .ok (.ireturn, 1) := dk_172 (dk_at dksX5_triedIs_1 21 rfl rfl)
theorem dX5_triedIs_44 : decode cX5_triedIs 44 = .ok (.iload_n 2, 1) := dk_28 (dk_at dksX5_triedIs_1 22 rfl rfl)
theorem dX5_triedIs_45 : decode cX5_triedIs 45 = .ok (.ifCond .ne 7, 3) := dk_154 0 7 (dk_at dksX5_triedIs_2 0 rfl rfl)
theorem dX5_triedIs_48 : decode cX5_triedIs 48 = .ok (.iload_n 1, 1) := dk_27 (dk_at dksX5_triedIs_2 3 rfl rfl)
theorem dX5_triedIs_49 : decode cX5_triedIs 49 = .ok (.goto 24, 3) := dk_167 0 24 (dk_at dksX5_triedIs_2 4 rfl rfl)
theorem dX5_triedIs_52 : decode cX5_triedIs 52 = .ok (.iload_n 2, 1) := dk_28 (dk_at dksX5_triedIs_2 7 rfl rfl)
theorem dX5_triedIs_53 : decode cX5_triedIs 53 = .ok (.iconst 1, 1) := dk_4 (dk_at dksX5_triedIs_2 8 rfl rfl)
theorem dX5_triedIs_54 : decode cX5_triedIs 54 = .ok (.if_icmp .ne 12, 3) := dk_160 0 12 (dk_at dksX5_triedIs_2 9 rfl rfl)
theorem dX5_triedIs_57 : decode cX5_triedIs 57 = .ok (.aload_n 0, 1) := dk_42 (dk_at dksX5_triedIs_2 12 rfl rfl)
theorem dX5_triedIs_58 : decode cX5_triedIs 58 = .ok (.iconst 0, 1) := dk_3 (dk_at dksX5_triedIs_2 13 rfl rfl)
theorem dX5_triedIs_59 : decode cX5_triedIs 59 = .ok (.iconst 0, 1) := dk_3 (dk_at dksX5_triedIs_2 14 rfl rfl)
theorem dX5_triedIs_60 : decode cX5_triedIs 60 = .ok (.invokevirtual 299, 3) := dk_182 1 43 (dk_at dksX5_triedIs_2 15 rfl rfl)
theorem dX5_triedIs_63 : decode cX5_triedIs 63 = .ok (.goto 10, 3) := dk_167 0 10 (dk_at dksX5_triedIs_2 18 rfl rfl)
theorem dX5_triedIs_66 : decode cX5_triedIs 66 = .ok (.aload_n 0, 1) := dk_42 (dk_at dksX5_triedIs_2 21 rfl rfl)
theorem dX5_triedIs_67 : decode cX5_triedIs 67 = .ok (.iconst 0, 1) := dk_3 (dk_at dksX5_triedIs_2 22 rfl rfl)
theorem dX5_triedIs_68 : decode cX5_triedIs 68 = .ok (.iconst 0, 1) := dk_3 (dk_at dksX5_triedIs_2 23 rfl rfl)
theorem dX5_triedIs_69 : decode cX5_triedIs 69 = .ok (.iconst 0, 1) := dk_3 (dk_at dksX5_triedIs_3 0 rfl rfl)
theorem dX5_triedIs_70 : decode cX5_triedIs 70 = .ok (.invokevirtual 309, 3) := dk_182 1 53 (dk_at dksX5_triedIs_3 1 rfl rfl)
theorem dX5_triedIs_73 : decode cX5_triedIs 73 = .ok (.ireturn, 1) := dk_172 (dk_at dksX5_triedIs_3 4 rfl rfl)
abbrev cX5_takesBack : ByteArray := prog_19_method_121_code
def yX5_takesBack : MethodName := ⟨RX5, "takesBack", "(I)V"⟩
def dkwX5_takesBack_3 : List UInt8 := [181, 0, 108, 42, 42, 180, 0, 105, 27, 16, 99, 96, 46, 181, 1, 184, 177]
abbrev dktX5_takesBack_3 : List UInt8 := dkwX5_takesBack_3 ++ []
def dkwX5_takesBack_2 : List UInt8 := [180, 0, 13, 4, 42, 180, 0, 105, 27, 16, 97, 96, 46, 79, 42, 42, 180, 0, 105, 27, 16, 98, 96, 46]
abbrev dktX5_takesBack_2 : List UInt8 := dkwX5_takesBack_2 ++ dktX5_takesBack_3
def dkwX5_takesBack_1 : List UInt8 := [132, 2, 1, 167, 255, 233, 42, 180, 0, 13, 3, 42, 180, 0, 105, 27, 16, 96, 96, 46, 79, 42]
abbrev dktX5_takesBack_1 : List UInt8 := dkwX5_takesBack_1 ++ dktX5_takesBack_2
def dkwX5_takesBack_0 : List UInt8 := [3, 61, 28, 16, 96, 162, 0, 23, 42, 180, 0, 7, 28, 42, 180, 0, 105, 27, 28, 96, 46, 79]
abbrev dktX5_takesBack_0 : List UInt8 := dkwX5_takesBack_0 ++ dktX5_takesBack_1
theorem dksX5_takesBack_0 : cX5_takesBack.data.toList.drop 0 = dktX5_takesBack_0 := by decide +kernel
theorem dksX5_takesBack_1 : cX5_takesBack.data.toList.drop 22 = dktX5_takesBack_1 := dk_seg dksX5_takesBack_0 22 rfl rfl
theorem dksX5_takesBack_2 : cX5_takesBack.data.toList.drop 44 = dktX5_takesBack_2 := dk_seg dksX5_takesBack_1 22 rfl rfl
theorem dksX5_takesBack_3 : cX5_takesBack.data.toList.drop 68 = dktX5_takesBack_3 := dk_seg dksX5_takesBack_2 24 rfl rfl
theorem dX5_takesBack_0 : decode cX5_takesBack 0 = .ok (.iconst 0, 1) := dk_3 (dk_at dksX5_takesBack_0 0 rfl rfl)
theorem dX5_takesBack_1 : decode cX5_takesBack 1 = .ok (.istore_n 2, 1) := dk_61 (dk_at dksX5_takesBack_0 1 rfl rfl)
theorem dX5_takesBack_2 : decode cX5_takesBack 2 = .ok (.iload_n 2, 1) := dk_28 (dk_at dksX5_takesBack_0 2 rfl rfl)
theorem dX5_takesBack_3 : decode cX5_takesBack 3 = .ok (.bipush 96, 2) := dk_16 96 (dk_at dksX5_takesBack_0 3 rfl rfl)
theorem dX5_takesBack_5 : decode cX5_takesBack 5 = .ok (.if_icmp .ge 23, 3) := dk_162 0 23 (dk_at dksX5_takesBack_0 5 rfl rfl)
theorem dX5_takesBack_8 : decode cX5_takesBack 8 = .ok (.aload_n 0, 1) := dk_42 (dk_at dksX5_takesBack_0 8 rfl rfl)
theorem dX5_takesBack_9 : decode cX5_takesBack 9 = .ok (.getfield 7, 3) := dk_180 0 7 (dk_at dksX5_takesBack_0 9 rfl rfl)
theorem dX5_takesBack_12 : decode cX5_takesBack 12 = .ok (.iload_n 2, 1) := dk_28 (dk_at dksX5_takesBack_0 12 rfl rfl)
theorem dX5_takesBack_13 : decode cX5_takesBack 13 = .ok (.aload_n 0, 1) := dk_42 (dk_at dksX5_takesBack_0 13 rfl rfl)
theorem dX5_takesBack_14 : decode cX5_takesBack 14 = .ok (.getfield 105, 3) := dk_180 0 105 (dk_at dksX5_takesBack_0 14 rfl rfl)
theorem dX5_takesBack_17 : decode cX5_takesBack 17 = .ok (.iload_n 1, 1) := dk_27 (dk_at dksX5_takesBack_0 17 rfl rfl)
theorem dX5_takesBack_18 : decode cX5_takesBack 18 = .ok (.iload_n 2, 1) := dk_28 (dk_at dksX5_takesBack_0 18 rfl rfl)
theorem dX5_takesBack_19 : decode cX5_takesBack 19 = .ok (.iadd, 1) := dk_96 (dk_at dksX5_takesBack_0 19 rfl rfl)
theorem dX5_takesBack_20 : decode cX5_takesBack 20 = .ok (.iaload, 1) := dk_46 (dk_at dksX5_takesBack_0 20 rfl rfl)
theorem dX5_takesBack_21 : decode cX5_takesBack 21 = .ok (.iastore, 1) := dk_79 (dk_at dksX5_takesBack_0 21 rfl rfl)
theorem dX5_takesBack_22 : decode cX5_takesBack 22 = .ok (.iinc 2 1, 3) := dk_132 2 1 (dk_at dksX5_takesBack_1 0 rfl rfl)
theorem dX5_takesBack_25 : decode cX5_takesBack 25 = .ok (.goto (-23), 3) := dk_167 255 233 (dk_at dksX5_takesBack_1 3 rfl rfl)
theorem dX5_takesBack_28 : decode cX5_takesBack 28 = .ok (.aload_n 0, 1) := dk_42 (dk_at dksX5_takesBack_1 6 rfl rfl)
theorem dX5_takesBack_29 : decode cX5_takesBack 29 = .ok (.getfield 13, 3) := dk_180 0 13 (dk_at dksX5_takesBack_1 7 rfl rfl)
theorem dX5_takesBack_32 : decode cX5_takesBack 32 = .ok (.iconst 0, 1) := dk_3 (dk_at dksX5_takesBack_1 10 rfl rfl)
theorem dX5_takesBack_33 : decode cX5_takesBack 33 = .ok (.aload_n 0, 1) := dk_42 (dk_at dksX5_takesBack_1 11 rfl rfl)
theorem dX5_takesBack_34 : decode cX5_takesBack 34 = .ok (.getfield 105, 3) := dk_180 0 105 (dk_at dksX5_takesBack_1 12 rfl rfl)
theorem dX5_takesBack_37 : decode cX5_takesBack 37 = .ok (.iload_n 1, 1) := dk_27 (dk_at dksX5_takesBack_1 15 rfl rfl)
theorem dX5_takesBack_38 : decode cX5_takesBack 38 = .ok (.bipush 96, 2) := dk_16 96 (dk_at dksX5_takesBack_1 16 rfl rfl)
theorem dX5_takesBack_40 : decode cX5_takesBack 40 = .ok (.iadd, 1) := dk_96 (dk_at dksX5_takesBack_1 18 rfl rfl)
theorem dX5_takesBack_41 : decode cX5_takesBack 41 = .ok (.iaload, 1) := dk_46 (dk_at dksX5_takesBack_1 19 rfl rfl)
theorem dX5_takesBack_42 : decode cX5_takesBack 42 = .ok (.iastore, 1) := dk_79 (dk_at dksX5_takesBack_1 20 rfl rfl)
theorem dX5_takesBack_43 : decode cX5_takesBack 43 = .ok (.aload_n 0, 1) := dk_42 (dk_at dksX5_takesBack_1 21 rfl rfl)
theorem dX5_takesBack_44 : decode cX5_takesBack 44 = .ok (.getfield 13, 3) := dk_180 0 13 (dk_at dksX5_takesBack_2 0 rfl rfl)
theorem dX5_takesBack_47 : decode cX5_takesBack 47 = .ok (.iconst 1, 1) := dk_4 (dk_at dksX5_takesBack_2 3 rfl rfl)
theorem dX5_takesBack_48 : decode cX5_takesBack 48 = .ok (.aload_n 0, 1) := dk_42 (dk_at dksX5_takesBack_2 4 rfl rfl)
theorem dX5_takesBack_49 : decode cX5_takesBack 49 = .ok (.getfield 105, 3) := dk_180 0 105 (dk_at dksX5_takesBack_2 5 rfl rfl)
theorem dX5_takesBack_52 : decode cX5_takesBack 52 = .ok (.iload_n 1, 1) := dk_27 (dk_at dksX5_takesBack_2 8 rfl rfl)
theorem dX5_takesBack_53 : decode cX5_takesBack 53 = .ok (.bipush 97, 2) := dk_16 97 (dk_at dksX5_takesBack_2 9 rfl rfl)
theorem dX5_takesBack_55 : decode cX5_takesBack 55 = .ok (.iadd, 1) := dk_96 (dk_at dksX5_takesBack_2 11 rfl rfl)
theorem dX5_takesBack_56 : decode cX5_takesBack 56 = .ok (.iaload, 1) := dk_46 (dk_at dksX5_takesBack_2 12 rfl rfl)
theorem dX5_takesBack_57 : decode cX5_takesBack 57 = .ok (.iastore, 1) := dk_79 (dk_at dksX5_takesBack_2 13 rfl rfl)
theorem dX5_takesBack_58 : decode cX5_takesBack 58 = .ok (.aload_n 0, 1) := dk_42 (dk_at dksX5_takesBack_2 14 rfl rfl)
theorem dX5_takesBack_59 : decode cX5_takesBack 59 = .ok (.aload_n 0, 1) := dk_42 (dk_at dksX5_takesBack_2 15 rfl rfl)
theorem dX5_takesBack_60 : decode cX5_takesBack 60 = .ok (.getfield 105, 3) := dk_180 0 105 (dk_at dksX5_takesBack_2 16 rfl rfl)
theorem dX5_takesBack_63 : decode cX5_takesBack 63 = .ok (.iload_n 1, 1) := dk_27 (dk_at dksX5_takesBack_2 19 rfl rfl)
theorem dX5_takesBack_64 : decode cX5_takesBack 64 = .ok (.bipush 98, 2) := dk_16 98 (dk_at dksX5_takesBack_2 20 rfl rfl)
theorem dX5_takesBack_66 : decode cX5_takesBack 66 = .ok (.iadd, 1) := dk_96 (dk_at dksX5_takesBack_2 22 rfl rfl)
theorem dX5_takesBack_67 : decode cX5_takesBack 67 = .ok (.iaload, 1) := dk_46 (dk_at dksX5_takesBack_2 23 rfl rfl)
theorem dX5_takesBack_68 : decode cX5_takesBack 68 = .ok (.putfield 108, 3) := dk_181 0 108 (dk_at dksX5_takesBack_3 0 rfl rfl)
theorem dX5_takesBack_71 : decode cX5_takesBack 71 = .ok (.aload_n 0, 1) := dk_42 (dk_at dksX5_takesBack_3 3 rfl rfl)
theorem dX5_takesBack_72 : decode cX5_takesBack 72 = .ok (.aload_n 0, 1) := dk_42 (dk_at dksX5_takesBack_3 4 rfl rfl)
theorem dX5_takesBack_73 : decode cX5_takesBack 73 = .ok (.getfield 105, 3) := dk_180 0 105 (dk_at dksX5_takesBack_3 5 rfl rfl)
theorem dX5_takesBack_76 : decode cX5_takesBack 76 = .ok (.iload_n 1, 1) := dk_27 (dk_at dksX5_takesBack_3 8 rfl rfl)
theorem dX5_takesBack_77 : decode cX5_takesBack 77 = .ok (.bipush 99, 2) := dk_16 99 (dk_at dksX5_takesBack_3 9 rfl rfl)
theorem dX5_takesBack_79 : decode cX5_takesBack 79 = .ok (.iadd, 1) := dk_96 (dk_at dksX5_takesBack_3 11 rfl rfl)
theorem dX5_takesBack_80 : decode cX5_takesBack 80 = .ok (.iaload, 1) := dk_46 (dk_at dksX5_takesBack_3 12 rfl rfl)
theorem dX5_takesBack_81 : decode cX5_takesBack 81 = .ok (.putfield 440, 3) := dk_181 1 184 (dk_at dksX5_takesBack_3 13 rfl rfl)
theorem dX5_takesBack_84 : decode cX5_takesBack 84 = .ok (.return_, 1) := dk_177 (dk_at dksX5_takesBack_3 16 rfl rfl)
abbrev cX5_even : ByteArray := prog_19_method_124_code
def yX5_even : MethodName := ⟨RX5, "even", "(III)I"⟩
def dkwX5_even_5 : List UInt8 := [167, 0, 5, 16, 254, 172]
abbrev dktX5_even_5 : List UInt8 := dkwX5_even_5 ++ []
def dkwX5_even_4 : List UInt8 := [161, 0, 7, 4, 167, 0, 4, 3, 54, 6, 42, 3, 182, 1, 211, 21, 6, 153, 0, 8, 21, 4]
abbrev dktX5_even_4 : List UInt8 := dkwX5_even_4 ++ dktX5_even_5
def dkwX5_even_3 : List UInt8 := [87, 21, 4, 42, 180, 1, 184, 96, 21, 5, 100, 54, 4, 167, 255, 205, 42, 3, 3, 3, 182, 1, 53, 29]
abbrev dktX5_even_3 : List UInt8 := dkwX5_even_3 ++ dktX5_even_4
def dkwX5_even_2 : List UInt8 := [162, 0, 40, 21, 5, 42, 180, 1, 184, 159, 0, 31, 42, 180, 1, 184, 54, 5, 42, 4, 28, 182, 1, 202]
abbrev dktX5_even_2 : List UInt8 := dkwX5_even_2 ++ dktX5_even_3
def dkwX5_even_1 : List UInt8 := [182, 1, 205, 3, 54, 4, 2, 54, 5, 42, 3, 3, 3, 182, 1, 53, 29, 162, 0, 46, 21, 4, 27]
abbrev dktX5_even_1 : List UInt8 := dkwX5_even_1 ++ dktX5_even_2
def dkwX5_even_0 : List UInt8 := [27, 28, 184, 1, 199, 153, 0, 13, 29, 4, 16, 48, 184, 0, 112, 154, 0, 5, 2, 172, 42, 3]
abbrev dktX5_even_0 : List UInt8 := dkwX5_even_0 ++ dktX5_even_1
theorem dksX5_even_0 : cX5_even.data.toList.drop 0 = dktX5_even_0 := by decide +kernel
theorem dksX5_even_1 : cX5_even.data.toList.drop 22 = dktX5_even_1 := dk_seg dksX5_even_0 22 rfl rfl
theorem dksX5_even_2 : cX5_even.data.toList.drop 45 = dktX5_even_2 := dk_seg dksX5_even_1 23 rfl rfl
theorem dksX5_even_3 : cX5_even.data.toList.drop 69 = dktX5_even_3 := dk_seg dksX5_even_2 24 rfl rfl
theorem dksX5_even_4 : cX5_even.data.toList.drop 93 = dktX5_even_4 := dk_seg dksX5_even_3 24 rfl rfl
theorem dksX5_even_5 : cX5_even.data.toList.drop 115 = dktX5_even_5 := dk_seg dksX5_even_4 22 rfl rfl
theorem dX5_even_0 : decode cX5_even 0 = .ok (.iload_n 1, 1) := dk_27 (dk_at dksX5_even_0 0 rfl rfl)
theorem dX5_even_1 : decode cX5_even 1 = .ok (.iload_n 2, 1) := dk_28 (dk_at dksX5_even_0 1 rfl rfl)
theorem dX5_even_2 : decode cX5_even 2 = .ok (.invokestatic 455, 3) := dk_184 1 199 (dk_at dksX5_even_0 2 rfl rfl)
theorem dX5_even_5 : decode cX5_even 5 = .ok (.ifCond .eq 13, 3) := dk_153 0 13 (dk_at dksX5_even_0 5 rfl rfl)
theorem dX5_even_8 : decode cX5_even 8 = .ok (.iload_n 3, 1) := dk_29 (dk_at dksX5_even_0 8 rfl rfl)
theorem dX5_even_9 : decode cX5_even 9 = .ok (.iconst 1, 1) := dk_4 (dk_at dksX5_even_0 9 rfl rfl)
theorem dX5_even_10 : decode cX5_even 10 = .ok (.bipush 48, 2) := dk_16 48 (dk_at dksX5_even_0 10 rfl rfl)
theorem dX5_even_12 : decode cX5_even 12 = .ok (.invokestatic 112, 3) := dk_184 0 112 (dk_at dksX5_even_0 12 rfl rfl)
theorem dX5_even_15 : decode cX5_even 15 = .ok (.ifCond .ne 5, 3) := dk_154 0 5 (dk_at dksX5_even_0 15 rfl rfl)
theorem dX5_even_18 : decode cX5_even 18 = .ok (.iconst (-1), 1) := dk_2 (dk_at dksX5_even_0 18 rfl rfl)
theorem dX5_even_19 : decode cX5_even 19 = .ok (.ireturn, 1) := dk_172 (dk_at dksX5_even_0 19 rfl rfl)
theorem dX5_even_20 : decode cX5_even 20 = .ok (.aload_n 0, 1) := dk_42 (dk_at dksX5_even_0 20 rfl rfl)
theorem dX5_even_21 : decode cX5_even 21 = .ok (.iconst 0, 1) := dk_3 (dk_at dksX5_even_0 21 rfl rfl)
theorem dX5_even_22 : decode cX5_even 22 = .ok (.invokevirtual 461, 3) := dk_182 1 205 (dk_at dksX5_even_1 0 rfl rfl)
theorem dX5_even_25 : decode cX5_even 25 = .ok (.iconst 0, 1) := dk_3 (dk_at dksX5_even_1 3 rfl rfl)
theorem dX5_even_26 : decode cX5_even 26 = .ok (.istore 4, 2) := dk_54 4 (dk_at dksX5_even_1 4 rfl rfl)
theorem dX5_even_28 : decode cX5_even 28 = .ok (.iconst (-1), 1) := dk_2 (dk_at dksX5_even_1 6 rfl rfl)
theorem dX5_even_29 : decode cX5_even 29 = .ok (.istore 5, 2) := dk_54 5 (dk_at dksX5_even_1 7 rfl rfl)
theorem dX5_even_31 : decode cX5_even 31 = .ok (.aload_n 0, 1) := dk_42 (dk_at dksX5_even_1 9 rfl rfl)
theorem dX5_even_32 : decode cX5_even 32 = .ok (.iconst 0, 1) := dk_3 (dk_at dksX5_even_1 10 rfl rfl)
theorem dX5_even_33 : decode cX5_even 33 = .ok (.iconst 0, 1) := dk_3 (dk_at dksX5_even_1 11 rfl rfl)
theorem dX5_even_34 : decode cX5_even 34 = .ok (.iconst 0, 1) := dk_3 (dk_at dksX5_even_1 12 rfl rfl)
theorem dX5_even_35 : decode cX5_even 35 = .ok (.invokevirtual 309, 3) := dk_182 1 53 (dk_at dksX5_even_1 13 rfl rfl)
theorem dX5_even_38 : decode cX5_even 38 = .ok (.iload_n 3, 1) := dk_29 (dk_at dksX5_even_1 16 rfl rfl)
theorem dX5_even_39 : decode cX5_even 39 = .ok (.if_icmp .ge 46, 3) := dk_162 0 46 (dk_at dksX5_even_1 17 rfl rfl)
theorem dX5_even_42 : decode cX5_even 42 = .ok (.iload 4, 2) := dk_21 4 (dk_at dksX5_even_1 20 rfl rfl)
theorem dX5_even_44 : decode cX5_even 44 = .ok (.iload_n 1, 1) := dk_27 (dk_at dksX5_even_1 22 rfl rfl)
theorem dX5_even_45 : decode cX5_even 45 = .ok (.if_icmp .ge 40, 3) := dk_162 0 40 (dk_at dksX5_even_2 0 rfl rfl)
theorem dX5_even_48 : decode cX5_even 48 = .ok (.iload 5, 2) := dk_21 5 (dk_at dksX5_even_2 3 rfl rfl)
theorem dX5_even_50 : decode cX5_even 50 = .ok (.aload_n 0, 1) := dk_42 (dk_at dksX5_even_2 5 rfl rfl)
theorem dX5_even_51 : decode cX5_even 51 = .ok (.getfield 440, 3) := dk_180 1 184 (dk_at dksX5_even_2 6 rfl rfl)
theorem dX5_even_54 : decode cX5_even 54 = .ok (.if_icmp .eq 31, 3) := dk_159 0 31 (dk_at dksX5_even_2 9 rfl rfl)
theorem dX5_even_57 : decode cX5_even 57 = .ok (.aload_n 0, 1) := dk_42 (dk_at dksX5_even_2 12 rfl rfl)
theorem dX5_even_58 : decode cX5_even 58 = .ok (.getfield 440, 3) := dk_180 1 184 (dk_at dksX5_even_2 13 rfl rfl)
theorem dX5_even_61 : decode cX5_even 61 = .ok (.istore 5, 2) := dk_54 5 (dk_at dksX5_even_2 16 rfl rfl)
theorem dX5_even_63 : decode cX5_even 63 = .ok (.aload_n 0, 1) := dk_42 (dk_at dksX5_even_2 18 rfl rfl)
theorem dX5_even_64 : decode cX5_even 64 = .ok (.iconst 1, 1) := dk_4 (dk_at dksX5_even_2 19 rfl rfl)
theorem dX5_even_65 : decode cX5_even 65 = .ok (.iload_n 2, 1) := dk_28 (dk_at dksX5_even_2 20 rfl rfl)
theorem dX5_even_66 : decode cX5_even 66 = .ok (.invokevirtual 458, 3) := dk_182 1 202 (dk_at dksX5_even_2 21 rfl rfl)
theorem dX5_even_69 : decode cX5_even 69 = .ok (.pop, 1) := dk_87 (dk_at dksX5_even_3 0 rfl rfl)
theorem dX5_even_70 : decode cX5_even 70 = .ok (.iload 4, 2) := dk_21 4 (dk_at dksX5_even_3 1 rfl rfl)
theorem dX5_even_72 : decode cX5_even 72 = .ok (.aload_n 0, 1) := dk_42 (dk_at dksX5_even_3 3 rfl rfl)
theorem dX5_even_73 : decode cX5_even 73 = .ok (.getfield 440, 3) := dk_180 1 184 (dk_at dksX5_even_3 4 rfl rfl)
theorem dX5_even_76 : decode cX5_even 76 = .ok (.iadd, 1) := dk_96 (dk_at dksX5_even_3 7 rfl rfl)
theorem dX5_even_77 : decode cX5_even 77 = .ok (.iload 5, 2) := dk_21 5 (dk_at dksX5_even_3 8 rfl rfl)
theorem dX5_even_79 : decode cX5_even 79 = .ok (.isub, 1) := dk_100 (dk_at dksX5_even_3 10 rfl rfl)
theorem dX5_even_80 : decode cX5_even 80 = .ok (.istore 4, 2) := dk_54 4 (dk_at dksX5_even_3 11 rfl rfl)
theorem dX5_even_82 : decode cX5_even 82 = .ok (.goto (-51), 3) := dk_167 255 205 (dk_at dksX5_even_3 13 rfl rfl)
theorem dX5_even_85 : decode cX5_even 85 = .ok (.aload_n 0, 1) := dk_42 (dk_at dksX5_even_3 16 rfl rfl)
theorem dX5_even_86 : decode cX5_even 86 = .ok (.iconst 0, 1) := dk_3 (dk_at dksX5_even_3 17 rfl rfl)
theorem dX5_even_87 : decode cX5_even 87 = .ok (.iconst 0, 1) := dk_3 (dk_at dksX5_even_3 18 rfl rfl)
theorem dX5_even_88 : decode cX5_even 88 = .ok (.iconst 0, 1) := dk_3 (dk_at dksX5_even_3 19 rfl rfl)
theorem dX5_even_89 : decode cX5_even 89 = .ok (.invokevirtual 309, 3) := dk_182 1 53 (dk_at dksX5_even_3 20 rfl rfl)
theorem dX5_even_92 : decode cX5_even 92 = .ok (.iload_n 3, 1) := dk_29 (dk_at dksX5_even_3 23 rfl rfl)
theorem dX5_even_93 : decode cX5_even 93 = .ok (.if_icmp .lt 7, 3) := dk_161 0 7 (dk_at dksX5_even_4 0 rfl rfl)
theorem dX5_even_96 : decode cX5_even 96 = .ok (.iconst 1, 1) := dk_4 (dk_at dksX5_even_4 3 rfl rfl)
theorem dX5_even_97 : decode cX5_even 97 = .ok (.goto 4, 3) := dk_167 0 4 (dk_at dksX5_even_4 4 rfl rfl)
theorem dX5_even_100 : decode cX5_even 100 = .ok (.iconst 0, 1) := dk_3 (dk_at dksX5_even_4 7 rfl rfl)
theorem dX5_even_101 : decode cX5_even 101 = .ok (.istore 6, 2) := dk_54 6 (dk_at dksX5_even_4 8 rfl rfl)
theorem dX5_even_103 : decode cX5_even 103 = .ok (.aload_n 0, 1) := dk_42 (dk_at dksX5_even_4 10 rfl rfl)
theorem dX5_even_104 : decode cX5_even 104 = .ok (.iconst 0, 1) := dk_3 (dk_at dksX5_even_4 11 rfl rfl)
theorem dX5_even_105 : decode cX5_even 105 = .ok (.invokevirtual 467, 3) := dk_182 1 211 (dk_at dksX5_even_4 12 rfl rfl)
theorem dX5_even_108 : decode cX5_even 108 = .ok (.iload 6, 2) := dk_21 6 (dk_at dksX5_even_4 15 rfl rfl)
theorem dX5_even_110 : decode cX5_even 110 = .ok (.ifCond .eq 8, 3) := dk_153 0 8 (dk_at dksX5_even_4 17 rfl rfl)
theorem dX5_even_113 : decode cX5_even 113 = .ok (.iload 4, 2) := dk_21 4 (dk_at dksX5_even_4 20 rfl rfl)
theorem dX5_even_115 : decode cX5_even 115 = .ok (.goto 5, 3) := dk_167 0 5 (dk_at dksX5_even_5 0 rfl rfl)
theorem dX5_even_118 : decode cX5_even 118 = .ok (.bipush (-2), 2) := dk_16 254 (dk_at dksX5_even_5 3 rfl rfl)
theorem dX5_even_120 : decode cX5_even 120 = .ok (.ireturn, 1) := dk_172 (dk_at dksX5_even_5 5 rfl rfl)
abbrev cX5_seed : ByteArray := prog_19_method_125_code
def yX5_seed : MethodName := ⟨RX5, "seed", "(I)Z"⟩
def dkwX5_seed_0 : List UInt8 := [27, 3, 19, 1, 214, 184, 0, 112, 154, 0, 5, 3, 172, 42, 27, 181, 0, 108, 4, 172]
abbrev dktX5_seed_0 : List UInt8 := dkwX5_seed_0 ++ []
theorem dksX5_seed_0 : cX5_seed.data.toList.drop 0 = dktX5_seed_0 := by decide +kernel
theorem dX5_seed_0 : decode cX5_seed 0 = .ok (.iload_n 1, 1) := dk_27 (dk_at dksX5_seed_0 0 rfl rfl)
theorem dX5_seed_1 : decode cX5_seed 1 = .ok (.iconst 0, 1) := dk_3 (dk_at dksX5_seed_0 1 rfl rfl)
theorem dX5_seed_2 : decode cX5_seed 2 = .ok (.ldc_w 470, 3) := dk_19 1 214 (dk_at dksX5_seed_0 2 rfl rfl)
theorem dX5_seed_5 : decode cX5_seed 5 = .ok (.invokestatic 112, 3) := dk_184 0 112 (dk_at dksX5_seed_0 5 rfl rfl)
theorem dX5_seed_8 : decode cX5_seed 8 = .ok (.ifCond .ne 5, 3) := dk_154 0 5 (dk_at dksX5_seed_0 8 rfl rfl)
theorem dX5_seed_11 : decode cX5_seed 11 = .ok (.iconst 0, 1) := dk_3 (dk_at dksX5_seed_0 11 rfl rfl)
theorem dX5_seed_12 : decode cX5_seed 12 = .ok (.ireturn, 1) := dk_172 (dk_at dksX5_seed_0 12 rfl rfl)
theorem dX5_seed_13 : decode cX5_seed 13 = .ok (.aload_n 0, 1) := dk_42 (dk_at dksX5_seed_0 13 rfl rfl)
theorem dX5_seed_14 : decode cX5_seed 14 = .ok (.iload_n 1, 1) := dk_27 (dk_at dksX5_seed_0 14 rfl rfl)
theorem dX5_seed_15 : decode cX5_seed 15 = .ok (.putfield 108, 3) := dk_181 0 108 (dk_at dksX5_seed_0 15 rfl rfl)
theorem dX5_seed_18 : decode cX5_seed 18 = .ok (.iconst 1, 1) := dk_4 (dk_at dksX5_seed_0 18 rfl rfl)
theorem dX5_seed_19 : decode cX5_seed 19 = .ok (.ireturn, 1) := dk_172 (dk_at dksX5_seed_0 19 rfl rfl)
abbrev cX5_keep : ByteArray := prog_19_method_126_code
def yX5_keep : MethodName := ⟨RX5, "keep", "()I"⟩
def dkwX5_keep_0 : List UInt8 := [42, 16, 100, 182, 1, 205, 42, 4, 181, 1, 215, 42, 180, 1, 184, 172]
abbrev dktX5_keep_0 : List UInt8 := dkwX5_keep_0 ++ []
theorem dksX5_keep_0 : cX5_keep.data.toList.drop 0 = dktX5_keep_0 := by decide +kernel
theorem dX5_keep_0 : decode cX5_keep 0 = .ok (.aload_n 0, 1) := dk_42 (dk_at dksX5_keep_0 0 rfl rfl)
theorem dX5_keep_1 : decode cX5_keep 1 = .ok (.bipush 100, 2) := dk_16 100 (dk_at dksX5_keep_0 1 rfl rfl)
theorem dX5_keep_3 : decode cX5_keep 3 = .ok (.invokevirtual 461, 3) := dk_182 1 205 (dk_at dksX5_keep_0 3 rfl rfl)
theorem dX5_keep_6 : decode cX5_keep 6 = .ok (.aload_n 0, 1) := dk_42 (dk_at dksX5_keep_0 6 rfl rfl)
theorem dX5_keep_7 : decode cX5_keep 7 = .ok (.iconst 1, 1) := dk_4 (dk_at dksX5_keep_0 7 rfl rfl)
theorem dX5_keep_8 : decode cX5_keep 8 = .ok (.putfield 471, 3) := dk_181 1 215 (dk_at dksX5_keep_0 8 rfl rfl)
theorem dX5_keep_11 : decode cX5_keep 11 = .ok (.aload_n 0, 1) := dk_42 (dk_at dksX5_keep_0 11 rfl rfl)
theorem dX5_keep_12 : decode cX5_keep 12 = .ok (.getfield 440, 3) := dk_180 1 184 (dk_at dksX5_keep_0 12 rfl rfl)
theorem dX5_keep_15 : decode cX5_keep 15 = .ok (.ireturn, 1) := dk_172 (dk_at dksX5_keep_0 15 rfl rfl)
abbrev cX5_undo : ByteArray := prog_19_method_127_code
def yX5_undo : MethodName := ⟨RX5, "undo", "()Z"⟩
def dkwX5_undo_0 : List UInt8 := [42, 180, 1, 215, 153, 0, 9, 42, 16, 100, 182, 1, 211, 42, 180, 1, 215, 172]
abbrev dktX5_undo_0 : List UInt8 := dkwX5_undo_0 ++ []
theorem dksX5_undo_0 : cX5_undo.data.toList.drop 0 = dktX5_undo_0 := by decide +kernel
theorem dX5_undo_0 : decode cX5_undo 0 = .ok (.aload_n 0, 1) := dk_42 (dk_at dksX5_undo_0 0 rfl rfl)
theorem dX5_undo_1 : decode cX5_undo 1 = .ok (.getfield 471, 3) := dk_180 1 215 (dk_at dksX5_undo_0 1 rfl rfl)
theorem dX5_undo_4 : decode cX5_undo 4 = .ok (.ifCond .eq 9, 3) := dk_153 0 9 (dk_at dksX5_undo_0 4 rfl rfl)
theorem dX5_undo_7 : decode cX5_undo 7 = .ok (.aload_n 0, 1) := dk_42 (dk_at dksX5_undo_0 7 rfl rfl)
theorem dX5_undo_8 : decode cX5_undo 8 = .ok (.bipush 100, 2) := dk_16 100 (dk_at dksX5_undo_0 8 rfl rfl)
theorem dX5_undo_10 : decode cX5_undo 10 = .ok (.invokevirtual 467, 3) := dk_182 1 211 (dk_at dksX5_undo_0 10 rfl rfl)
theorem dX5_undo_13 : decode cX5_undo 13 = .ok (.aload_n 0, 1) := dk_42 (dk_at dksX5_undo_0 13 rfl rfl)
theorem dX5_undo_14 : decode cX5_undo 14 = .ok (.getfield 471, 3) := dk_180 1 215 (dk_at dksX5_undo_0 14 rfl rfl)
theorem dX5_undo_17 : decode cX5_undo 17 = .ok (.ireturn, 1) := dk_172 (dk_at dksX5_undo_0 17 rfl rfl)
abbrev cX5_check : ByteArray := prog_19_method_128_code
def yX5_check : MethodName := ⟨RX5, "check", "(I)I"⟩
def dkwX5_check_3 : List UInt8 := [181, 0, 124, 28, 172]
abbrev dktX5_check_3 : List UInt8 := dkwX5_check_3 ++ []
def dkwX5_check_2 : List UInt8 := [167, 0, 11, 42, 29, 16, 8, 100, 182, 1, 37, 159, 0, 5, 29, 61, 132, 3, 255, 167, 255, 217, 42, 3]
abbrev dktX5_check_2 : List UInt8 := dkwX5_check_2 ++ dktX5_check_3
def dkwX5_check_1 : List UInt8 := [4, 100, 62, 29, 155, 0, 41, 42, 29, 182, 1, 89, 29, 16, 8, 162, 0, 11, 42, 29, 182, 1, 34]
abbrev dktX5_check_1 : List UInt8 := dkwX5_check_1 ++ dktX5_check_2
def dkwX5_check_0 : List UInt8 := [27, 3, 16, 16, 184, 0, 112, 153, 0, 11, 27, 42, 180, 0, 124, 164, 0, 6, 16, 254, 172, 2, 61, 27]
abbrev dktX5_check_0 : List UInt8 := dkwX5_check_0 ++ dktX5_check_1
theorem dksX5_check_0 : cX5_check.data.toList.drop 0 = dktX5_check_0 := by decide +kernel
theorem dksX5_check_1 : cX5_check.data.toList.drop 24 = dktX5_check_1 := dk_seg dksX5_check_0 24 rfl rfl
theorem dksX5_check_2 : cX5_check.data.toList.drop 47 = dktX5_check_2 := dk_seg dksX5_check_1 23 rfl rfl
theorem dksX5_check_3 : cX5_check.data.toList.drop 71 = dktX5_check_3 := dk_seg dksX5_check_2 24 rfl rfl
theorem dX5_check_0 : decode cX5_check 0 = .ok (.iload_n 1, 1) := dk_27 (dk_at dksX5_check_0 0 rfl rfl)
theorem dX5_check_1 : decode cX5_check 1 = .ok (.iconst 0, 1) := dk_3 (dk_at dksX5_check_0 1 rfl rfl)
theorem dX5_check_2 : decode cX5_check 2 = .ok (.bipush 16, 2) := dk_16 16 (dk_at dksX5_check_0 2 rfl rfl)
theorem dX5_check_4 : decode cX5_check 4 = .ok (.invokestatic 112, 3) := dk_184 0 112 (dk_at dksX5_check_0 4 rfl rfl)
theorem dX5_check_7 : decode cX5_check 7 = .ok (.ifCond .eq 11, 3) := dk_153 0 11 (dk_at dksX5_check_0 7 rfl rfl)
theorem dX5_check_10 : decode cX5_check 10 = .ok (.iload_n 1, 1) := dk_27 (dk_at dksX5_check_0 10 rfl rfl)
theorem dX5_check_11 : decode cX5_check 11 = .ok (.aload_n 0, 1) := dk_42 (dk_at dksX5_check_0 11 rfl rfl)
theorem dX5_check_12 : decode cX5_check 12 = .ok (.getfield 124, 3) := dk_180 0 124 (dk_at dksX5_check_0 12 rfl rfl)
theorem dX5_check_15 : decode cX5_check 15 = .ok (.if_icmp .le 6, 3) := dk_164 0 6 (dk_at dksX5_check_0 15 rfl rfl)
theorem dX5_check_18 : decode cX5_check 18 = .ok (.bipush (-2), 2) := dk_16 254 (dk_at dksX5_check_0 18 rfl rfl)
theorem dX5_check_20 : decode cX5_check 20 = .ok (.ireturn, 1) := dk_172 (dk_at dksX5_check_0 20 rfl rfl)
theorem dX5_check_21 : decode cX5_check 21 = .ok (.iconst (-1), 1) := dk_2 (dk_at dksX5_check_0 21 rfl rfl)
theorem dX5_check_22 : decode cX5_check 22 = .ok (.istore_n 2, 1) := dk_61 (dk_at dksX5_check_0 22 rfl rfl)
theorem dX5_check_23 : decode cX5_check 23 = .ok (.iload_n 1, 1) := dk_27 (dk_at dksX5_check_0 23 rfl rfl)
theorem dX5_check_24 : decode cX5_check 24 = .ok (.iconst 1, 1) := dk_4 (dk_at dksX5_check_1 0 rfl rfl)
theorem dX5_check_25 : decode cX5_check 25 = .ok (.isub, 1) := dk_100 (dk_at dksX5_check_1 1 rfl rfl)
theorem dX5_check_26 : decode cX5_check 26 = .ok (.istore_n 3, 1) := dk_62 (dk_at dksX5_check_1 2 rfl rfl)
theorem dX5_check_27 : decode cX5_check 27 = .ok (.iload_n 3, 1) := dk_29 (dk_at dksX5_check_1 3 rfl rfl)
theorem dX5_check_28 : decode cX5_check 28 = .ok (.ifCond .lt 41, 3) := dk_155 0 41 (dk_at dksX5_check_1 4 rfl rfl)
theorem dX5_check_31 : decode cX5_check 31 = .ok (.aload_n 0, 1) := dk_42 (dk_at dksX5_check_1 7 rfl rfl)
theorem dX5_check_32 : decode cX5_check 32 = .ok (.iload_n 3, 1) := dk_29 (dk_at dksX5_check_1 8 rfl rfl)
theorem dX5_check_33 : decode cX5_check 33 = .ok (.invokevirtual 345, 3) := dk_182 1 89 (dk_at dksX5_check_1 9 rfl rfl)
theorem dX5_check_36 : decode cX5_check 36 = .ok (.iload_n 3, 1) := dk_29 (dk_at dksX5_check_1 12 rfl rfl)
theorem dX5_check_37 : decode cX5_check 37 = .ok (.bipush 8, 2) := dk_16 8 (dk_at dksX5_check_1 13 rfl rfl)
theorem dX5_check_39 : decode cX5_check 39 = .ok (.if_icmp .ge 11, 3) := dk_162 0 11 (dk_at dksX5_check_1 15 rfl rfl)
theorem dX5_check_42 : decode cX5_check 42 = .ok (.aload_n 0, 1) := dk_42 (dk_at dksX5_check_1 18 rfl rfl)
theorem dX5_check_43 : decode cX5_check 43 = .ok (.iload_n 3, 1) := dk_29 (dk_at dksX5_check_1 19 rfl rfl)
theorem dX5_check_44 : decode cX5_check 44 = .ok (.invokevirtual 290, 3) := dk_182 1 34 (dk_at dksX5_check_1 20 rfl rfl)
theorem dX5_check_47 : decode cX5_check 47 = .ok (.goto 11, 3) := dk_167 0 11 (dk_at dksX5_check_2 0 rfl rfl)
theorem dX5_check_50 : decode cX5_check 50 = .ok (.aload_n 0, 1) := dk_42 (dk_at dksX5_check_2 3 rfl rfl)
theorem dX5_check_51 : decode cX5_check 51 = .ok (.iload_n 3, 1) := dk_29 (dk_at dksX5_check_2 4 rfl rfl)
theorem dX5_check_52 : decode cX5_check 52 = .ok (.bipush 8, 2) := dk_16 8 (dk_at dksX5_check_2 5 rfl rfl)
theorem dX5_check_54 : decode cX5_check 54 = .ok (.isub, 1) := dk_100 (dk_at dksX5_check_2 7 rfl rfl)
theorem dX5_check_55 : decode cX5_check 55 = .ok (.invokevirtual 293, 3) := dk_182 1 37 (dk_at dksX5_check_2 8 rfl rfl)
theorem dX5_check_58 : decode cX5_check 58 = .ok (.if_icmp .eq 5, 3) := dk_159 0 5 (dk_at dksX5_check_2 11 rfl rfl)
theorem dX5_check_61 : decode cX5_check 61 = .ok (.iload_n 3, 1) := dk_29 (dk_at dksX5_check_2 14 rfl rfl)
theorem dX5_check_62 : decode cX5_check 62 = .ok (.istore_n 2, 1) := dk_61 (dk_at dksX5_check_2 15 rfl rfl)
theorem dX5_check_63 : decode cX5_check 63 = .ok (.iinc 3 (-1), 3) := dk_132 3 255 (dk_at dksX5_check_2 16 rfl rfl)
theorem dX5_check_66 : decode cX5_check 66 = .ok (.goto (-39), 3) := dk_167 255 217 (dk_at dksX5_check_2 19 rfl rfl)
theorem dX5_check_69 : decode cX5_check 69 = .ok (.aload_n 0, 1) := dk_42 (dk_at dksX5_check_2 22 rfl rfl)
theorem dX5_check_70 : decode cX5_check 70 = .ok (.iconst 0, 1) := dk_3 (dk_at dksX5_check_2 23 rfl rfl)
theorem dX5_check_71 : decode cX5_check 71 = .ok (.putfield 124, 3) := dk_181 0 124 (dk_at dksX5_check_3 0 rfl rfl)
theorem dX5_check_74 : decode cX5_check 74 = .ok (.iload_n 2, 1) := dk_28 (dk_at dksX5_check_3 3 rfl rfl)
theorem dX5_check_75 : decode cX5_check 75 = .ok (.ireturn, 1) := dk_172 (dk_at dksX5_check_3 4 rfl rfl)
abbrev cX5_count : ByteArray := prog_19_method_130_code
def yX5_count : MethodName := ⟨RX5, "count", "(I)I"⟩
def dkwX5_count_4 : List UInt8 := [182, 1, 43, 172, 2, 172]
abbrev dktX5_count_4 : List UInt8 := dkwX5_count_4 ++ []
def dkwX5_count_3 : List UInt8 := [172, 42, 182, 1, 219, 172, 42, 180, 0, 13, 3, 46, 42, 180, 0, 13, 4, 46, 96, 172, 42, 3, 3]
abbrev dktX5_count_3 : List UInt8 := dkwX5_count_3 ++ dktX5_count_4
def dkwX5_count_2 : List UInt8 := [42, 180, 1, 184, 172, 42, 180, 1, 28, 172, 42, 180, 0, 225, 172, 42, 180, 0, 124, 172, 42, 180, 0, 108]
abbrev dktX5_count_2 : List UInt8 := dkwX5_count_2 ++ dktX5_count_3
def dkwX5_count_1 : List UInt8 := [170, 0, 0, 0, 0, 0, 98, 0, 0, 0, 0, 0, 0, 0, 7, 0, 0, 0, 47, 0, 0, 0, 52, 0, 0, 0, 57, 0, 0, 0, 62, 0, 0, 0, 67, 0, 0, 0, 72, 0, 0, 0, 77, 0, 0, 0, 91]
abbrev dktX5_count_1 : List UInt8 := dkwX5_count_1 ++ dktX5_count_2
def dkwX5_count_0 : List UInt8 := [27]
abbrev dktX5_count_0 : List UInt8 := dkwX5_count_0 ++ dktX5_count_1
theorem dksX5_count_0 : cX5_count.data.toList.drop 0 = dktX5_count_0 := by decide +kernel
theorem dksX5_count_1 : cX5_count.data.toList.drop 1 = dktX5_count_1 := dk_seg dksX5_count_0 1 rfl rfl
theorem dksX5_count_2 : cX5_count.data.toList.drop 48 = dktX5_count_2 := dk_seg dksX5_count_1 47 rfl rfl
theorem dksX5_count_3 : cX5_count.data.toList.drop 72 = dktX5_count_3 := dk_seg dksX5_count_2 24 rfl rfl
theorem dksX5_count_4 : cX5_count.data.toList.drop 95 = dktX5_count_4 := dk_seg dksX5_count_3 23 rfl rfl
theorem dX5_count_0 : decode cX5_count 0 = .ok (.iload_n 1, 1) := dk_27 (dk_at dksX5_count_0 0 rfl rfl)
theorem dX5_count_1 : decode cX5_count 1 = .ok (.tableswitch 98 0 7 #[47, 52, 57, 62, 67, 72, 77, 91], 47) := by decide +kernel
theorem dX5_count_48 : decode cX5_count 48 = .ok (.aload_n 0, 1) := dk_42 (dk_at dksX5_count_2 0 rfl rfl)
theorem dX5_count_49 : decode cX5_count 49 = .ok (.getfield 440, 3) := dk_180 1 184 (dk_at dksX5_count_2 1 rfl rfl)
theorem dX5_count_52 : decode cX5_count 52 = .ok (.ireturn, 1) := dk_172 (dk_at dksX5_count_2 4 rfl rfl)
theorem dX5_count_53 : decode cX5_count 53 = .ok (.aload_n 0, 1) := dk_42 (dk_at dksX5_count_2 5 rfl rfl)
theorem dX5_count_54 : decode cX5_count 54 = .ok (.getfield 284, 3) := dk_180 1 28 (dk_at dksX5_count_2 6 rfl rfl)
theorem dX5_count_57 : decode cX5_count 57 = .ok (.ireturn, 1) := dk_172 (dk_at dksX5_count_2 9 rfl rfl)
theorem dX5_count_58 : decode cX5_count 58 = .ok (.aload_n 0, 1) := dk_42 (dk_at dksX5_count_2 10 rfl rfl)
theorem dX5_count_59 : decode cX5_count 59 = .ok (.getfield 225, 3) := dk_180 0 225 (dk_at dksX5_count_2 11 rfl rfl)
theorem dX5_count_62 : decode cX5_count 62 = .ok (.ireturn, 1) := dk_172 (dk_at dksX5_count_2 14 rfl rfl)
theorem dX5_count_63 : decode cX5_count 63 = .ok (.aload_n 0, 1) := dk_42 (dk_at dksX5_count_2 15 rfl rfl)
theorem dX5_count_64 : decode cX5_count 64 = .ok (.getfield 124, 3) := dk_180 0 124 (dk_at dksX5_count_2 16 rfl rfl)
theorem dX5_count_67 : decode cX5_count 67 = .ok (.ireturn, 1) := dk_172 (dk_at dksX5_count_2 19 rfl rfl)
theorem dX5_count_68 : decode cX5_count 68 = .ok (.aload_n 0, 1) := dk_42 (dk_at dksX5_count_2 20 rfl rfl)
theorem dX5_count_69 : decode cX5_count 69 = .ok (.getfield 108, 3) := dk_180 0 108 (dk_at dksX5_count_2 21 rfl rfl)
theorem dX5_count_72 : decode cX5_count 72 = .ok (.ireturn, 1) := dk_172 (dk_at dksX5_count_3 0 rfl rfl)
theorem dX5_count_73 : decode cX5_count 73 = .ok (.aload_n 0, 1) := dk_42 (dk_at dksX5_count_3 1 rfl rfl)
theorem dX5_count_74 : decode cX5_count 74 = .ok (.invokevirtual 475, 3) := dk_182 1 219 (dk_at dksX5_count_3 2 rfl rfl)
theorem dX5_count_77 : decode cX5_count 77 = .ok (.ireturn, 1) := dk_172 (dk_at dksX5_count_3 5 rfl rfl)
theorem dX5_count_78 : decode cX5_count 78 = .ok (.aload_n 0, 1) := dk_42 (dk_at dksX5_count_3 6 rfl rfl)
theorem dX5_count_79 : decode cX5_count 79 = .ok (.getfield 13, 3) := dk_180 0 13 (dk_at dksX5_count_3 7 rfl rfl)
theorem dX5_count_82 : decode cX5_count 82 = .ok (.iconst 0, 1) := dk_3 (dk_at dksX5_count_3 10 rfl rfl)
theorem dX5_count_83 : decode cX5_count 83 = .ok (.iaload, 1) := dk_46 (dk_at dksX5_count_3 11 rfl rfl)
theorem dX5_count_84 : decode cX5_count 84 = .ok (.aload_n 0, 1) := dk_42 (dk_at dksX5_count_3 12 rfl rfl)
theorem dX5_count_85 : decode cX5_count 85 = .ok (.getfield 13, 3) := dk_180 0 13 (dk_at dksX5_count_3 13 rfl rfl)
theorem dX5_count_88 : decode cX5_count 88 = .ok (.iconst 1, 1) := dk_4 (dk_at dksX5_count_3 16 rfl rfl)
theorem dX5_count_89 : decode cX5_count 89 = .ok (.iaload, 1) := dk_46 (dk_at dksX5_count_3 17 rfl rfl)
theorem dX5_count_90 : decode cX5_count 90 = .ok (.iadd, 1) := dk_96 (dk_at dksX5_count_3 18 rfl rfl)
theorem dX5_count_91 : decode cX5_count 91 = .ok (.ireturn, 1) := dk_172 (dk_at dksX5_count_3 19 rfl rfl)
theorem dX5_count_92 : decode cX5_count 92 = .ok (.aload_n 0, 1) := dk_42 (dk_at dksX5_count_3 20 rfl rfl)
theorem dX5_count_93 : decode cX5_count 93 = .ok (.iconst 0, 1) := dk_3 (dk_at dksX5_count_3 21 rfl rfl)
theorem dX5_count_94 : decode cX5_count 94 = .ok (.iconst 0, 1) := dk_3 (dk_at dksX5_count_3 22 rfl rfl)
theorem dX5_count_95 : decode cX5_count 95 = .ok (.invokevirtual 299, 3) := dk_182 1 43 (dk_at dksX5_count_4 0 rfl rfl)
theorem dX5_count_98 : decode cX5_count 98 = .ok (.ireturn, 1) := dk_172 (dk_at dksX5_count_4 3 rfl rfl)
theorem dX5_count_99 : decode cX5_count 99 = .ok (.iconst (-1), 1) := dk_2 (dk_at dksX5_count_4 4 rfl rfl)
theorem dX5_count_100 : decode cX5_count 100 = .ok (.ireturn, 1) := dk_172 (dk_at dksX5_count_4 5 rfl rfl)
abbrev cX5_offMany : ByteArray := prog_19_method_129_code
def yX5_offMany : MethodName := ⟨RX5, "offMany", "()I"⟩
def dkwX5_offMany_1 : List UInt8 := [132, 2, 1, 167, 255, 234, 27, 172]
abbrev dktX5_offMany_1 : List UInt8 := dkwX5_offMany_1 ++ []
def dkwX5_offMany_0 : List UInt8 := [3, 60, 3, 61, 28, 16, 48, 162, 0, 22, 42, 180, 0, 16, 28, 51, 153, 0, 7, 27, 4, 96, 60]
abbrev dktX5_offMany_0 : List UInt8 := dkwX5_offMany_0 ++ dktX5_offMany_1
theorem dksX5_offMany_0 : cX5_offMany.data.toList.drop 0 = dktX5_offMany_0 := by decide +kernel
theorem dksX5_offMany_1 : cX5_offMany.data.toList.drop 23 = dktX5_offMany_1 := dk_seg dksX5_offMany_0 23 rfl rfl
theorem dX5_offMany_0 : decode cX5_offMany 0 = .ok (.iconst 0, 1) := dk_3 (dk_at dksX5_offMany_0 0 rfl rfl)
theorem dX5_offMany_1 : decode cX5_offMany 1 = .ok (.istore_n 1, 1) := dk_60 (dk_at dksX5_offMany_0 1 rfl rfl)
theorem dX5_offMany_2 : decode cX5_offMany 2 = .ok (.iconst 0, 1) := dk_3 (dk_at dksX5_offMany_0 2 rfl rfl)
theorem dX5_offMany_3 : decode cX5_offMany 3 = .ok (.istore_n 2, 1) := dk_61 (dk_at dksX5_offMany_0 3 rfl rfl)
theorem dX5_offMany_4 : decode cX5_offMany 4 = .ok (.iload_n 2, 1) := dk_28 (dk_at dksX5_offMany_0 4 rfl rfl)
theorem dX5_offMany_5 : decode cX5_offMany 5 = .ok (.bipush 48, 2) := dk_16 48 (dk_at dksX5_offMany_0 5 rfl rfl)
theorem dX5_offMany_7 : decode cX5_offMany 7 = .ok (.if_icmp .ge 22, 3) := dk_162 0 22 (dk_at dksX5_offMany_0 7 rfl rfl)
theorem dX5_offMany_10 : decode cX5_offMany 10 = .ok (.aload_n 0, 1) := dk_42 (dk_at dksX5_offMany_0 10 rfl rfl)
theorem dX5_offMany_11 : decode cX5_offMany 11 = .ok (.getfield 16, 3) := dk_180 0 16 (dk_at dksX5_offMany_0 11 rfl rfl)
theorem dX5_offMany_14 : decode cX5_offMany 14 = .ok (.iload_n 2, 1) := dk_28 (dk_at dksX5_offMany_0 14 rfl rfl)
theorem dX5_offMany_15 : decode cX5_offMany 15 = .ok (.baload, 1) := dk_51 (dk_at dksX5_offMany_0 15 rfl rfl)
theorem dX5_offMany_16 : decode cX5_offMany 16 = .ok (.ifCond .eq 7, 3) := dk_153 0 7 (dk_at dksX5_offMany_0 16 rfl rfl)
theorem dX5_offMany_19 : decode cX5_offMany 19 = .ok (.iload_n 1, 1) := dk_27 (dk_at dksX5_offMany_0 19 rfl rfl)
theorem dX5_offMany_20 : decode cX5_offMany 20 = .ok (.iconst 1, 1) := dk_4 (dk_at dksX5_offMany_0 20 rfl rfl)
theorem dX5_offMany_21 : decode cX5_offMany 21 = .ok (.iadd, 1) := dk_96 (dk_at dksX5_offMany_0 21 rfl rfl)
theorem dX5_offMany_22 : decode cX5_offMany 22 = .ok (.istore_n 1, 1) := dk_60 (dk_at dksX5_offMany_0 22 rfl rfl)
theorem dX5_offMany_23 : decode cX5_offMany 23 = .ok (.iinc 2 1, 3) := dk_132 2 1 (dk_at dksX5_offMany_1 0 rfl rfl)
theorem dX5_offMany_26 : decode cX5_offMany 26 = .ok (.goto (-22), 3) := dk_167 255 234 (dk_at dksX5_offMany_1 3 rfl rfl)
theorem dX5_offMany_29 : decode cX5_offMany 29 = .ok (.iload_n 1, 1) := dk_27 (dk_at dksX5_offMany_1 6 rfl rfl)
theorem dX5_offMany_30 : decode cX5_offMany 30 = .ok (.ireturn, 1) := dk_172 (dk_at dksX5_offMany_1 7 rfl rfl)
theorem q122 : (Jvm.Cond.initialized "HighSpotsModel") ∈ lw_all := lw_g (lw_at lw_m1 6 rfl) rfl
theorem q1182 : (Jvm.Cond.instantiable "HighSpotsModel" (57 : Nat)) ∈ lw_all := lw_g (lw_at lw_m5 106 rfl) rfl
theorem q1184 : (Jvm.Cond.instanceMethod ({ cls := "HighSpotsModel", name := "<init>", desc := "()V" } : Jvm.MethodName)) ∈ lw_all := lw_g (lw_at lw_m5 108 rfl) rfl
theorem q1185 : (Jvm.Cond.code ({ cls := "HighSpotsModel", name := "<init>", desc := "()V" } : Jvm.MethodName) prog_19_method_1_code (1 : Nat) (Option.none : Option Jvm.ClassFile.FieldType)) ∈ lw_all := lw_g (lw_at lw_m5 109 rfl) rfl
theorem q1186 : (Jvm.Cond.methodLink "HighSpotsModel" (1 : Nat) ({ cls := "java/lang/Object", name := "<init>", desc := "()V" } : Jvm.MethodName)) ∈ lw_all := lw_g (lw_at lw_m5 110 rfl) rfl
theorem q1187 : (Jvm.Cond.fieldLink "HighSpotsModel" (7 : Nat) "HighSpotsModel" "heights" "[I") ∈ lw_all := lw_g (lw_at lw_m5 111 rfl) rfl
theorem q1188 : (Jvm.Cond.fieldLink "HighSpotsModel" (13 : Nat) "HighSpotsModel" "wornOf" "[I") ∈ lw_all := lw_g (lw_at lw_m5 112 rfl) rfl
theorem q1189 : (Jvm.Cond.fieldLink "HighSpotsModel" (16 : Nat) "HighSpotsModel" "off" "[Z") ∈ lw_all := lw_g (lw_at lw_m5 113 rfl) rfl
theorem q1190 : (Jvm.Cond.fieldLink "HighSpotsModel" (108 : Nat) "HighSpotsModel" "lot" "I") ∈ lw_all := lw_g (lw_at lw_m5 114 rfl) rfl
theorem q1191 : (Jvm.Cond.fieldLink "HighSpotsModel" (440 : Nat) "HighSpotsModel" "night" "I") ∈ lw_all := lw_g (lw_at lw_m5 115 rfl) rfl
theorem q1192 : (Jvm.Cond.fieldLink "HighSpotsModel" (20 : Nat) "HighSpotsModel" "tape" "[B") ∈ lw_all := lw_g (lw_at lw_m5 116 rfl) rfl
theorem q1193 : (Jvm.Cond.fieldLink "HighSpotsModel" (124 : Nat) "HighSpotsModel" "taped" "I") ∈ lw_all := lw_g (lw_at lw_m5 117 rfl) rfl
theorem q1194 : (Jvm.Cond.fieldLink "HighSpotsModel" (131 : Nat) "HighSpotsModel" "place0" "I") ∈ lw_all := lw_g (lw_at lw_m5 118 rfl) rfl
theorem q1195 : (Jvm.Cond.fieldLink "HighSpotsModel" (134 : Nat) "HighSpotsModel" "length0" "I") ∈ lw_all := lw_g (lw_at lw_m5 119 rfl) rfl
theorem q1196 : (Jvm.Cond.fieldLink "HighSpotsModel" (141 : Nat) "HighSpotsModel" "fault" "I") ∈ lw_all := lw_g (lw_at lw_m5 120 rfl) rfl
theorem q1197 : (Jvm.Cond.fieldLink "HighSpotsModel" (148 : Nat) "HighSpotsModel" "number0" "I") ∈ lw_all := lw_g (lw_at lw_m5 121 rfl) rfl
theorem q1198 : (Jvm.Cond.fieldLink "HighSpotsModel" (159 : Nat) "HighSpotsModel" "open" "I") ∈ lw_all := lw_g (lw_at lw_m5 122 rfl) rfl
theorem q1199 : (Jvm.Cond.fieldLink "HighSpotsModel" (155 : Nat) "HighSpotsModel" "codeMany" "I") ∈ lw_all := lw_g (lw_at lw_m5 123 rfl) rfl
theorem q1200 : (Jvm.Cond.fieldLink "HighSpotsModel" (162 : Nat) "HighSpotsModel" "waiting" "I") ∈ lw_all := lw_g (lw_at lw_m5 124 rfl) rfl
theorem q1201 : (Jvm.Cond.fieldLink "HighSpotsModel" (210 : Nat) "HighSpotsModel" "saidMany" "I") ∈ lw_all := lw_g (lw_at lw_m5 125 rfl) rfl
theorem q1202 : (Jvm.Cond.fieldLink "HighSpotsModel" (225 : Nat) "HighSpotsModel" "clauses" "I") ∈ lw_all := lw_g (lw_at lw_m5 126 rfl) rfl
theorem q1203 : (Jvm.Cond.fieldLink "HighSpotsModel" (24 : Nat) "HighSpotsModel" "said" "[I") ∈ lw_all := lw_g (lw_at lw_m5 127 rfl) rfl
theorem q1204 : (Jvm.Cond.fieldLink "HighSpotsModel" (27 : Nat) "HighSpotsModel" "waitsAt" "[I") ∈ lw_all := lw_g (lw_at lw_m5 128 rfl) rfl
theorem q1205 : (Jvm.Cond.fieldLink "HighSpotsModel" (30 : Nat) "HighSpotsModel" "saidLetter" "[I") ∈ lw_all := lw_g (lw_at lw_m5 129 rfl) rfl
theorem q1206 : (Jvm.Cond.fieldLink "HighSpotsModel" (33 : Nat) "HighSpotsModel" "saidFrom" "[I") ∈ lw_all := lw_g (lw_at lw_m5 130 rfl) rfl
theorem q1207 : (Jvm.Cond.fieldLink "HighSpotsModel" (36 : Nat) "HighSpotsModel" "saidHalf" "[I") ∈ lw_all := lw_g (lw_at lw_m5 131 rfl) rfl
theorem q1208 : (Jvm.Cond.fieldLink "HighSpotsModel" (39 : Nat) "HighSpotsModel" "saidTo" "[I") ∈ lw_all := lw_g (lw_at lw_m5 132 rfl) rfl
theorem q1209 : (Jvm.Cond.fieldLink "HighSpotsModel" (42 : Nat) "HighSpotsModel" "codes" "[I") ∈ lw_all := lw_g (lw_at lw_m5 133 rfl) rfl
theorem q1210 : (Jvm.Cond.fieldLink "HighSpotsModel" (45 : Nat) "HighSpotsModel" "clauseOf" "[I") ∈ lw_all := lw_g (lw_at lw_m5 134 rfl) rfl
theorem q1211 : (Jvm.Cond.fieldLink "HighSpotsModel" (48 : Nat) "HighSpotsModel" "codeFrom" "[I") ∈ lw_all := lw_g (lw_at lw_m5 135 rfl) rfl
theorem q1212 : (Jvm.Cond.fieldLink "HighSpotsModel" (51 : Nat) "HighSpotsModel" "codeHalf" "[I") ∈ lw_all := lw_g (lw_at lw_m5 136 rfl) rfl
theorem q1213 : (Jvm.Cond.fieldLink "HighSpotsModel" (54 : Nat) "HighSpotsModel" "codeTo" "[I") ∈ lw_all := lw_g (lw_at lw_m5 137 rfl) rfl
theorem q1214 : (Jvm.Cond.fieldLink "HighSpotsModel" (57 : Nat) "HighSpotsModel" "stack" "[I") ∈ lw_all := lw_g (lw_at lw_m5 138 rfl) rfl
theorem q1215 : (Jvm.Cond.fieldLink "HighSpotsModel" (60 : Nat) "HighSpotsModel" "facts" "[I") ∈ lw_all := lw_g (lw_at lw_m5 139 rfl) rfl
theorem q1216 : (Jvm.Cond.fieldLink "HighSpotsModel" (63 : Nat) "HighSpotsModel" "newHeights" "[I") ∈ lw_all := lw_g (lw_at lw_m5 140 rfl) rfl
theorem q1217 : (Jvm.Cond.fieldLink "HighSpotsModel" (251 : Nat) "HighSpotsModel" "rowsTold" "I") ∈ lw_all := lw_g (lw_at lw_m5 141 rfl) rfl
theorem q1218 : (Jvm.Cond.fieldLink "HighSpotsModel" (257 : Nat) "HighSpotsModel" "lines" "I") ∈ lw_all := lw_g (lw_at lw_m5 142 rfl) rfl
theorem q1219 : (Jvm.Cond.fieldLink "HighSpotsModel" (248 : Nat) "HighSpotsModel" "put" "I") ∈ lw_all := lw_g (lw_at lw_m5 143 rfl) rfl
theorem q1220 : (Jvm.Cond.fieldLink "HighSpotsModel" (245 : Nat) "HighSpotsModel" "times0" "I") ∈ lw_all := lw_g (lw_at lw_m5 144 rfl) rfl
theorem q1221 : (Jvm.Cond.fieldLink "HighSpotsModel" (66 : Nat) "HighSpotsModel" "steps" "[I") ∈ lw_all := lw_g (lw_at lw_m5 145 rfl) rfl
theorem q1222 : (Jvm.Cond.fieldLink "HighSpotsModel" (69 : Nat) "HighSpotsModel" "newSteps" "[I") ∈ lw_all := lw_g (lw_at lw_m5 146 rfl) rfl
theorem q1223 : (Jvm.Cond.fieldLink "HighSpotsModel" (72 : Nat) "HighSpotsModel" "groupFrom" "[I") ∈ lw_all := lw_g (lw_at lw_m5 147 rfl) rfl
theorem q1224 : (Jvm.Cond.fieldLink "HighSpotsModel" (75 : Nat) "HighSpotsModel" "groupTimes" "[I") ∈ lw_all := lw_g (lw_at lw_m5 148 rfl) rfl
theorem q1225 : (Jvm.Cond.fieldLink "HighSpotsModel" (78 : Nat) "HighSpotsModel" "groupAt" "[I") ∈ lw_all := lw_g (lw_at lw_m5 149 rfl) rfl
theorem q1226 : (Jvm.Cond.fieldLink "HighSpotsModel" (284 : Nat) "HighSpotsModel" "stepMany" "I") ∈ lw_all := lw_g (lw_at lw_m5 150 rfl) rfl
theorem q1227 : (Jvm.Cond.fieldLink "HighSpotsModel" (263 : Nat) "HighSpotsModel" "newMany" "I") ∈ lw_all := lw_g (lw_at lw_m5 151 rfl) rfl
theorem q1228 : (Jvm.Cond.fieldLink "HighSpotsModel" (266 : Nat) "HighSpotsModel" "depth" "I") ∈ lw_all := lw_g (lw_at lw_m5 152 rfl) rfl
theorem q1229 : (Jvm.Cond.fieldLink "HighSpotsModel" (81 : Nat) "HighSpotsModel" "marked" "[Z") ∈ lw_all := lw_g (lw_at lw_m5 153 rfl) rfl
theorem q1230 : (Jvm.Cond.fieldLink "HighSpotsModel" (84 : Nat) "HighSpotsModel" "openings" "[I") ∈ lw_all := lw_g (lw_at lw_m5 154 rfl) rfl
theorem q1231 : (Jvm.Cond.fieldLink "HighSpotsModel" (87 : Nat) "HighSpotsModel" "stepsTo" "[I") ∈ lw_all := lw_g (lw_at lw_m5 155 rfl) rfl
theorem q1232 : (Jvm.Cond.fieldLink "HighSpotsModel" (90 : Nat) "HighSpotsModel" "isIn" "[Z") ∈ lw_all := lw_g (lw_at lw_m5 156 rfl) rfl
theorem q1233 : (Jvm.Cond.fieldLink "HighSpotsModel" (93 : Nat) "HighSpotsModel" "groupOf" "[I") ∈ lw_all := lw_g (lw_at lw_m5 157 rfl) rfl
theorem q1234 : (Jvm.Cond.fieldLink "HighSpotsModel" (364 : Nat) "HighSpotsModel" "groupMany" "I") ∈ lw_all := lw_g (lw_at lw_m5 158 rfl) rfl
theorem q1235 : (Jvm.Cond.fieldLink "HighSpotsModel" (367 : Nat) "HighSpotsModel" "groupMost" "I") ∈ lw_all := lw_g (lw_at lw_m5 159 rfl) rfl
theorem q1236 : (Jvm.Cond.fieldLink "HighSpotsModel" (96 : Nat) "HighSpotsModel" "touching" "[I") ∈ lw_all := lw_g (lw_at lw_m5 160 rfl) rfl
theorem q1237 : (Jvm.Cond.fieldLink "HighSpotsModel" (373 : Nat) "HighSpotsModel" "touchMany" "I") ∈ lw_all := lw_g (lw_at lw_m5 161 rfl) rfl
theorem q1238 : (Jvm.Cond.fieldLink "HighSpotsModel" (99 : Nat) "HighSpotsModel" "climbOf" "[I") ∈ lw_all := lw_g (lw_at lw_m5 162 rfl) rfl
theorem q1239 : (Jvm.Cond.fieldLink "HighSpotsModel" (431 : Nat) "HighSpotsModel" "glideA" "I") ∈ lw_all := lw_g (lw_at lw_m5 163 rfl) rfl
theorem q1240 : (Jvm.Cond.fieldLink "HighSpotsModel" (434 : Nat) "HighSpotsModel" "glideB" "I") ∈ lw_all := lw_g (lw_at lw_m5 164 rfl) rfl
theorem q1241 : (Jvm.Cond.fieldLink "HighSpotsModel" (102 : Nat) "HighSpotsModel" "comeBy" "[Z") ∈ lw_all := lw_g (lw_at lw_m5 165 rfl) rfl
theorem q1242 : (Jvm.Cond.fieldLink "HighSpotsModel" (105 : Nat) "HighSpotsModel" "shelf" "[I") ∈ lw_all := lw_g (lw_at lw_m5 166 rfl) rfl
theorem q1243 : (Jvm.Cond.fieldLink "HighSpotsModel" (471 : Nat) "HighSpotsModel" "isKept" "Z") ∈ lw_all := lw_g (lw_at lw_m5 167 rfl) rfl
theorem q1244 : (Jvm.Cond.laysFinal "HighSpotsModel" "HighSpotsModel" "heights" "[I") ∈ lw_all := lw_g (lw_at lw_m5 168 rfl) rfl
theorem q1245 : (Jvm.Cond.soleField "HighSpotsModel" "heights") ∈ lw_all := lw_g (lw_at lw_m5 169 rfl) rfl
theorem q1246 : (Jvm.Cond.laysFinal "HighSpotsModel" "HighSpotsModel" "wornOf" "[I") ∈ lw_all := lw_g (lw_at lw_m5 170 rfl) rfl
theorem q1247 : (Jvm.Cond.soleField "HighSpotsModel" "wornOf") ∈ lw_all := lw_g (lw_at lw_m5 171 rfl) rfl
theorem q1248 : (Jvm.Cond.laysFinal "HighSpotsModel" "HighSpotsModel" "off" "[Z") ∈ lw_all := lw_g (lw_at lw_m5 172 rfl) rfl
theorem q1249 : (Jvm.Cond.soleField "HighSpotsModel" "off") ∈ lw_all := lw_g (lw_at lw_m5 173 rfl) rfl
theorem q1250 : (Jvm.Cond.lays "HighSpotsModel" "HighSpotsModel" "lot" "I") ∈ lw_all := lw_g (lw_at lw_m5 174 rfl) rfl
theorem q1251 : (Jvm.Cond.soleField "HighSpotsModel" "lot") ∈ lw_all := lw_g (lw_at lw_m5 175 rfl) rfl
theorem q1252 : (Jvm.Cond.lays "HighSpotsModel" "HighSpotsModel" "night" "I") ∈ lw_all := lw_g (lw_at lw_m5 176 rfl) rfl
theorem q1253 : (Jvm.Cond.soleField "HighSpotsModel" "night") ∈ lw_all := lw_g (lw_at lw_m5 177 rfl) rfl
theorem q1254 : (Jvm.Cond.laysFinal "HighSpotsModel" "HighSpotsModel" "tape" "[B") ∈ lw_all := lw_g (lw_at lw_m5 178 rfl) rfl
theorem q1255 : (Jvm.Cond.soleField "HighSpotsModel" "tape") ∈ lw_all := lw_g (lw_at lw_m5 179 rfl) rfl
theorem q1256 : (Jvm.Cond.lays "HighSpotsModel" "HighSpotsModel" "taped" "I") ∈ lw_all := lw_g (lw_at lw_m5 180 rfl) rfl
theorem q1257 : (Jvm.Cond.soleField "HighSpotsModel" "taped") ∈ lw_all := lw_g (lw_at lw_m5 181 rfl) rfl
theorem q1258 : (Jvm.Cond.lays "HighSpotsModel" "HighSpotsModel" "place0" "I") ∈ lw_all := lw_g (lw_at lw_m5 182 rfl) rfl
theorem q1259 : (Jvm.Cond.soleField "HighSpotsModel" "place0") ∈ lw_all := lw_g (lw_at lw_m5 183 rfl) rfl
theorem q1260 : (Jvm.Cond.lays "HighSpotsModel" "HighSpotsModel" "length0" "I") ∈ lw_all := lw_g (lw_at lw_m5 184 rfl) rfl
theorem q1261 : (Jvm.Cond.soleField "HighSpotsModel" "length0") ∈ lw_all := lw_g (lw_at lw_m5 185 rfl) rfl
theorem q1262 : (Jvm.Cond.lays "HighSpotsModel" "HighSpotsModel" "fault" "I") ∈ lw_all := lw_g (lw_at lw_m5 186 rfl) rfl
theorem q1263 : (Jvm.Cond.soleField "HighSpotsModel" "fault") ∈ lw_all := lw_g (lw_at lw_m5 187 rfl) rfl
theorem q1264 : (Jvm.Cond.lays "HighSpotsModel" "HighSpotsModel" "number0" "I") ∈ lw_all := lw_g (lw_at lw_m5 188 rfl) rfl
theorem q1265 : (Jvm.Cond.soleField "HighSpotsModel" "number0") ∈ lw_all := lw_g (lw_at lw_m5 189 rfl) rfl
theorem q1266 : (Jvm.Cond.lays "HighSpotsModel" "HighSpotsModel" "open" "I") ∈ lw_all := lw_g (lw_at lw_m5 190 rfl) rfl
theorem q1267 : (Jvm.Cond.soleField "HighSpotsModel" "open") ∈ lw_all := lw_g (lw_at lw_m5 191 rfl) rfl
theorem q1268 : (Jvm.Cond.lays "HighSpotsModel" "HighSpotsModel" "codeMany" "I") ∈ lw_all := lw_g (lw_at lw_m5 192 rfl) rfl
theorem q1269 : (Jvm.Cond.soleField "HighSpotsModel" "codeMany") ∈ lw_all := lw_g (lw_at lw_m5 193 rfl) rfl
theorem q1270 : (Jvm.Cond.lays "HighSpotsModel" "HighSpotsModel" "waiting" "I") ∈ lw_all := lw_g (lw_at lw_m5 194 rfl) rfl
theorem q1271 : (Jvm.Cond.soleField "HighSpotsModel" "waiting") ∈ lw_all := lw_g (lw_at lw_m5 195 rfl) rfl
theorem q1272 : (Jvm.Cond.lays "HighSpotsModel" "HighSpotsModel" "saidMany" "I") ∈ lw_all := lw_g (lw_at lw_m5 196 rfl) rfl
theorem q1273 : (Jvm.Cond.soleField "HighSpotsModel" "saidMany") ∈ lw_all := lw_g (lw_at lw_m5 197 rfl) rfl
theorem q1274 : (Jvm.Cond.lays "HighSpotsModel" "HighSpotsModel" "clauses" "I") ∈ lw_all := lw_g (lw_at lw_m5 198 rfl) rfl
theorem q1275 : (Jvm.Cond.soleField "HighSpotsModel" "clauses") ∈ lw_all := lw_g (lw_at lw_m5 199 rfl) rfl
theorem q1276 : (Jvm.Cond.laysFinal "HighSpotsModel" "HighSpotsModel" "said" "[I") ∈ lw_all := lw_g (lw_at lw_m5 200 rfl) rfl
theorem q1277 : (Jvm.Cond.soleField "HighSpotsModel" "said") ∈ lw_all := lw_g (lw_at lw_m5 201 rfl) rfl
theorem q1278 : (Jvm.Cond.laysFinal "HighSpotsModel" "HighSpotsModel" "waitsAt" "[I") ∈ lw_all := lw_g (lw_at lw_m5 202 rfl) rfl
theorem q1279 : (Jvm.Cond.soleField "HighSpotsModel" "waitsAt") ∈ lw_all := lw_g (lw_at lw_m5 203 rfl) rfl
theorem q1280 : (Jvm.Cond.laysFinal "HighSpotsModel" "HighSpotsModel" "saidLetter" "[I") ∈ lw_all := lw_g (lw_at lw_m5 204 rfl) rfl
theorem q1281 : (Jvm.Cond.soleField "HighSpotsModel" "saidLetter") ∈ lw_all := lw_g (lw_at lw_m5 205 rfl) rfl
theorem q1282 : (Jvm.Cond.laysFinal "HighSpotsModel" "HighSpotsModel" "saidFrom" "[I") ∈ lw_all := lw_g (lw_at lw_m5 206 rfl) rfl
theorem q1283 : (Jvm.Cond.soleField "HighSpotsModel" "saidFrom") ∈ lw_all := lw_g (lw_at lw_m5 207 rfl) rfl
theorem q1284 : (Jvm.Cond.laysFinal "HighSpotsModel" "HighSpotsModel" "saidHalf" "[I") ∈ lw_all := lw_g (lw_at lw_m5 208 rfl) rfl
theorem q1285 : (Jvm.Cond.soleField "HighSpotsModel" "saidHalf") ∈ lw_all := lw_g (lw_at lw_m5 209 rfl) rfl
theorem q1286 : (Jvm.Cond.laysFinal "HighSpotsModel" "HighSpotsModel" "saidTo" "[I") ∈ lw_all := lw_g (lw_at lw_m5 210 rfl) rfl
theorem q1287 : (Jvm.Cond.soleField "HighSpotsModel" "saidTo") ∈ lw_all := lw_g (lw_at lw_m5 211 rfl) rfl
theorem q1288 : (Jvm.Cond.laysFinal "HighSpotsModel" "HighSpotsModel" "codes" "[I") ∈ lw_all := lw_g (lw_at lw_m5 212 rfl) rfl
theorem q1289 : (Jvm.Cond.soleField "HighSpotsModel" "codes") ∈ lw_all := lw_g (lw_at lw_m5 213 rfl) rfl
theorem q1290 : (Jvm.Cond.laysFinal "HighSpotsModel" "HighSpotsModel" "clauseOf" "[I") ∈ lw_all := lw_g (lw_at lw_m5 214 rfl) rfl
theorem q1291 : (Jvm.Cond.soleField "HighSpotsModel" "clauseOf") ∈ lw_all := lw_g (lw_at lw_m5 215 rfl) rfl
theorem q1292 : (Jvm.Cond.laysFinal "HighSpotsModel" "HighSpotsModel" "codeFrom" "[I") ∈ lw_all := lw_g (lw_at lw_m5 216 rfl) rfl
theorem q1293 : (Jvm.Cond.soleField "HighSpotsModel" "codeFrom") ∈ lw_all := lw_g (lw_at lw_m5 217 rfl) rfl
theorem q1294 : (Jvm.Cond.laysFinal "HighSpotsModel" "HighSpotsModel" "codeHalf" "[I") ∈ lw_all := lw_g (lw_at lw_m5 218 rfl) rfl
theorem q1295 : (Jvm.Cond.soleField "HighSpotsModel" "codeHalf") ∈ lw_all := lw_g (lw_at lw_m5 219 rfl) rfl
theorem q1296 : (Jvm.Cond.laysFinal "HighSpotsModel" "HighSpotsModel" "codeTo" "[I") ∈ lw_all := lw_g (lw_at lw_m5 220 rfl) rfl
theorem q1297 : (Jvm.Cond.soleField "HighSpotsModel" "codeTo") ∈ lw_all := lw_g (lw_at lw_m5 221 rfl) rfl
theorem q1298 : (Jvm.Cond.laysFinal "HighSpotsModel" "HighSpotsModel" "stack" "[I") ∈ lw_all := lw_g (lw_at lw_m5 222 rfl) rfl
theorem q1299 : (Jvm.Cond.soleField "HighSpotsModel" "stack") ∈ lw_all := lw_g (lw_at lw_m5 223 rfl) rfl
theorem q1300 : (Jvm.Cond.laysFinal "HighSpotsModel" "HighSpotsModel" "facts" "[I") ∈ lw_all := lw_g (lw_at lw_m5 224 rfl) rfl
theorem q1301 : (Jvm.Cond.soleField "HighSpotsModel" "facts") ∈ lw_all := lw_g (lw_at lw_m5 225 rfl) rfl
theorem q1302 : (Jvm.Cond.laysFinal "HighSpotsModel" "HighSpotsModel" "newHeights" "[I") ∈ lw_all := lw_g (lw_at lw_m5 226 rfl) rfl
theorem q1303 : (Jvm.Cond.soleField "HighSpotsModel" "newHeights") ∈ lw_all := lw_g (lw_at lw_m5 227 rfl) rfl
theorem q1304 : (Jvm.Cond.lays "HighSpotsModel" "HighSpotsModel" "rowsTold" "I") ∈ lw_all := lw_g (lw_at lw_m5 228 rfl) rfl
theorem q1305 : (Jvm.Cond.soleField "HighSpotsModel" "rowsTold") ∈ lw_all := lw_g (lw_at lw_m5 229 rfl) rfl
theorem q1306 : (Jvm.Cond.lays "HighSpotsModel" "HighSpotsModel" "lines" "I") ∈ lw_all := lw_g (lw_at lw_m5 230 rfl) rfl
theorem q1307 : (Jvm.Cond.soleField "HighSpotsModel" "lines") ∈ lw_all := lw_g (lw_at lw_m5 231 rfl) rfl
theorem q1308 : (Jvm.Cond.lays "HighSpotsModel" "HighSpotsModel" "put" "I") ∈ lw_all := lw_g (lw_at lw_m5 232 rfl) rfl
theorem q1309 : (Jvm.Cond.soleField "HighSpotsModel" "put") ∈ lw_all := lw_g (lw_at lw_m5 233 rfl) rfl
theorem q1310 : (Jvm.Cond.lays "HighSpotsModel" "HighSpotsModel" "times0" "I") ∈ lw_all := lw_g (lw_at lw_m5 234 rfl) rfl
theorem q1311 : (Jvm.Cond.soleField "HighSpotsModel" "times0") ∈ lw_all := lw_g (lw_at lw_m5 235 rfl) rfl
theorem q1312 : (Jvm.Cond.laysFinal "HighSpotsModel" "HighSpotsModel" "steps" "[I") ∈ lw_all := lw_g (lw_at lw_m5 236 rfl) rfl
theorem q1313 : (Jvm.Cond.soleField "HighSpotsModel" "steps") ∈ lw_all := lw_g (lw_at lw_m5 237 rfl) rfl
theorem q1314 : (Jvm.Cond.laysFinal "HighSpotsModel" "HighSpotsModel" "newSteps" "[I") ∈ lw_all := lw_g (lw_at lw_m5 238 rfl) rfl
theorem q1315 : (Jvm.Cond.soleField "HighSpotsModel" "newSteps") ∈ lw_all := lw_g (lw_at lw_m5 239 rfl) rfl
theorem q1316 : (Jvm.Cond.laysFinal "HighSpotsModel" "HighSpotsModel" "groupFrom" "[I") ∈ lw_all := lw_g (lw_at lw_m6 0 rfl) rfl
theorem q1317 : (Jvm.Cond.soleField "HighSpotsModel" "groupFrom") ∈ lw_all := lw_g (lw_at lw_m6 1 rfl) rfl
theorem q1318 : (Jvm.Cond.laysFinal "HighSpotsModel" "HighSpotsModel" "groupTimes" "[I") ∈ lw_all := lw_g (lw_at lw_m6 2 rfl) rfl
theorem q1319 : (Jvm.Cond.soleField "HighSpotsModel" "groupTimes") ∈ lw_all := lw_g (lw_at lw_m6 3 rfl) rfl
theorem q1320 : (Jvm.Cond.laysFinal "HighSpotsModel" "HighSpotsModel" "groupAt" "[I") ∈ lw_all := lw_g (lw_at lw_m6 4 rfl) rfl
theorem q1321 : (Jvm.Cond.soleField "HighSpotsModel" "groupAt") ∈ lw_all := lw_g (lw_at lw_m6 5 rfl) rfl
theorem q1322 : (Jvm.Cond.lays "HighSpotsModel" "HighSpotsModel" "stepMany" "I") ∈ lw_all := lw_g (lw_at lw_m6 6 rfl) rfl
theorem q1323 : (Jvm.Cond.soleField "HighSpotsModel" "stepMany") ∈ lw_all := lw_g (lw_at lw_m6 7 rfl) rfl
theorem q1324 : (Jvm.Cond.lays "HighSpotsModel" "HighSpotsModel" "newMany" "I") ∈ lw_all := lw_g (lw_at lw_m6 8 rfl) rfl
theorem q1325 : (Jvm.Cond.soleField "HighSpotsModel" "newMany") ∈ lw_all := lw_g (lw_at lw_m6 9 rfl) rfl
theorem q1326 : (Jvm.Cond.lays "HighSpotsModel" "HighSpotsModel" "depth" "I") ∈ lw_all := lw_g (lw_at lw_m6 10 rfl) rfl
theorem q1327 : (Jvm.Cond.soleField "HighSpotsModel" "depth") ∈ lw_all := lw_g (lw_at lw_m6 11 rfl) rfl
theorem q1328 : (Jvm.Cond.laysFinal "HighSpotsModel" "HighSpotsModel" "marked" "[Z") ∈ lw_all := lw_g (lw_at lw_m6 12 rfl) rfl
theorem q1329 : (Jvm.Cond.soleField "HighSpotsModel" "marked") ∈ lw_all := lw_g (lw_at lw_m6 13 rfl) rfl
theorem q1330 : (Jvm.Cond.laysFinal "HighSpotsModel" "HighSpotsModel" "openings" "[I") ∈ lw_all := lw_g (lw_at lw_m6 14 rfl) rfl
theorem q1331 : (Jvm.Cond.soleField "HighSpotsModel" "openings") ∈ lw_all := lw_g (lw_at lw_m6 15 rfl) rfl
theorem q1332 : (Jvm.Cond.laysFinal "HighSpotsModel" "HighSpotsModel" "stepsTo" "[I") ∈ lw_all := lw_g (lw_at lw_m6 16 rfl) rfl
theorem q1333 : (Jvm.Cond.soleField "HighSpotsModel" "stepsTo") ∈ lw_all := lw_g (lw_at lw_m6 17 rfl) rfl
theorem q1334 : (Jvm.Cond.laysFinal "HighSpotsModel" "HighSpotsModel" "isIn" "[Z") ∈ lw_all := lw_g (lw_at lw_m6 18 rfl) rfl
theorem q1335 : (Jvm.Cond.soleField "HighSpotsModel" "isIn") ∈ lw_all := lw_g (lw_at lw_m6 19 rfl) rfl
theorem q1336 : (Jvm.Cond.laysFinal "HighSpotsModel" "HighSpotsModel" "groupOf" "[I") ∈ lw_all := lw_g (lw_at lw_m6 20 rfl) rfl
theorem q1337 : (Jvm.Cond.soleField "HighSpotsModel" "groupOf") ∈ lw_all := lw_g (lw_at lw_m6 21 rfl) rfl
theorem q1338 : (Jvm.Cond.lays "HighSpotsModel" "HighSpotsModel" "groupMany" "I") ∈ lw_all := lw_g (lw_at lw_m6 22 rfl) rfl
theorem q1339 : (Jvm.Cond.soleField "HighSpotsModel" "groupMany") ∈ lw_all := lw_g (lw_at lw_m6 23 rfl) rfl
theorem q1340 : (Jvm.Cond.lays "HighSpotsModel" "HighSpotsModel" "groupMost" "I") ∈ lw_all := lw_g (lw_at lw_m6 24 rfl) rfl
theorem q1341 : (Jvm.Cond.soleField "HighSpotsModel" "groupMost") ∈ lw_all := lw_g (lw_at lw_m6 25 rfl) rfl
theorem q1342 : (Jvm.Cond.laysFinal "HighSpotsModel" "HighSpotsModel" "touching" "[I") ∈ lw_all := lw_g (lw_at lw_m6 26 rfl) rfl
theorem q1343 : (Jvm.Cond.soleField "HighSpotsModel" "touching") ∈ lw_all := lw_g (lw_at lw_m6 27 rfl) rfl
theorem q1344 : (Jvm.Cond.lays "HighSpotsModel" "HighSpotsModel" "touchMany" "I") ∈ lw_all := lw_g (lw_at lw_m6 28 rfl) rfl
theorem q1345 : (Jvm.Cond.soleField "HighSpotsModel" "touchMany") ∈ lw_all := lw_g (lw_at lw_m6 29 rfl) rfl
theorem q1346 : (Jvm.Cond.laysFinal "HighSpotsModel" "HighSpotsModel" "climbOf" "[I") ∈ lw_all := lw_g (lw_at lw_m6 30 rfl) rfl
theorem q1347 : (Jvm.Cond.soleField "HighSpotsModel" "climbOf") ∈ lw_all := lw_g (lw_at lw_m6 31 rfl) rfl
theorem q1348 : (Jvm.Cond.lays "HighSpotsModel" "HighSpotsModel" "glideA" "I") ∈ lw_all := lw_g (lw_at lw_m6 32 rfl) rfl
theorem q1349 : (Jvm.Cond.soleField "HighSpotsModel" "glideA") ∈ lw_all := lw_g (lw_at lw_m6 33 rfl) rfl
theorem q1350 : (Jvm.Cond.lays "HighSpotsModel" "HighSpotsModel" "glideB" "I") ∈ lw_all := lw_g (lw_at lw_m6 34 rfl) rfl
theorem q1351 : (Jvm.Cond.soleField "HighSpotsModel" "glideB") ∈ lw_all := lw_g (lw_at lw_m6 35 rfl) rfl
theorem q1352 : (Jvm.Cond.laysFinal "HighSpotsModel" "HighSpotsModel" "comeBy" "[Z") ∈ lw_all := lw_g (lw_at lw_m6 36 rfl) rfl
theorem q1353 : (Jvm.Cond.soleField "HighSpotsModel" "comeBy") ∈ lw_all := lw_g (lw_at lw_m6 37 rfl) rfl
theorem q1354 : (Jvm.Cond.laysFinal "HighSpotsModel" "HighSpotsModel" "shelf" "[I") ∈ lw_all := lw_g (lw_at lw_m6 38 rfl) rfl
theorem q1355 : (Jvm.Cond.soleField "HighSpotsModel" "shelf") ∈ lw_all := lw_g (lw_at lw_m6 39 rfl) rfl
theorem q1356 : (Jvm.Cond.lays "HighSpotsModel" "HighSpotsModel" "isKept" "Z") ∈ lw_all := lw_g (lw_at lw_m6 40 rfl) rfl
theorem q1357 : (Jvm.Cond.soleField "HighSpotsModel" "isKept") ∈ lw_all := lw_g (lw_at lw_m6 41 rfl) rfl
theorem q1358 : (Jvm.Cond.superclass "HighSpotsModel" "java/lang/Object") ∈ lw_all := lw_g (lw_at lw_m6 42 rfl) rfl
theorem q1360 : (Jvm.Cond.instanceMethod ({ cls := "HighSpotsModel", name := "height", desc := "(III)Z" } : Jvm.MethodName)) ∈ lw_all := lw_g (lw_at lw_m6 44 rfl) rfl
theorem q1361 : (Jvm.Cond.selects "HighSpotsModel" ({ cls := "HighSpotsModel", name := "height", desc := "(III)Z" } : Jvm.MethodName) ({ cls := "HighSpotsModel", name := "height", desc := "(III)Z" } : Jvm.MethodName)) ∈ lw_all := lw_g (lw_at lw_m6 45 rfl) rfl
theorem q1362 : (Jvm.Cond.code ({ cls := "HighSpotsModel", name := "height", desc := "(III)Z" } : Jvm.MethodName) prog_19_method_10_code (4 : Nat) (Option.some Jvm.ClassFile.FieldType.boolean)) ∈ lw_all := lw_g (lw_at lw_m6 46 rfl) rfl
theorem q1363 : (Jvm.Cond.methodLink "HighSpotsModel" (117 : Nat) ({ cls := "HighSpotsModel", name := "isCast", desc := "(I)Z" } : Jvm.MethodName)) ∈ lw_all := lw_g (lw_at lw_m6 47 rfl) rfl
theorem q1364 : (Jvm.Cond.static ({ cls := "HighSpotsModel", name := "isCast", desc := "(I)Z" } : Jvm.MethodName)) ∈ lw_all := lw_g (lw_at lw_m6 48 rfl) rfl
theorem q1365 : (Jvm.Cond.code ({ cls := "HighSpotsModel", name := "isCast", desc := "(I)Z" } : Jvm.MethodName) prog_19_method_5_code (1 : Nat) (Option.some Jvm.ClassFile.FieldType.boolean)) ∈ lw_all := lw_g (lw_at lw_m6 49 rfl) rfl
theorem q1366 : (Jvm.Cond.methodLink "HighSpotsModel" (112 : Nat) ({ cls := "HighSpotsModel", name := "in", desc := "(III)Z" } : Jvm.MethodName)) ∈ lw_all := lw_g (lw_at lw_m6 50 rfl) rfl
theorem q1367 : (Jvm.Cond.static ({ cls := "HighSpotsModel", name := "in", desc := "(III)Z" } : Jvm.MethodName)) ∈ lw_all := lw_g (lw_at lw_m6 51 rfl) rfl
theorem q1368 : (Jvm.Cond.code ({ cls := "HighSpotsModel", name := "in", desc := "(III)Z" } : Jvm.MethodName) prog_19_method_2_code (3 : Nat) (Option.some Jvm.ClassFile.FieldType.boolean)) ∈ lw_all := lw_g (lw_at lw_m6 52 rfl) rfl
theorem q1369 : (Jvm.Cond.methodLink "HighSpotsModel" (121 : Nat) ({ cls := "HighSpotsModel", name := "isPlace", desc := "(I)Z" } : Jvm.MethodName)) ∈ lw_all := lw_g (lw_at lw_m6 53 rfl) rfl
theorem q1370 : (Jvm.Cond.static ({ cls := "HighSpotsModel", name := "isPlace", desc := "(I)Z" } : Jvm.MethodName)) ∈ lw_all := lw_g (lw_at lw_m6 54 rfl) rfl
theorem q1371 : (Jvm.Cond.code ({ cls := "HighSpotsModel", name := "isPlace", desc := "(I)Z" } : Jvm.MethodName) prog_19_method_6_code (1 : Nat) (Option.some Jvm.ClassFile.FieldType.boolean)) ∈ lw_all := lw_g (lw_at lw_m6 55 rfl) rfl
theorem q1373 : (Jvm.Cond.instanceMethod ({ cls := "HighSpotsModel", name := "heightOf", desc := "(II)I" } : Jvm.MethodName)) ∈ lw_all := lw_g (lw_at lw_m6 57 rfl) rfl
theorem q1374 : (Jvm.Cond.selects "HighSpotsModel" ({ cls := "HighSpotsModel", name := "heightOf", desc := "(II)I" } : Jvm.MethodName) ({ cls := "HighSpotsModel", name := "heightOf", desc := "(II)I" } : Jvm.MethodName)) ∈ lw_all := lw_g (lw_at lw_m6 58 rfl) rfl
theorem q1375 : (Jvm.Cond.code ({ cls := "HighSpotsModel", name := "heightOf", desc := "(II)I" } : Jvm.MethodName) prog_19_method_11_code (3 : Nat) (Option.some Jvm.ClassFile.FieldType.int)) ∈ lw_all := lw_g (lw_at lw_m6 59 rfl) rfl
theorem q1377 : (Jvm.Cond.instanceMethod ({ cls := "HighSpotsModel", name := "keepOff", desc := "(IZ)Z" } : Jvm.MethodName)) ∈ lw_all := lw_g (lw_at lw_m6 61 rfl) rfl
theorem q1378 : (Jvm.Cond.selects "HighSpotsModel" ({ cls := "HighSpotsModel", name := "keepOff", desc := "(IZ)Z" } : Jvm.MethodName) ({ cls := "HighSpotsModel", name := "keepOff", desc := "(IZ)Z" } : Jvm.MethodName)) ∈ lw_all := lw_g (lw_at lw_m6 62 rfl) rfl
theorem q1379 : (Jvm.Cond.code ({ cls := "HighSpotsModel", name := "keepOff", desc := "(IZ)Z" } : Jvm.MethodName) prog_19_method_12_code (3 : Nat) (Option.some Jvm.ClassFile.FieldType.boolean)) ∈ lw_all := lw_g (lw_at lw_m6 63 rfl) rfl
theorem q1381 : (Jvm.Cond.instanceMethod ({ cls := "HighSpotsModel", name := "feed", desc := "(IIIII)I" } : Jvm.MethodName)) ∈ lw_all := lw_g (lw_at lw_m6 65 rfl) rfl
theorem q1382 : (Jvm.Cond.selects "HighSpotsModel" ({ cls := "HighSpotsModel", name := "feed", desc := "(IIIII)I" } : Jvm.MethodName) ({ cls := "HighSpotsModel", name := "feed", desc := "(IIIII)I" } : Jvm.MethodName)) ∈ lw_all := lw_g (lw_at lw_m6 66 rfl) rfl
theorem q1383 : (Jvm.Cond.code ({ cls := "HighSpotsModel", name := "feed", desc := "(IIIII)I" } : Jvm.MethodName) prog_19_method_16_code (6 : Nat) (Option.some Jvm.ClassFile.FieldType.int)) ∈ lw_all := lw_g (lw_at lw_m6 67 rfl) rfl
theorem q1384 : (Jvm.Cond.methodLink "HighSpotsModel" (127 : Nat) ({ cls := "HighSpotsModel", name := "types", desc := "(I)V" } : Jvm.MethodName)) ∈ lw_all := lw_g (lw_at lw_m6 68 rfl) rfl
theorem q1385 : (Jvm.Cond.privateMethod ({ cls := "HighSpotsModel", name := "types", desc := "(I)V" } : Jvm.MethodName)) ∈ lw_tbl := lw_at lw_m6 69 rfl
theorem q1386 : (Jvm.Cond.instanceMethod ({ cls := "HighSpotsModel", name := "types", desc := "(I)V" } : Jvm.MethodName)) ∈ lw_all := lw_g (lw_at lw_m6 70 rfl) rfl
theorem q1387 : (Jvm.Cond.code ({ cls := "HighSpotsModel", name := "types", desc := "(I)V" } : Jvm.MethodName) prog_19_method_15_code (3 : Nat) (Option.none : Option Jvm.ClassFile.FieldType)) ∈ lw_all := lw_g (lw_at lw_m6 71 rfl) rfl
theorem q1389 : (Jvm.Cond.instanceMethod ({ cls := "HighSpotsModel", name := "law", desc := "(I)I" } : Jvm.MethodName)) ∈ lw_all := lw_g (lw_at lw_m6 73 rfl) rfl
theorem q1390 : (Jvm.Cond.selects "HighSpotsModel" ({ cls := "HighSpotsModel", name := "law", desc := "(I)I" } : Jvm.MethodName) ({ cls := "HighSpotsModel", name := "law", desc := "(I)I" } : Jvm.MethodName)) ∈ lw_all := lw_g (lw_at lw_m6 74 rfl) rfl
theorem q1391 : (Jvm.Cond.code ({ cls := "HighSpotsModel", name := "law", desc := "(I)I" } : Jvm.MethodName) prog_19_method_39_code (4 : Nat) (Option.some Jvm.ClassFile.FieldType.int)) ∈ lw_all := lw_g (lw_at lw_m6 75 rfl) rfl
theorem q1392 : (Jvm.Cond.methodLink "HighSpotsModel" (216 : Nat) ({ cls := "HighSpotsModel", name := "beginsText", desc := "(I)V" } : Jvm.MethodName)) ∈ lw_all := lw_g (lw_at lw_m6 76 rfl) rfl
theorem q1393 : (Jvm.Cond.privateMethod ({ cls := "HighSpotsModel", name := "beginsText", desc := "(I)V" } : Jvm.MethodName)) ∈ lw_tbl := lw_at lw_m6 77 rfl
theorem q1394 : (Jvm.Cond.instanceMethod ({ cls := "HighSpotsModel", name := "beginsText", desc := "(I)V" } : Jvm.MethodName)) ∈ lw_all := lw_g (lw_at lw_m6 78 rfl) rfl
theorem q1395 : (Jvm.Cond.code ({ cls := "HighSpotsModel", name := "beginsText", desc := "(I)V" } : Jvm.MethodName) prog_19_method_38_code (2 : Nat) (Option.none : Option Jvm.ClassFile.FieldType)) ∈ lw_all := lw_g (lw_at lw_m6 79 rfl) rfl
theorem q1396 : (Jvm.Cond.methodLink "HighSpotsModel" (219 : Nat) ({ cls := "HighSpotsModel", name := "readsRule", desc := "()Z" } : Jvm.MethodName)) ∈ lw_all := lw_g (lw_at lw_m6 80 rfl) rfl
theorem q1397 : (Jvm.Cond.privateMethod ({ cls := "HighSpotsModel", name := "readsRule", desc := "()Z" } : Jvm.MethodName)) ∈ lw_tbl := lw_at lw_m6 81 rfl
theorem q1398 : (Jvm.Cond.instanceMethod ({ cls := "HighSpotsModel", name := "readsRule", desc := "()Z" } : Jvm.MethodName)) ∈ lw_all := lw_g (lw_at lw_m6 82 rfl) rfl
theorem q1399 : (Jvm.Cond.code ({ cls := "HighSpotsModel", name := "readsRule", desc := "()Z" } : Jvm.MethodName) prog_19_method_37_code (2 : Nat) (Option.some Jvm.ClassFile.FieldType.boolean)) ∈ lw_all := lw_g (lw_at lw_m6 83 rfl) rfl
theorem q1400 : (Jvm.Cond.methodLink "HighSpotsModel" (137 : Nat) ({ cls := "HighSpotsModel", name := "here", desc := "()I" } : Jvm.MethodName)) ∈ lw_all := lw_g (lw_at lw_m6 84 rfl) rfl
theorem q1401 : (Jvm.Cond.privateMethod ({ cls := "HighSpotsModel", name := "here", desc := "()I" } : Jvm.MethodName)) ∈ lw_tbl := lw_at lw_m6 85 rfl
theorem q1402 : (Jvm.Cond.instanceMethod ({ cls := "HighSpotsModel", name := "here", desc := "()I" } : Jvm.MethodName)) ∈ lw_all := lw_g (lw_at lw_m6 86 rfl) rfl
theorem q1403 : (Jvm.Cond.code ({ cls := "HighSpotsModel", name := "here", desc := "()I" } : Jvm.MethodName) prog_19_method_18_code (1 : Nat) (Option.some Jvm.ClassFile.FieldType.int)) ∈ lw_all := lw_g (lw_at lw_m6 87 rfl) rfl
theorem q1404 : (Jvm.Cond.methodLink "HighSpotsModel" (144 : Nat) ({ cls := "HighSpotsModel", name := "wrongAt", desc := "(II)Z" } : Jvm.MethodName)) ∈ lw_all := lw_g (lw_at lw_m6 88 rfl) rfl
theorem q1405 : (Jvm.Cond.privateMethod ({ cls := "HighSpotsModel", name := "wrongAt", desc := "(II)Z" } : Jvm.MethodName)) ∈ lw_tbl := lw_at lw_m6 89 rfl
theorem q1406 : (Jvm.Cond.instanceMethod ({ cls := "HighSpotsModel", name := "wrongAt", desc := "(II)Z" } : Jvm.MethodName)) ∈ lw_all := lw_g (lw_at lw_m6 90 rfl) rfl
theorem q1407 : (Jvm.Cond.code ({ cls := "HighSpotsModel", name := "wrongAt", desc := "(II)Z" } : Jvm.MethodName) prog_19_method_20_code (3 : Nat) (Option.some Jvm.ClassFile.FieldType.boolean)) ∈ lw_all := lw_g (lw_at lw_m6 91 rfl) rfl
theorem q1408 : (Jvm.Cond.methodLink "HighSpotsModel" (195 : Nat) ({ cls := "HighSpotsModel", name := "readsSum", desc := "()Z" } : Jvm.MethodName)) ∈ lw_all := lw_g (lw_at lw_m6 92 rfl) rfl
theorem q1409 : (Jvm.Cond.privateMethod ({ cls := "HighSpotsModel", name := "readsSum", desc := "()Z" } : Jvm.MethodName)) ∈ lw_tbl := lw_at lw_m6 93 rfl
theorem q1410 : (Jvm.Cond.instanceMethod ({ cls := "HighSpotsModel", name := "readsSum", desc := "()Z" } : Jvm.MethodName)) ∈ lw_all := lw_g (lw_at lw_m6 94 rfl) rfl
theorem q1411 : (Jvm.Cond.code ({ cls := "HighSpotsModel", name := "readsSum", desc := "()Z" } : Jvm.MethodName) prog_19_method_31_code (3 : Nat) (Option.some Jvm.ClassFile.FieldType.boolean)) ∈ lw_all := lw_g (lw_at lw_m6 95 rfl) rfl
theorem q1412 : (Jvm.Cond.methodLink "HighSpotsModel" (182 : Nat) ({ cls := "HighSpotsModel", name := "readsFactor", desc := "()Z" } : Jvm.MethodName)) ∈ lw_all := lw_g (lw_at lw_m6 96 rfl) rfl
theorem q1413 : (Jvm.Cond.privateMethod ({ cls := "HighSpotsModel", name := "readsFactor", desc := "()Z" } : Jvm.MethodName)) ∈ lw_tbl := lw_at lw_m6 97 rfl
theorem q1414 : (Jvm.Cond.instanceMethod ({ cls := "HighSpotsModel", name := "readsFactor", desc := "()Z" } : Jvm.MethodName)) ∈ lw_all := lw_g (lw_at lw_m6 98 rfl) rfl
theorem q1415 : (Jvm.Cond.code ({ cls := "HighSpotsModel", name := "readsFactor", desc := "()Z" } : Jvm.MethodName) prog_19_method_29_code (2 : Nat) (Option.some Jvm.ClassFile.FieldType.boolean)) ∈ lw_all := lw_g (lw_at lw_m6 99 rfl) rfl
theorem q1416 : (Jvm.Cond.methodLink "HighSpotsModel" (172 : Nat) ({ cls := "HighSpotsModel", name := "opens", desc := "(I)Z" } : Jvm.MethodName)) ∈ lw_all := lw_g (lw_at lw_m6 100 rfl) rfl
theorem q1417 : (Jvm.Cond.privateMethod ({ cls := "HighSpotsModel", name := "opens", desc := "(I)Z" } : Jvm.MethodName)) ∈ lw_tbl := lw_at lw_m6 101 rfl
theorem q1418 : (Jvm.Cond.instanceMethod ({ cls := "HighSpotsModel", name := "opens", desc := "(I)Z" } : Jvm.MethodName)) ∈ lw_all := lw_g (lw_at lw_m6 102 rfl) rfl
theorem q1419 : (Jvm.Cond.code ({ cls := "HighSpotsModel", name := "opens", desc := "(I)Z" } : Jvm.MethodName) prog_19_method_24_code (2 : Nat) (Option.some Jvm.ClassFile.FieldType.boolean)) ∈ lw_all := lw_g (lw_at lw_m6 103 rfl) rfl
theorem q1420 : (Jvm.Cond.constant "HighSpotsModel" (158 : Nat) (1048576 : Int32)) ∈ lw_all := lw_g (lw_at lw_m6 104 rfl) rfl
theorem q1421 : (Jvm.Cond.methodLink "HighSpotsModel" (151 : Nat) ({ cls := "HighSpotsModel", name := "isDigit", desc := "()Z" } : Jvm.MethodName)) ∈ lw_all := lw_g (lw_at lw_m6 105 rfl) rfl
theorem q1422 : (Jvm.Cond.privateMethod ({ cls := "HighSpotsModel", name := "isDigit", desc := "()Z" } : Jvm.MethodName)) ∈ lw_tbl := lw_at lw_m6 106 rfl
theorem q1423 : (Jvm.Cond.instanceMethod ({ cls := "HighSpotsModel", name := "isDigit", desc := "()Z" } : Jvm.MethodName)) ∈ lw_all := lw_g (lw_at lw_m6 107 rfl) rfl
theorem q1424 : (Jvm.Cond.code ({ cls := "HighSpotsModel", name := "isDigit", desc := "()Z" } : Jvm.MethodName) prog_19_method_19_code (1 : Nat) (Option.some Jvm.ClassFile.FieldType.boolean)) ∈ lw_all := lw_g (lw_at lw_m6 108 rfl) rfl
theorem q1425 : (Jvm.Cond.methodLink "HighSpotsModel" (175 : Nat) ({ cls := "HighSpotsModel", name := "readsNumber", desc := "()Z" } : Jvm.MethodName)) ∈ lw_all := lw_g (lw_at lw_m6 109 rfl) rfl
theorem q1426 : (Jvm.Cond.privateMethod ({ cls := "HighSpotsModel", name := "readsNumber", desc := "()Z" } : Jvm.MethodName)) ∈ lw_tbl := lw_at lw_m6 110 rfl
theorem q1427 : (Jvm.Cond.instanceMethod ({ cls := "HighSpotsModel", name := "readsNumber", desc := "()Z" } : Jvm.MethodName)) ∈ lw_all := lw_g (lw_at lw_m6 111 rfl) rfl
theorem q1428 : (Jvm.Cond.code ({ cls := "HighSpotsModel", name := "readsNumber", desc := "()Z" } : Jvm.MethodName) prog_19_method_22_code (2 : Nat) (Option.some Jvm.ClassFile.FieldType.boolean)) ∈ lw_all := lw_g (lw_at lw_m6 112 rfl) rfl
theorem q1429 : (Jvm.Cond.methodLink "HighSpotsModel" (168 : Nat) ({ cls := "HighSpotsModel", name := "notes", desc := "(II)V" } : Jvm.MethodName)) ∈ lw_all := lw_g (lw_at lw_m6 113 rfl) rfl
theorem q1430 : (Jvm.Cond.privateMethod ({ cls := "HighSpotsModel", name := "notes", desc := "(II)V" } : Jvm.MethodName)) ∈ lw_tbl := lw_at lw_m6 114 rfl
theorem q1431 : (Jvm.Cond.instanceMethod ({ cls := "HighSpotsModel", name := "notes", desc := "(II)V" } : Jvm.MethodName)) ∈ lw_all := lw_g (lw_at lw_m6 115 rfl) rfl
theorem q1432 : (Jvm.Cond.code ({ cls := "HighSpotsModel", name := "notes", desc := "(II)V" } : Jvm.MethodName) prog_19_method_23_code (3 : Nat) (Option.none : Option Jvm.ClassFile.FieldType)) ∈ lw_all := lw_g (lw_at lw_m6 116 rfl) rfl
theorem q1433 : (Jvm.Cond.methodLink "HighSpotsModel" (178 : Nat) ({ cls := "HighSpotsModel", name := "factOf", desc := "(I)I" } : Jvm.MethodName)) ∈ lw_all := lw_g (lw_at lw_m6 117 rfl) rfl
theorem q1434 : (Jvm.Cond.static ({ cls := "HighSpotsModel", name := "factOf", desc := "(I)I" } : Jvm.MethodName)) ∈ lw_all := lw_g (lw_at lw_m6 118 rfl) rfl
theorem q1435 : (Jvm.Cond.code ({ cls := "HighSpotsModel", name := "factOf", desc := "(I)I" } : Jvm.MethodName) prog_19_method_26_code (1 : Nat) (Option.some Jvm.ClassFile.FieldType.int)) ∈ lw_all := lw_g (lw_at lw_m6 119 rfl) rfl
theorem q1436 : (Jvm.Cond.methodLink "HighSpotsModel" (185 : Nat) ({ cls := "HighSpotsModel", name := "sumSign", desc := "(I)I" } : Jvm.MethodName)) ∈ lw_all := lw_g (lw_at lw_m6 120 rfl) rfl
theorem q1437 : (Jvm.Cond.static ({ cls := "HighSpotsModel", name := "sumSign", desc := "(I)I" } : Jvm.MethodName)) ∈ lw_all := lw_g (lw_at lw_m6 121 rfl) rfl
theorem q1438 : (Jvm.Cond.code ({ cls := "HighSpotsModel", name := "sumSign", desc := "(I)I" } : Jvm.MethodName) prog_19_method_27_code (1 : Nat) (Option.some Jvm.ClassFile.FieldType.int)) ∈ lw_all := lw_g (lw_at lw_m6 122 rfl) rfl
theorem q1439 : (Jvm.Cond.methodLink "HighSpotsModel" (188 : Nat) ({ cls := "HighSpotsModel", name := "closesSums", desc := "(Z)V" } : Jvm.MethodName)) ∈ lw_all := lw_g (lw_at lw_m6 123 rfl) rfl
theorem q1440 : (Jvm.Cond.privateMethod ({ cls := "HighSpotsModel", name := "closesSums", desc := "(Z)V" } : Jvm.MethodName)) ∈ lw_tbl := lw_at lw_m6 124 rfl
theorem q1441 : (Jvm.Cond.instanceMethod ({ cls := "HighSpotsModel", name := "closesSums", desc := "(Z)V" } : Jvm.MethodName)) ∈ lw_all := lw_g (lw_at lw_m6 125 rfl) rfl
theorem q1442 : (Jvm.Cond.code ({ cls := "HighSpotsModel", name := "closesSums", desc := "(Z)V" } : Jvm.MethodName) prog_19_method_28_code (2 : Nat) (Option.none : Option Jvm.ClassFile.FieldType)) ∈ lw_all := lw_g (lw_at lw_m6 126 rfl) rfl
theorem q1443 : (Jvm.Cond.methodLink "HighSpotsModel" (165 : Nat) ({ cls := "HighSpotsModel", name := "waitTop", desc := "()I" } : Jvm.MethodName)) ∈ lw_all := lw_g (lw_at lw_m6 127 rfl) rfl
theorem q1444 : (Jvm.Cond.privateMethod ({ cls := "HighSpotsModel", name := "waitTop", desc := "()I" } : Jvm.MethodName)) ∈ lw_tbl := lw_at lw_m6 128 rfl
theorem q1445 : (Jvm.Cond.instanceMethod ({ cls := "HighSpotsModel", name := "waitTop", desc := "()I" } : Jvm.MethodName)) ∈ lw_all := lw_g (lw_at lw_m6 129 rfl) rfl
theorem q1446 : (Jvm.Cond.code ({ cls := "HighSpotsModel", name := "waitTop", desc := "()I" } : Jvm.MethodName) prog_19_method_25_code (1 : Nat) (Option.some Jvm.ClassFile.FieldType.int)) ∈ lw_all := lw_g (lw_at lw_m6 130 rfl) rfl
theorem q1447 : (Jvm.Cond.methodLink "HighSpotsModel" (192 : Nat) ({ cls := "HighSpotsModel", name := "hasOpenSum", desc := "(I)Z" } : Jvm.MethodName)) ∈ lw_all := lw_g (lw_at lw_m6 131 rfl) rfl
theorem q1448 : (Jvm.Cond.privateMethod ({ cls := "HighSpotsModel", name := "hasOpenSum", desc := "(I)Z" } : Jvm.MethodName)) ∈ lw_tbl := lw_at lw_m6 132 rfl
theorem q1449 : (Jvm.Cond.instanceMethod ({ cls := "HighSpotsModel", name := "hasOpenSum", desc := "(I)Z" } : Jvm.MethodName)) ∈ lw_all := lw_g (lw_at lw_m6 133 rfl) rfl
theorem q1450 : (Jvm.Cond.code ({ cls := "HighSpotsModel", name := "hasOpenSum", desc := "(I)Z" } : Jvm.MethodName) prog_19_method_30_code (3 : Nat) (Option.some Jvm.ClassFile.FieldType.boolean)) ∈ lw_all := lw_g (lw_at lw_m6 134 rfl) rfl
theorem q1451 : (Jvm.Cond.methodLink "HighSpotsModel" (213 : Nat) ({ cls := "HighSpotsModel", name := "readsCondition", desc := "()Z" } : Jvm.MethodName)) ∈ lw_all := lw_g (lw_at lw_m6 135 rfl) rfl
theorem q1452 : (Jvm.Cond.privateMethod ({ cls := "HighSpotsModel", name := "readsCondition", desc := "()Z" } : Jvm.MethodName)) ∈ lw_tbl := lw_at lw_m6 136 rfl
theorem q1453 : (Jvm.Cond.instanceMethod ({ cls := "HighSpotsModel", name := "readsCondition", desc := "()Z" } : Jvm.MethodName)) ∈ lw_all := lw_g (lw_at lw_m6 137 rfl) rfl
theorem q1454 : (Jvm.Cond.code ({ cls := "HighSpotsModel", name := "readsCondition", desc := "()Z" } : Jvm.MethodName) prog_19_method_36_code (1 : Nat) (Option.some Jvm.ClassFile.FieldType.boolean)) ∈ lw_all := lw_g (lw_at lw_m6 138 rfl) rfl
theorem q1455 : (Jvm.Cond.methodLink "HighSpotsModel" (201 : Nat) ({ cls := "HighSpotsModel", name := "readsCompared", desc := "()Z" } : Jvm.MethodName)) ∈ lw_all := lw_g (lw_at lw_m6 139 rfl) rfl
theorem q1456 : (Jvm.Cond.privateMethod ({ cls := "HighSpotsModel", name := "readsCompared", desc := "()Z" } : Jvm.MethodName)) ∈ lw_tbl := lw_at lw_m6 140 rfl
theorem q1457 : (Jvm.Cond.instanceMethod ({ cls := "HighSpotsModel", name := "readsCompared", desc := "()Z" } : Jvm.MethodName)) ∈ lw_all := lw_g (lw_at lw_m6 141 rfl) rfl
theorem q1458 : (Jvm.Cond.code ({ cls := "HighSpotsModel", name := "readsCompared", desc := "()Z" } : Jvm.MethodName) prog_19_method_35_code (2 : Nat) (Option.some Jvm.ClassFile.FieldType.boolean)) ∈ lw_all := lw_g (lw_at lw_m6 142 rfl) rfl
theorem q1459 : (Jvm.Cond.methodLink "HighSpotsModel" (198 : Nat) ({ cls := "HighSpotsModel", name := "endsPiece", desc := "()V" } : Jvm.MethodName)) ∈ lw_all := lw_g (lw_at lw_m6 143 rfl) rfl
theorem q1460 : (Jvm.Cond.privateMethod ({ cls := "HighSpotsModel", name := "endsPiece", desc := "()V" } : Jvm.MethodName)) ∈ lw_tbl := lw_at lw_m6 144 rfl
theorem q1461 : (Jvm.Cond.instanceMethod ({ cls := "HighSpotsModel", name := "endsPiece", desc := "()V" } : Jvm.MethodName)) ∈ lw_all := lw_g (lw_at lw_m6 145 rfl) rfl
theorem q1462 : (Jvm.Cond.code ({ cls := "HighSpotsModel", name := "endsPiece", desc := "()V" } : Jvm.MethodName) prog_19_method_32_code (1 : Nat) (Option.none : Option Jvm.ClassFile.FieldType)) ∈ lw_all := lw_g (lw_at lw_m6 146 rfl) rfl
theorem q1463 : (Jvm.Cond.methodLink "HighSpotsModel" (204 : Nat) ({ cls := "HighSpotsModel", name := "lands", desc := "(Z)V" } : Jvm.MethodName)) ∈ lw_all := lw_g (lw_at lw_m6 147 rfl) rfl
theorem q1464 : (Jvm.Cond.privateMethod ({ cls := "HighSpotsModel", name := "lands", desc := "(Z)V" } : Jvm.MethodName)) ∈ lw_tbl := lw_at lw_m6 148 rfl
theorem q1465 : (Jvm.Cond.instanceMethod ({ cls := "HighSpotsModel", name := "lands", desc := "(Z)V" } : Jvm.MethodName)) ∈ lw_all := lw_g (lw_at lw_m6 149 rfl) rfl
theorem q1466 : (Jvm.Cond.code ({ cls := "HighSpotsModel", name := "lands", desc := "(Z)V" } : Jvm.MethodName) prog_19_method_33_code (3 : Nat) (Option.none : Option Jvm.ClassFile.FieldType)) ∈ lw_all := lw_g (lw_at lw_m6 150 rfl) rfl
theorem q1467 : (Jvm.Cond.methodLink "HighSpotsModel" (207 : Nat) ({ cls := "HighSpotsModel", name := "jumps", desc := "(I)V" } : Jvm.MethodName)) ∈ lw_all := lw_g (lw_at lw_m6 151 rfl) rfl
theorem q1468 : (Jvm.Cond.privateMethod ({ cls := "HighSpotsModel", name := "jumps", desc := "(I)V" } : Jvm.MethodName)) ∈ lw_tbl := lw_at lw_m6 152 rfl
theorem q1469 : (Jvm.Cond.instanceMethod ({ cls := "HighSpotsModel", name := "jumps", desc := "(I)V" } : Jvm.MethodName)) ∈ lw_all := lw_g (lw_at lw_m6 153 rfl) rfl
theorem q1470 : (Jvm.Cond.code ({ cls := "HighSpotsModel", name := "jumps", desc := "(I)V" } : Jvm.MethodName) prog_19_method_34_code (2 : Nat) (Option.none : Option Jvm.ClassFile.FieldType)) ∈ lw_all := lw_g (lw_at lw_m6 154 rfl) rfl
theorem q1471 : (Jvm.Cond.methodLink "HighSpotsModel" (222 : Nat) ({ cls := "HighSpotsModel", name := "takes", desc := "(I)Z" } : Jvm.MethodName)) ∈ lw_all := lw_g (lw_at lw_m6 155 rfl) rfl
theorem q1472 : (Jvm.Cond.privateMethod ({ cls := "HighSpotsModel", name := "takes", desc := "(I)Z" } : Jvm.MethodName)) ∈ lw_tbl := lw_at lw_m6 156 rfl
theorem q1473 : (Jvm.Cond.instanceMethod ({ cls := "HighSpotsModel", name := "takes", desc := "(I)Z" } : Jvm.MethodName)) ∈ lw_all := lw_g (lw_at lw_m6 157 rfl) rfl
theorem q1474 : (Jvm.Cond.code ({ cls := "HighSpotsModel", name := "takes", desc := "(I)Z" } : Jvm.MethodName) prog_19_method_21_code (2 : Nat) (Option.some Jvm.ClassFile.FieldType.boolean)) ∈ lw_all := lw_g (lw_at lw_m6 158 rfl) rfl
theorem q1476 : (Jvm.Cond.instanceMethod ({ cls := "HighSpotsModel", name := "casts", desc := "(I)I" } : Jvm.MethodName)) ∈ lw_all := lw_g (lw_at lw_m6 160 rfl) rfl
theorem q1477 : (Jvm.Cond.selects "HighSpotsModel" ({ cls := "HighSpotsModel", name := "casts", desc := "(I)I" } : Jvm.MethodName) ({ cls := "HighSpotsModel", name := "casts", desc := "(I)I" } : Jvm.MethodName)) ∈ lw_all := lw_g (lw_at lw_m6 161 rfl) rfl
theorem q1478 : (Jvm.Cond.code ({ cls := "HighSpotsModel", name := "casts", desc := "(I)I" } : Jvm.MethodName) prog_19_method_46_code (4 : Nat) (Option.some Jvm.ClassFile.FieldType.int)) ∈ lw_all := lw_g (lw_at lw_m6 162 rfl) rfl
theorem q1479 : (Jvm.Cond.methodLink "HighSpotsModel" (260 : Nat) ({ cls := "HighSpotsModel", name := "readsRow", desc := "()Z" } : Jvm.MethodName)) ∈ lw_all := lw_g (lw_at lw_m6 163 rfl) rfl
theorem q1480 : (Jvm.Cond.privateMethod ({ cls := "HighSpotsModel", name := "readsRow", desc := "()Z" } : Jvm.MethodName)) ∈ lw_tbl := lw_at lw_m6 164 rfl
theorem q1481 : (Jvm.Cond.instanceMethod ({ cls := "HighSpotsModel", name := "readsRow", desc := "()Z" } : Jvm.MethodName)) ∈ lw_all := lw_g (lw_at lw_m6 165 rfl) rfl
theorem q1482 : (Jvm.Cond.code ({ cls := "HighSpotsModel", name := "readsRow", desc := "()Z" } : Jvm.MethodName) prog_19_method_45_code (5 : Nat) (Option.some Jvm.ClassFile.FieldType.boolean)) ∈ lw_all := lw_g (lw_at lw_m6 166 rfl) rfl
theorem q1483 : (Jvm.Cond.methodLink "HighSpotsModel" (254 : Nat) ({ cls := "HighSpotsModel", name := "readsHeights", desc := "(I)Z" } : Jvm.MethodName)) ∈ lw_all := lw_g (lw_at lw_m6 167 rfl) rfl
theorem q1484 : (Jvm.Cond.privateMethod ({ cls := "HighSpotsModel", name := "readsHeights", desc := "(I)Z" } : Jvm.MethodName)) ∈ lw_tbl := lw_at lw_m6 168 rfl
theorem q1485 : (Jvm.Cond.instanceMethod ({ cls := "HighSpotsModel", name := "readsHeights", desc := "(I)Z" } : Jvm.MethodName)) ∈ lw_all := lw_g (lw_at lw_m6 169 rfl) rfl
theorem q1486 : (Jvm.Cond.code ({ cls := "HighSpotsModel", name := "readsHeights", desc := "(I)Z" } : Jvm.MethodName) prog_19_method_44_code (5 : Nat) (Option.some Jvm.ClassFile.FieldType.boolean)) ∈ lw_all := lw_g (lw_at lw_m6 170 rfl) rfl
theorem q1488 : (Jvm.Cond.instanceMethod ({ cls := "HighSpotsModel", name := "tour", desc := "(I)I" } : Jvm.MethodName)) ∈ lw_all := lw_g (lw_at lw_m6 172 rfl) rfl
theorem q1489 : (Jvm.Cond.selects "HighSpotsModel" ({ cls := "HighSpotsModel", name := "tour", desc := "(I)I" } : Jvm.MethodName) ({ cls := "HighSpotsModel", name := "tour", desc := "(I)I" } : Jvm.MethodName)) ∈ lw_all := lw_g (lw_at lw_m6 173 rfl) rfl
theorem q1490 : (Jvm.Cond.code ({ cls := "HighSpotsModel", name := "tour", desc := "(I)I" } : Jvm.MethodName) prog_19_method_52_code (4 : Nat) (Option.some Jvm.ClassFile.FieldType.int)) ∈ lw_all := lw_g (lw_at lw_m6 174 rfl) rfl
theorem q1491 : (Jvm.Cond.methodLink "HighSpotsModel" (281 : Nat) ({ cls := "HighSpotsModel", name := "readsStep", desc := "()Z" } : Jvm.MethodName)) ∈ lw_all := lw_g (lw_at lw_m6 175 rfl) rfl
theorem q1492 : (Jvm.Cond.privateMethod ({ cls := "HighSpotsModel", name := "readsStep", desc := "()Z" } : Jvm.MethodName)) ∈ lw_tbl := lw_at lw_m6 176 rfl
theorem q1493 : (Jvm.Cond.instanceMethod ({ cls := "HighSpotsModel", name := "readsStep", desc := "()Z" } : Jvm.MethodName)) ∈ lw_all := lw_g (lw_at lw_m6 177 rfl) rfl
theorem q1494 : (Jvm.Cond.code ({ cls := "HighSpotsModel", name := "readsStep", desc := "()Z" } : Jvm.MethodName) prog_19_method_51_code (3 : Nat) (Option.some Jvm.ClassFile.FieldType.boolean)) ∈ lw_all := lw_g (lw_at lw_m6 178 rfl) rfl
theorem q1495 : (Jvm.Cond.methodLink "HighSpotsModel" (269 : Nat) ({ cls := "HighSpotsModel", name := "endsGroup", desc := "()Z" } : Jvm.MethodName)) ∈ lw_all := lw_g (lw_at lw_m6 179 rfl) rfl
theorem q1496 : (Jvm.Cond.privateMethod ({ cls := "HighSpotsModel", name := "endsGroup", desc := "()Z" } : Jvm.MethodName)) ∈ lw_tbl := lw_at lw_m6 180 rfl
theorem q1497 : (Jvm.Cond.instanceMethod ({ cls := "HighSpotsModel", name := "endsGroup", desc := "()Z" } : Jvm.MethodName)) ∈ lw_all := lw_g (lw_at lw_m6 181 rfl) rfl
theorem q1498 : (Jvm.Cond.code ({ cls := "HighSpotsModel", name := "endsGroup", desc := "()Z" } : Jvm.MethodName) prog_19_method_50_code (4 : Nat) (Option.some Jvm.ClassFile.FieldType.boolean)) ∈ lw_all := lw_g (lw_at lw_m6 182 rfl) rfl
theorem q1499 : (Jvm.Cond.methodLink "HighSpotsModel" (272 : Nat) ({ cls := "HighSpotsModel", name := "isStep", desc := "(I)Z" } : Jvm.MethodName)) ∈ lw_all := lw_g (lw_at lw_m6 183 rfl) rfl
theorem q1500 : (Jvm.Cond.static ({ cls := "HighSpotsModel", name := "isStep", desc := "(I)Z" } : Jvm.MethodName)) ∈ lw_all := lw_g (lw_at lw_m6 184 rfl) rfl
theorem q1501 : (Jvm.Cond.code ({ cls := "HighSpotsModel", name := "isStep", desc := "(I)Z" } : Jvm.MethodName) prog_19_method_47_code (1 : Nat) (Option.some Jvm.ClassFile.FieldType.boolean)) ∈ lw_all := lw_g (lw_at lw_m6 185 rfl) rfl
theorem q1502 : (Jvm.Cond.methodLink "HighSpotsModel" (275 : Nat) ({ cls := "HighSpotsModel", name := "laysSteps", desc := "(III)Z" } : Jvm.MethodName)) ∈ lw_all := lw_g (lw_at lw_m6 186 rfl) rfl
theorem q1503 : (Jvm.Cond.privateMethod ({ cls := "HighSpotsModel", name := "laysSteps", desc := "(III)Z" } : Jvm.MethodName)) ∈ lw_tbl := lw_at lw_m6 187 rfl
theorem q1504 : (Jvm.Cond.instanceMethod ({ cls := "HighSpotsModel", name := "laysSteps", desc := "(III)Z" } : Jvm.MethodName)) ∈ lw_all := lw_g (lw_at lw_m6 188 rfl) rfl
theorem q1505 : (Jvm.Cond.code ({ cls := "HighSpotsModel", name := "laysSteps", desc := "(III)Z" } : Jvm.MethodName) prog_19_method_48_code (5 : Nat) (Option.some Jvm.ClassFile.FieldType.boolean)) ∈ lw_all := lw_g (lw_at lw_m6 189 rfl) rfl
theorem q1506 : (Jvm.Cond.methodLink "HighSpotsModel" (278 : Nat) ({ cls := "HighSpotsModel", name := "opensGroup", desc := "(II)Z" } : Jvm.MethodName)) ∈ lw_all := lw_g (lw_at lw_m6 190 rfl) rfl
theorem q1507 : (Jvm.Cond.privateMethod ({ cls := "HighSpotsModel", name := "opensGroup", desc := "(II)Z" } : Jvm.MethodName)) ∈ lw_tbl := lw_at lw_m6 191 rfl
theorem q1508 : (Jvm.Cond.instanceMethod ({ cls := "HighSpotsModel", name := "opensGroup", desc := "(II)Z" } : Jvm.MethodName)) ∈ lw_all := lw_g (lw_at lw_m6 192 rfl) rfl
theorem q1509 : (Jvm.Cond.code ({ cls := "HighSpotsModel", name := "opensGroup", desc := "(II)Z" } : Jvm.MethodName) prog_19_method_49_code (3 : Nat) (Option.some Jvm.ClassFile.FieldType.boolean)) ∈ lw_all := lw_g (lw_at lw_m6 193 rfl) rfl
theorem q1511 : (Jvm.Cond.instanceMethod ({ cls := "HighSpotsModel", name := "glide", desc := "(IIII)I" } : Jvm.MethodName)) ∈ lw_all := lw_g (lw_at lw_m6 195 rfl) rfl
theorem q1512 : (Jvm.Cond.selects "HighSpotsModel" ({ cls := "HighSpotsModel", name := "glide", desc := "(IIII)I" } : Jvm.MethodName) ({ cls := "HighSpotsModel", name := "glide", desc := "(IIII)I" } : Jvm.MethodName)) ∈ lw_all := lw_g (lw_at lw_m6 196 rfl) rfl
theorem q1513 : (Jvm.Cond.code ({ cls := "HighSpotsModel", name := "glide", desc := "(IIII)I" } : Jvm.MethodName) prog_19_method_62_code (5 : Nat) (Option.some Jvm.ClassFile.FieldType.int)) ∈ lw_all := lw_g (lw_at lw_m6 197 rfl) rfl
theorem q1514 : (Jvm.Cond.methodLink "HighSpotsModel" (303 : Nat) ({ cls := "HighSpotsModel", name := "isGlide", desc := "(II)Z" } : Jvm.MethodName)) ∈ lw_all := lw_g (lw_at lw_m6 198 rfl) rfl
theorem q1515 : (Jvm.Cond.static ({ cls := "HighSpotsModel", name := "isGlide", desc := "(II)Z" } : Jvm.MethodName)) ∈ lw_all := lw_g (lw_at lw_m6 199 rfl) rfl
theorem q1516 : (Jvm.Cond.code ({ cls := "HighSpotsModel", name := "isGlide", desc := "(II)Z" } : Jvm.MethodName) prog_19_method_7_code (2 : Nat) (Option.some Jvm.ClassFile.FieldType.boolean)) ∈ lw_all := lw_g (lw_at lw_m6 200 rfl) rfl
theorem q1517 : (Jvm.Cond.methodLink "HighSpotsModel" (306 : Nat) ({ cls := "HighSpotsModel", name := "isSum", desc := "(I)Z" } : Jvm.MethodName)) ∈ lw_all := lw_g (lw_at lw_m6 201 rfl) rfl
theorem q1518 : (Jvm.Cond.static ({ cls := "HighSpotsModel", name := "isSum", desc := "(I)Z" } : Jvm.MethodName)) ∈ lw_all := lw_g (lw_at lw_m6 202 rfl) rfl
theorem q1519 : (Jvm.Cond.code ({ cls := "HighSpotsModel", name := "isSum", desc := "(I)Z" } : Jvm.MethodName) prog_19_method_8_code (1 : Nat) (Option.some Jvm.ClassFile.FieldType.boolean)) ∈ lw_all := lw_g (lw_at lw_m6 203 rfl) rfl
theorem q1520 : (Jvm.Cond.methodLink "HighSpotsModel" (299 : Nat) ({ cls := "HighSpotsModel", name := "opening", desc := "(II)I" } : Jvm.MethodName)) ∈ lw_all := lw_g (lw_at lw_m6 204 rfl) rfl
theorem q1521 : (Jvm.Cond.privateMethod ({ cls := "HighSpotsModel", name := "opening", desc := "(II)I" } : Jvm.MethodName)) ∈ lw_tbl := lw_at lw_m6 205 rfl
theorem q1522 : (Jvm.Cond.instanceMethod ({ cls := "HighSpotsModel", name := "opening", desc := "(II)I" } : Jvm.MethodName)) ∈ lw_all := lw_g (lw_at lw_m6 206 rfl) rfl
theorem q1523 : (Jvm.Cond.code ({ cls := "HighSpotsModel", name := "opening", desc := "(II)I" } : Jvm.MethodName) prog_19_method_56_code (5 : Nat) (Option.some Jvm.ClassFile.FieldType.int)) ∈ lw_all := lw_g (lw_at lw_m6 207 rfl) rfl
theorem q1524 : (Jvm.Cond.methodLink "HighSpotsModel" (296 : Nat) ({ cls := "HighSpotsModel", name := "sumAt", desc := "(III)I" } : Jvm.MethodName)) ∈ lw_all := lw_g (lw_at lw_m6 208 rfl) rfl
theorem q1525 : (Jvm.Cond.privateMethod ({ cls := "HighSpotsModel", name := "sumAt", desc := "(III)I" } : Jvm.MethodName)) ∈ lw_tbl := lw_at lw_m6 209 rfl
theorem q1526 : (Jvm.Cond.instanceMethod ({ cls := "HighSpotsModel", name := "sumAt", desc := "(III)I" } : Jvm.MethodName)) ∈ lw_all := lw_g (lw_at lw_m6 210 rfl) rfl
theorem q1527 : (Jvm.Cond.code ({ cls := "HighSpotsModel", name := "sumAt", desc := "(III)I" } : Jvm.MethodName) prog_19_method_55_code (5 : Nat) (Option.some Jvm.ClassFile.FieldType.int)) ∈ lw_all := lw_g (lw_at lw_m6 211 rfl) rfl
theorem q1528 : (Jvm.Cond.methodLink "HighSpotsModel" (287 : Nat) ({ cls := "HighSpotsModel", name := "against", desc := "(III)I" } : Jvm.MethodName)) ∈ lw_all := lw_g (lw_at lw_m6 212 rfl) rfl
theorem q1529 : (Jvm.Cond.static ({ cls := "HighSpotsModel", name := "against", desc := "(III)I" } : Jvm.MethodName)) ∈ lw_all := lw_g (lw_at lw_m6 213 rfl) rfl
theorem q1530 : (Jvm.Cond.code ({ cls := "HighSpotsModel", name := "against", desc := "(III)I" } : Jvm.MethodName) prog_19_method_54_code (5 : Nat) (Option.some Jvm.ClassFile.FieldType.int)) ∈ lw_all := lw_g (lw_at lw_m6 214 rfl) rfl
theorem q1531 : (Jvm.Cond.methodLink "HighSpotsModel" (290 : Nat) ({ cls := "HighSpotsModel", name := "upperAt", desc := "(I)I" } : Jvm.MethodName)) ∈ lw_all := lw_g (lw_at lw_m6 215 rfl) rfl
theorem q1532 : (Jvm.Cond.privateMethod ({ cls := "HighSpotsModel", name := "upperAt", desc := "(I)I" } : Jvm.MethodName)) ∈ lw_tbl := lw_at lw_m6 216 rfl
theorem q1533 : (Jvm.Cond.instanceMethod ({ cls := "HighSpotsModel", name := "upperAt", desc := "(I)I" } : Jvm.MethodName)) ∈ lw_all := lw_g (lw_at lw_m6 217 rfl) rfl
theorem q1534 : (Jvm.Cond.code ({ cls := "HighSpotsModel", name := "upperAt", desc := "(I)I" } : Jvm.MethodName) prog_19_method_14_code (2 : Nat) (Option.some Jvm.ClassFile.FieldType.int)) ∈ lw_all := lw_g (lw_at lw_m6 218 rfl) rfl
theorem q1535 : (Jvm.Cond.methodLink "HighSpotsModel" (293 : Nat) ({ cls := "HighSpotsModel", name := "lowerAt", desc := "(I)I" } : Jvm.MethodName)) ∈ lw_all := lw_g (lw_at lw_m6 219 rfl) rfl
theorem q1536 : (Jvm.Cond.privateMethod ({ cls := "HighSpotsModel", name := "lowerAt", desc := "(I)I" } : Jvm.MethodName)) ∈ lw_tbl := lw_at lw_m6 220 rfl
theorem q1537 : (Jvm.Cond.instanceMethod ({ cls := "HighSpotsModel", name := "lowerAt", desc := "(I)I" } : Jvm.MethodName)) ∈ lw_all := lw_g (lw_at lw_m6 221 rfl) rfl
theorem q1538 : (Jvm.Cond.code ({ cls := "HighSpotsModel", name := "lowerAt", desc := "(I)I" } : Jvm.MethodName) prog_19_method_13_code (2 : Nat) (Option.some Jvm.ClassFile.FieldType.int)) ∈ lw_all := lw_g (lw_at lw_m6 222 rfl) rfl
theorem q1539 : (Jvm.Cond.methodLink "HighSpotsModel" (242 : Nat) ({ cls := "HighSpotsModel", name := "max", desc := "(II)I" } : Jvm.MethodName)) ∈ lw_all := lw_g (lw_at lw_m6 223 rfl) rfl
theorem q1540 : (Jvm.Cond.static ({ cls := "HighSpotsModel", name := "max", desc := "(II)I" } : Jvm.MethodName)) ∈ lw_all := lw_g (lw_at lw_m6 224 rfl) rfl
theorem q1541 : (Jvm.Cond.code ({ cls := "HighSpotsModel", name := "max", desc := "(II)I" } : Jvm.MethodName) prog_19_method_4_code (2 : Nat) (Option.some Jvm.ClassFile.FieldType.int)) ∈ lw_all := lw_g (lw_at lw_m6 225 rfl) rfl
theorem q1542 : (Jvm.Cond.methodLink "HighSpotsModel" (309 : Nat) ({ cls := "HighSpotsModel", name := "marks", desc := "(III)I" } : Jvm.MethodName)) ∈ lw_all := lw_g (lw_at lw_m6 226 rfl) rfl
theorem q1543 : (Jvm.Cond.privateMethod ({ cls := "HighSpotsModel", name := "marks", desc := "(III)I" } : Jvm.MethodName)) ∈ lw_tbl := lw_at lw_m6 227 rfl
theorem q1544 : (Jvm.Cond.instanceMethod ({ cls := "HighSpotsModel", name := "marks", desc := "(III)I" } : Jvm.MethodName)) ∈ lw_all := lw_g (lw_at lw_m6 228 rfl) rfl
theorem q1545 : (Jvm.Cond.code ({ cls := "HighSpotsModel", name := "marks", desc := "(III)I" } : Jvm.MethodName) prog_19_method_58_code (7 : Nat) (Option.some Jvm.ClassFile.FieldType.int)) ∈ lw_all := lw_g (lw_at lw_m6 229 rfl) rfl
theorem q1546 : (Jvm.Cond.methodLink "HighSpotsModel" (312 : Nat) ({ cls := "HighSpotsModel", name := "firstMarked", desc := "()I" } : Jvm.MethodName)) ∈ lw_all := lw_g (lw_at lw_m6 230 rfl) rfl
theorem q1547 : (Jvm.Cond.privateMethod ({ cls := "HighSpotsModel", name := "firstMarked", desc := "()I" } : Jvm.MethodName)) ∈ lw_tbl := lw_at lw_m6 231 rfl
theorem q1548 : (Jvm.Cond.instanceMethod ({ cls := "HighSpotsModel", name := "firstMarked", desc := "()I" } : Jvm.MethodName)) ∈ lw_all := lw_g (lw_at lw_m6 232 rfl) rfl
theorem q1549 : (Jvm.Cond.code ({ cls := "HighSpotsModel", name := "firstMarked", desc := "()I" } : Jvm.MethodName) prog_19_method_60_code (2 : Nat) (Option.some Jvm.ClassFile.FieldType.int)) ∈ lw_all := lw_g (lw_at lw_m6 233 rfl) rfl
theorem q1550 : (Jvm.Cond.methodLink "HighSpotsModel" (315 : Nat) ({ cls := "HighSpotsModel", name := "facing", desc := "(II)I" } : Jvm.MethodName)) ∈ lw_all := lw_g (lw_at lw_m6 234 rfl) rfl
theorem q1551 : (Jvm.Cond.static ({ cls := "HighSpotsModel", name := "facing", desc := "(II)I" } : Jvm.MethodName)) ∈ lw_all := lw_g (lw_at lw_m6 235 rfl) rfl
theorem q1552 : (Jvm.Cond.code ({ cls := "HighSpotsModel", name := "facing", desc := "(II)I" } : Jvm.MethodName) prog_19_method_59_code (4 : Nat) (Option.some Jvm.ClassFile.FieldType.int)) ∈ lw_all := lw_g (lw_at lw_m6 236 rfl) rfl
theorem q1553 : (Jvm.Cond.methodLink "HighSpotsModel" (318 : Nat) ({ cls := "HighSpotsModel", name := "greatestGap", desc := "(II)I" } : Jvm.MethodName)) ∈ lw_all := lw_g (lw_at lw_m6 237 rfl) rfl
theorem q1554 : (Jvm.Cond.privateMethod ({ cls := "HighSpotsModel", name := "greatestGap", desc := "(II)I" } : Jvm.MethodName)) ∈ lw_tbl := lw_at lw_m6 238 rfl
theorem q1555 : (Jvm.Cond.instanceMethod ({ cls := "HighSpotsModel", name := "greatestGap", desc := "(II)I" } : Jvm.MethodName)) ∈ lw_all := lw_g (lw_at lw_m6 239 rfl) rfl
theorem q1556 : (Jvm.Cond.code ({ cls := "HighSpotsModel", name := "greatestGap", desc := "(II)I" } : Jvm.MethodName) prog_19_method_61_code (5 : Nat) (Option.some Jvm.ClassFile.FieldType.int)) ∈ lw_all := lw_g (lw_at lw_m7 0 rfl) rfl
theorem q1557 : (Jvm.Cond.constant "HighSpotsModel" (302 : Nat) (1000000 : Int32)) ∈ lw_all := lw_g (lw_at lw_m7 1 rfl) rfl
theorem q1558 : (Jvm.Cond.methodLink "HighSpotsModel" (239 : Nat) ({ cls := "HighSpotsModel", name := "min", desc := "(II)I" } : Jvm.MethodName)) ∈ lw_all := lw_g (lw_at lw_m7 2 rfl) rfl
theorem q1559 : (Jvm.Cond.static ({ cls := "HighSpotsModel", name := "min", desc := "(II)I" } : Jvm.MethodName)) ∈ lw_all := lw_g (lw_at lw_m7 3 rfl) rfl
theorem q1560 : (Jvm.Cond.code ({ cls := "HighSpotsModel", name := "min", desc := "(II)I" } : Jvm.MethodName) prog_19_method_3_code (2 : Nat) (Option.some Jvm.ClassFile.FieldType.int)) ∈ lw_all := lw_g (lw_at lw_m7 4 rfl) rfl
theorem q1562 : (Jvm.Cond.instanceMethod ({ cls := "HighSpotsModel", name := "best", desc := "(I)I" } : Jvm.MethodName)) ∈ lw_all := lw_g (lw_at lw_m7 6 rfl) rfl
theorem q1563 : (Jvm.Cond.selects "HighSpotsModel" ({ cls := "HighSpotsModel", name := "best", desc := "(I)I" } : Jvm.MethodName) ({ cls := "HighSpotsModel", name := "best", desc := "(I)I" } : Jvm.MethodName)) ∈ lw_all := lw_g (lw_at lw_m7 7 rfl) rfl
theorem q1564 : (Jvm.Cond.code ({ cls := "HighSpotsModel", name := "best", desc := "(I)I" } : Jvm.MethodName) prog_19_method_63_code (9 : Nat) (Option.some Jvm.ClassFile.FieldType.int)) ∈ lw_all := lw_g (lw_at lw_m7 8 rfl) rfl
theorem q1565 : (Jvm.Cond.methodLink "HighSpotsModel" (321 : Nat) ({ cls := "HighSpotsModel", name := "openingOf", desc := "(I)I" } : Jvm.MethodName)) ∈ lw_all := lw_g (lw_at lw_m7 9 rfl) rfl
theorem q1566 : (Jvm.Cond.privateMethod ({ cls := "HighSpotsModel", name := "openingOf", desc := "(I)I" } : Jvm.MethodName)) ∈ lw_tbl := lw_at lw_m7 10 rfl
theorem q1567 : (Jvm.Cond.instanceMethod ({ cls := "HighSpotsModel", name := "openingOf", desc := "(I)I" } : Jvm.MethodName)) ∈ lw_all := lw_g (lw_at lw_m7 11 rfl) rfl
theorem q1568 : (Jvm.Cond.code ({ cls := "HighSpotsModel", name := "openingOf", desc := "(I)I" } : Jvm.MethodName) prog_19_method_57_code (2 : Nat) (Option.some Jvm.ClassFile.FieldType.int)) ∈ lw_all := lw_g (lw_at lw_m7 12 rfl) rfl
theorem q1570 : (Jvm.Cond.instanceMethod ({ cls := "HighSpotsModel", name := "evenest", desc := "(I)I" } : Jvm.MethodName)) ∈ lw_all := lw_g (lw_at lw_m7 14 rfl) rfl
theorem q1571 : (Jvm.Cond.selects "HighSpotsModel" ({ cls := "HighSpotsModel", name := "evenest", desc := "(I)I" } : Jvm.MethodName) ({ cls := "HighSpotsModel", name := "evenest", desc := "(I)I" } : Jvm.MethodName)) ∈ lw_all := lw_g (lw_at lw_m7 15 rfl) rfl
theorem q1572 : (Jvm.Cond.code ({ cls := "HighSpotsModel", name := "evenest", desc := "(I)I" } : Jvm.MethodName) prog_19_method_65_code (6 : Nat) (Option.some Jvm.ClassFile.FieldType.int)) ∈ lw_all := lw_g (lw_at lw_m7 16 rfl) rfl
theorem q1573 : (Jvm.Cond.methodLink "HighSpotsModel" (324 : Nat) ({ cls := "HighSpotsModel", name := "gapsOf", desc := "(I)I" } : Jvm.MethodName)) ∈ lw_all := lw_g (lw_at lw_m7 17 rfl) rfl
theorem q1574 : (Jvm.Cond.privateMethod ({ cls := "HighSpotsModel", name := "gapsOf", desc := "(I)I" } : Jvm.MethodName)) ∈ lw_tbl := lw_at lw_m7 18 rfl
theorem q1575 : (Jvm.Cond.instanceMethod ({ cls := "HighSpotsModel", name := "gapsOf", desc := "(I)I" } : Jvm.MethodName)) ∈ lw_all := lw_g (lw_at lw_m7 19 rfl) rfl
theorem q1576 : (Jvm.Cond.code ({ cls := "HighSpotsModel", name := "gapsOf", desc := "(I)I" } : Jvm.MethodName) prog_19_method_64_code (6 : Nat) (Option.some Jvm.ClassFile.FieldType.int)) ∈ lw_all := lw_g (lw_at lw_m7 20 rfl) rfl
theorem q1578 : (Jvm.Cond.instanceMethod ({ cls := "HighSpotsModel", name := "free", desc := "(I)I" } : Jvm.MethodName)) ∈ lw_all := lw_g (lw_at lw_m7 22 rfl) rfl
theorem q1579 : (Jvm.Cond.selects "HighSpotsModel" ({ cls := "HighSpotsModel", name := "free", desc := "(I)I" } : Jvm.MethodName) ({ cls := "HighSpotsModel", name := "free", desc := "(I)I" } : Jvm.MethodName)) ∈ lw_all := lw_g (lw_at lw_m7 23 rfl) rfl
theorem q1580 : (Jvm.Cond.code ({ cls := "HighSpotsModel", name := "free", desc := "(I)I" } : Jvm.MethodName) prog_19_method_69_code (2 : Nat) (Option.some Jvm.ClassFile.FieldType.int)) ∈ lw_all := lw_g (lw_at lw_m7 24 rfl) rfl
theorem q1581 : (Jvm.Cond.methodLink "HighSpotsModel" (336 : Nat) ({ cls := "HighSpotsModel", name := "rounds", desc := "(II)I" } : Jvm.MethodName)) ∈ lw_all := lw_g (lw_at lw_m7 25 rfl) rfl
theorem q1582 : (Jvm.Cond.privateMethod ({ cls := "HighSpotsModel", name := "rounds", desc := "(II)I" } : Jvm.MethodName)) ∈ lw_tbl := lw_at lw_m7 26 rfl
theorem q1583 : (Jvm.Cond.instanceMethod ({ cls := "HighSpotsModel", name := "rounds", desc := "(II)I" } : Jvm.MethodName)) ∈ lw_all := lw_g (lw_at lw_m7 27 rfl) rfl
theorem q1584 : (Jvm.Cond.code ({ cls := "HighSpotsModel", name := "rounds", desc := "(II)I" } : Jvm.MethodName) prog_19_method_68_code (9 : Nat) (Option.some Jvm.ClassFile.FieldType.int)) ∈ lw_all := lw_g (lw_at lw_m7 28 rfl) rfl
theorem q1585 : (Jvm.Cond.methodLink "HighSpotsModel" (327 : Nat) ({ cls := "HighSpotsModel", name := "laysOpenings", desc := "()V" } : Jvm.MethodName)) ∈ lw_all := lw_g (lw_at lw_m7 29 rfl) rfl
theorem q1586 : (Jvm.Cond.privateMethod ({ cls := "HighSpotsModel", name := "laysOpenings", desc := "()V" } : Jvm.MethodName)) ∈ lw_tbl := lw_at lw_m7 30 rfl
theorem q1587 : (Jvm.Cond.instanceMethod ({ cls := "HighSpotsModel", name := "laysOpenings", desc := "()V" } : Jvm.MethodName)) ∈ lw_all := lw_g (lw_at lw_m7 31 rfl) rfl
theorem q1588 : (Jvm.Cond.code ({ cls := "HighSpotsModel", name := "laysOpenings", desc := "()V" } : Jvm.MethodName) prog_19_method_66_code (2 : Nat) (Option.none : Option Jvm.ClassFile.FieldType)) ∈ lw_all := lw_g (lw_at lw_m7 32 rfl) rfl
theorem q1589 : (Jvm.Cond.methodLink "HighSpotsModel" (330 : Nat) ({ cls := "HighSpotsModel", name := "glideOf", desc := "(II)I" } : Jvm.MethodName)) ∈ lw_all := lw_g (lw_at lw_m7 33 rfl) rfl
theorem q1590 : (Jvm.Cond.static ({ cls := "HighSpotsModel", name := "glideOf", desc := "(II)I" } : Jvm.MethodName)) ∈ lw_all := lw_g (lw_at lw_m7 34 rfl) rfl
theorem q1591 : (Jvm.Cond.code ({ cls := "HighSpotsModel", name := "glideOf", desc := "(II)I" } : Jvm.MethodName) prog_19_method_53_code (2 : Nat) (Option.some Jvm.ClassFile.FieldType.int)) ∈ lw_all := lw_g (lw_at lw_m7 35 rfl) rfl
theorem q1592 : (Jvm.Cond.methodLink "HighSpotsModel" (333 : Nat) ({ cls := "HighSpotsModel", name := "isNext", desc := "(II)Z" } : Jvm.MethodName)) ∈ lw_all := lw_g (lw_at lw_m7 36 rfl) rfl
theorem q1593 : (Jvm.Cond.static ({ cls := "HighSpotsModel", name := "isNext", desc := "(II)Z" } : Jvm.MethodName)) ∈ lw_all := lw_g (lw_at lw_m7 37 rfl) rfl
theorem q1594 : (Jvm.Cond.code ({ cls := "HighSpotsModel", name := "isNext", desc := "(II)Z" } : Jvm.MethodName) prog_19_method_67_code (4 : Nat) (Option.some Jvm.ClassFile.FieldType.boolean)) ∈ lw_all := lw_g (lw_at lw_m7 38 rfl) rfl
theorem q1596 : (Jvm.Cond.instanceMethod ({ cls := "HighSpotsModel", name := "wayTo", desc := "(IIII)I" } : Jvm.MethodName)) ∈ lw_all := lw_g (lw_at lw_m7 40 rfl) rfl
theorem q1597 : (Jvm.Cond.selects "HighSpotsModel" ({ cls := "HighSpotsModel", name := "wayTo", desc := "(IIII)I" } : Jvm.MethodName) ({ cls := "HighSpotsModel", name := "wayTo", desc := "(IIII)I" } : Jvm.MethodName)) ∈ lw_all := lw_g (lw_at lw_m7 41 rfl) rfl
theorem q1598 : (Jvm.Cond.code ({ cls := "HighSpotsModel", name := "wayTo", desc := "(IIII)I" } : Jvm.MethodName) prog_19_method_71_code (6 : Nat) (Option.some Jvm.ClassFile.FieldType.int)) ∈ lw_all := lw_g (lw_at lw_m7 42 rfl) rfl
theorem q1599 : (Jvm.Cond.methodLink "HighSpotsModel" (339 : Nat) ({ cls := "HighSpotsModel", name := "freest", desc := "(I)I" } : Jvm.MethodName)) ∈ lw_all := lw_g (lw_at lw_m7 43 rfl) rfl
theorem q1600 : (Jvm.Cond.privateMethod ({ cls := "HighSpotsModel", name := "freest", desc := "(I)I" } : Jvm.MethodName)) ∈ lw_tbl := lw_at lw_m7 44 rfl
theorem q1601 : (Jvm.Cond.instanceMethod ({ cls := "HighSpotsModel", name := "freest", desc := "(I)I" } : Jvm.MethodName)) ∈ lw_all := lw_g (lw_at lw_m7 45 rfl) rfl
theorem q1602 : (Jvm.Cond.code ({ cls := "HighSpotsModel", name := "freest", desc := "(I)I" } : Jvm.MethodName) prog_19_method_70_code (3 : Nat) (Option.some Jvm.ClassFile.FieldType.int)) ∈ lw_all := lw_g (lw_at lw_m7 46 rfl) rfl
theorem q1604 : (Jvm.Cond.instanceMethod ({ cls := "HighSpotsModel", name := "toBear", desc := "(I)I" } : Jvm.MethodName)) ∈ lw_all := lw_g (lw_at lw_m7 48 rfl) rfl
theorem q1605 : (Jvm.Cond.selects "HighSpotsModel" ({ cls := "HighSpotsModel", name := "toBear", desc := "(I)I" } : Jvm.MethodName) ({ cls := "HighSpotsModel", name := "toBear", desc := "(I)I" } : Jvm.MethodName)) ∈ lw_all := lw_g (lw_at lw_m7 49 rfl) rfl
theorem q1606 : (Jvm.Cond.code ({ cls := "HighSpotsModel", name := "toBear", desc := "(I)I" } : Jvm.MethodName) prog_19_method_74_code (5 : Nat) (Option.some Jvm.ClassFile.FieldType.int)) ∈ lw_all := lw_g (lw_at lw_m7 50 rfl) rfl
theorem q1607 : (Jvm.Cond.methodLink "HighSpotsModel" (345 : Nat) ({ cls := "HighSpotsModel", name := "octet", desc := "(I)I" } : Jvm.MethodName)) ∈ lw_all := lw_g (lw_at lw_m7 51 rfl) rfl
theorem q1608 : (Jvm.Cond.privateMethod ({ cls := "HighSpotsModel", name := "octet", desc := "(I)I" } : Jvm.MethodName)) ∈ lw_tbl := lw_at lw_m7 52 rfl
theorem q1609 : (Jvm.Cond.instanceMethod ({ cls := "HighSpotsModel", name := "octet", desc := "(I)I" } : Jvm.MethodName)) ∈ lw_all := lw_g (lw_at lw_m7 53 rfl) rfl
theorem q1610 : (Jvm.Cond.code ({ cls := "HighSpotsModel", name := "octet", desc := "(I)I" } : Jvm.MethodName) prog_19_method_17_code (2 : Nat) (Option.some Jvm.ClassFile.FieldType.int)) ∈ lw_all := lw_g (lw_at lw_m7 54 rfl) rfl
theorem q1611 : (Jvm.Cond.methodLink "HighSpotsModel" (342 : Nat) ({ cls := "HighSpotsModel", name := "restAt", desc := "(I)I" } : Jvm.MethodName)) ∈ lw_all := lw_g (lw_at lw_m7 55 rfl) rfl
theorem q1612 : (Jvm.Cond.privateMethod ({ cls := "HighSpotsModel", name := "restAt", desc := "(I)I" } : Jvm.MethodName)) ∈ lw_tbl := lw_at lw_m7 56 rfl
theorem q1613 : (Jvm.Cond.instanceMethod ({ cls := "HighSpotsModel", name := "restAt", desc := "(I)I" } : Jvm.MethodName)) ∈ lw_all := lw_g (lw_at lw_m7 57 rfl) rfl
theorem q1614 : (Jvm.Cond.code ({ cls := "HighSpotsModel", name := "restAt", desc := "(I)I" } : Jvm.MethodName) prog_19_method_72_code (2 : Nat) (Option.some Jvm.ClassFile.FieldType.int)) ∈ lw_all := lw_g (lw_at lw_m7 58 rfl) rfl
theorem q1615 : (Jvm.Cond.methodLink "HighSpotsModel" (348 : Nat) ({ cls := "HighSpotsModel", name := "strokesTo", desc := "(I)I" } : Jvm.MethodName)) ∈ lw_all := lw_g (lw_at lw_m7 59 rfl) rfl
theorem q1616 : (Jvm.Cond.privateMethod ({ cls := "HighSpotsModel", name := "strokesTo", desc := "(I)I" } : Jvm.MethodName)) ∈ lw_tbl := lw_at lw_m7 60 rfl
theorem q1617 : (Jvm.Cond.instanceMethod ({ cls := "HighSpotsModel", name := "strokesTo", desc := "(I)I" } : Jvm.MethodName)) ∈ lw_all := lw_g (lw_at lw_m7 61 rfl) rfl
theorem q1618 : (Jvm.Cond.code ({ cls := "HighSpotsModel", name := "strokesTo", desc := "(I)I" } : Jvm.MethodName) prog_19_method_73_code (5 : Nat) (Option.some Jvm.ClassFile.FieldType.int)) ∈ lw_all := lw_g (lw_at lw_m7 62 rfl) rfl
theorem q1620 : (Jvm.Cond.instanceMethod ({ cls := "HighSpotsModel", name := "toLower", desc := "(I)I" } : Jvm.MethodName)) ∈ lw_all := lw_g (lw_at lw_m7 64 rfl) rfl
theorem q1621 : (Jvm.Cond.selects "HighSpotsModel" ({ cls := "HighSpotsModel", name := "toLower", desc := "(I)I" } : Jvm.MethodName) ({ cls := "HighSpotsModel", name := "toLower", desc := "(I)I" } : Jvm.MethodName)) ∈ lw_all := lw_g (lw_at lw_m7 65 rfl) rfl
theorem q1622 : (Jvm.Cond.code ({ cls := "HighSpotsModel", name := "toLower", desc := "(I)I" } : Jvm.MethodName) prog_19_method_75_code (2 : Nat) (Option.some Jvm.ClassFile.FieldType.int)) ∈ lw_all := lw_g (lw_at lw_m7 66 rfl) rfl
theorem q1624 : (Jvm.Cond.instanceMethod ({ cls := "HighSpotsModel", name := "anywhere", desc := "(I)I" } : Jvm.MethodName)) ∈ lw_all := lw_g (lw_at lw_m7 68 rfl) rfl
theorem q1625 : (Jvm.Cond.selects "HighSpotsModel" ({ cls := "HighSpotsModel", name := "anywhere", desc := "(I)I" } : Jvm.MethodName) ({ cls := "HighSpotsModel", name := "anywhere", desc := "(I)I" } : Jvm.MethodName)) ∈ lw_all := lw_g (lw_at lw_m7 69 rfl) rfl
theorem q1626 : (Jvm.Cond.code ({ cls := "HighSpotsModel", name := "anywhere", desc := "(I)I" } : Jvm.MethodName) prog_19_method_77_code (4 : Nat) (Option.some Jvm.ClassFile.FieldType.int)) ∈ lw_all := lw_g (lw_at lw_m7 70 rfl) rfl
theorem q1627 : (Jvm.Cond.methodLink "HighSpotsModel" (351 : Nat) ({ cls := "HighSpotsModel", name := "above", desc := "(II)I" } : Jvm.MethodName)) ∈ lw_all := lw_g (lw_at lw_m7 71 rfl) rfl
theorem q1628 : (Jvm.Cond.privateMethod ({ cls := "HighSpotsModel", name := "above", desc := "(II)I" } : Jvm.MethodName)) ∈ lw_tbl := lw_at lw_m7 72 rfl
theorem q1629 : (Jvm.Cond.instanceMethod ({ cls := "HighSpotsModel", name := "above", desc := "(II)I" } : Jvm.MethodName)) ∈ lw_all := lw_g (lw_at lw_m7 73 rfl) rfl
theorem q1630 : (Jvm.Cond.code ({ cls := "HighSpotsModel", name := "above", desc := "(II)I" } : Jvm.MethodName) prog_19_method_76_code (5 : Nat) (Option.some Jvm.ClassFile.FieldType.int)) ∈ lw_all := lw_g (lw_at lw_m7 74 rfl) rfl
theorem q1632 : (Jvm.Cond.instanceMethod ({ cls := "HighSpotsModel", name := "grind", desc := "(I)I" } : Jvm.MethodName)) ∈ lw_all := lw_g (lw_at lw_m7 76 rfl) rfl
theorem q1633 : (Jvm.Cond.selects "HighSpotsModel" ({ cls := "HighSpotsModel", name := "grind", desc := "(I)I" } : Jvm.MethodName) ({ cls := "HighSpotsModel", name := "grind", desc := "(I)I" } : Jvm.MethodName)) ∈ lw_all := lw_g (lw_at lw_m7 77 rfl) rfl
theorem q1634 : (Jvm.Cond.code ({ cls := "HighSpotsModel", name := "grind", desc := "(I)I" } : Jvm.MethodName) prog_19_method_79_code (5 : Nat) (Option.some Jvm.ClassFile.FieldType.int)) ∈ lw_all := lw_g (lw_at lw_m7 78 rfl) rfl
theorem q1635 : (Jvm.Cond.methodLink "HighSpotsModel" (354 : Nat) ({ cls := "HighSpotsModel", name := "takes1", desc := "(III)V" } : Jvm.MethodName)) ∈ lw_all := lw_g (lw_at lw_m7 79 rfl) rfl
theorem q1636 : (Jvm.Cond.privateMethod ({ cls := "HighSpotsModel", name := "takes1", desc := "(III)V" } : Jvm.MethodName)) ∈ lw_tbl := lw_at lw_m7 80 rfl
theorem q1637 : (Jvm.Cond.instanceMethod ({ cls := "HighSpotsModel", name := "takes1", desc := "(III)V" } : Jvm.MethodName)) ∈ lw_all := lw_g (lw_at lw_m7 81 rfl) rfl
theorem q1638 : (Jvm.Cond.code ({ cls := "HighSpotsModel", name := "takes1", desc := "(III)V" } : Jvm.MethodName) prog_19_method_78_code (4 : Nat) (Option.none : Option Jvm.ClassFile.FieldType)) ∈ lw_all := lw_g (lw_at lw_m7 82 rfl) rfl
theorem q1640 : (Jvm.Cond.instanceMethod ({ cls := "HighSpotsModel", name := "spots", desc := "(IIII)I" } : Jvm.MethodName)) ∈ lw_all := lw_g (lw_at lw_m7 84 rfl) rfl
theorem q1641 : (Jvm.Cond.selects "HighSpotsModel" ({ cls := "HighSpotsModel", name := "spots", desc := "(IIII)I" } : Jvm.MethodName) ({ cls := "HighSpotsModel", name := "spots", desc := "(IIII)I" } : Jvm.MethodName)) ∈ lw_all := lw_g (lw_at lw_m7 85 rfl) rfl
theorem q1642 : (Jvm.Cond.code ({ cls := "HighSpotsModel", name := "spots", desc := "(IIII)I" } : Jvm.MethodName) prog_19_method_83_code (6 : Nat) (Option.some Jvm.ClassFile.FieldType.int)) ∈ lw_all := lw_g (lw_at lw_m7 86 rfl) rfl
theorem q1643 : (Jvm.Cond.methodLink "HighSpotsModel" (370 : Nat) ({ cls := "HighSpotsModel", name := "gathers", desc := "()V" } : Jvm.MethodName)) ∈ lw_all := lw_g (lw_at lw_m7 87 rfl) rfl
theorem q1644 : (Jvm.Cond.privateMethod ({ cls := "HighSpotsModel", name := "gathers", desc := "()V" } : Jvm.MethodName)) ∈ lw_tbl := lw_at lw_m7 88 rfl
theorem q1645 : (Jvm.Cond.instanceMethod ({ cls := "HighSpotsModel", name := "gathers", desc := "()V" } : Jvm.MethodName)) ∈ lw_all := lw_g (lw_at lw_m7 89 rfl) rfl
theorem q1646 : (Jvm.Cond.code ({ cls := "HighSpotsModel", name := "gathers", desc := "()V" } : Jvm.MethodName) prog_19_method_82_code (5 : Nat) (Option.none : Option Jvm.ClassFile.FieldType)) ∈ lw_all := lw_g (lw_at lw_m7 90 rfl) rfl
theorem q1647 : (Jvm.Cond.methodLink "HighSpotsModel" (361 : Nat) ({ cls := "HighSpotsModel", name := "lowestBeside", desc := "(I)I" } : Jvm.MethodName)) ∈ lw_all := lw_g (lw_at lw_m7 91 rfl) rfl
theorem q1648 : (Jvm.Cond.privateMethod ({ cls := "HighSpotsModel", name := "lowestBeside", desc := "(I)I" } : Jvm.MethodName)) ∈ lw_tbl := lw_at lw_m7 92 rfl
theorem q1649 : (Jvm.Cond.instanceMethod ({ cls := "HighSpotsModel", name := "lowestBeside", desc := "(I)I" } : Jvm.MethodName)) ∈ lw_all := lw_g (lw_at lw_m7 93 rfl) rfl
theorem q1650 : (Jvm.Cond.code ({ cls := "HighSpotsModel", name := "lowestBeside", desc := "(I)I" } : Jvm.MethodName) prog_19_method_81_code (5 : Nat) (Option.some Jvm.ClassFile.FieldType.int)) ∈ lw_all := lw_g (lw_at lw_m7 94 rfl) rfl
theorem q1651 : (Jvm.Cond.methodLink "HighSpotsModel" (358 : Nat) ({ cls := "HighSpotsModel", name := "beside", desc := "(II)I" } : Jvm.MethodName)) ∈ lw_all := lw_g (lw_at lw_m7 95 rfl) rfl
theorem q1652 : (Jvm.Cond.static ({ cls := "HighSpotsModel", name := "beside", desc := "(II)I" } : Jvm.MethodName)) ∈ lw_all := lw_g (lw_at lw_m7 96 rfl) rfl
theorem q1653 : (Jvm.Cond.code ({ cls := "HighSpotsModel", name := "beside", desc := "(II)I" } : Jvm.MethodName) prog_19_method_80_code (4 : Nat) (Option.some Jvm.ClassFile.FieldType.int)) ∈ lw_all := lw_g (lw_at lw_m7 97 rfl) rfl
theorem q1655 : (Jvm.Cond.instanceMethod ({ cls := "HighSpotsModel", name := "pieces", desc := "(III)I" } : Jvm.MethodName)) ∈ lw_all := lw_g (lw_at lw_m7 99 rfl) rfl
theorem q1656 : (Jvm.Cond.selects "HighSpotsModel" ({ cls := "HighSpotsModel", name := "pieces", desc := "(III)I" } : Jvm.MethodName) ({ cls := "HighSpotsModel", name := "pieces", desc := "(III)I" } : Jvm.MethodName)) ∈ lw_all := lw_g (lw_at lw_m7 100 rfl) rfl
theorem q1657 : (Jvm.Cond.code ({ cls := "HighSpotsModel", name := "pieces", desc := "(III)I" } : Jvm.MethodName) prog_19_method_84_code (5 : Nat) (Option.some Jvm.ClassFile.FieldType.int)) ∈ lw_all := lw_g (lw_at lw_m7 101 rfl) rfl
theorem q1659 : (Jvm.Cond.instanceMethod ({ cls := "HighSpotsModel", name := "tripods", desc := "()I" } : Jvm.MethodName)) ∈ lw_all := lw_g (lw_at lw_m7 103 rfl) rfl
theorem q1660 : (Jvm.Cond.selects "HighSpotsModel" ({ cls := "HighSpotsModel", name := "tripods", desc := "()I" } : Jvm.MethodName) ({ cls := "HighSpotsModel", name := "tripods", desc := "()I" } : Jvm.MethodName)) ∈ lw_all := lw_g (lw_at lw_m7 104 rfl) rfl
theorem q1661 : (Jvm.Cond.code ({ cls := "HighSpotsModel", name := "tripods", desc := "()I" } : Jvm.MethodName) prog_19_method_92_code (5 : Nat) (Option.some Jvm.ClassFile.FieldType.int)) ∈ lw_all := lw_g (lw_at lw_m7 105 rfl) rfl
theorem q1662 : (Jvm.Cond.methodLink "HighSpotsModel" (388 : Nat) ({ cls := "HighSpotsModel", name := "laysTouching", desc := "()V" } : Jvm.MethodName)) ∈ lw_all := lw_g (lw_at lw_m7 106 rfl) rfl
theorem q1663 : (Jvm.Cond.privateMethod ({ cls := "HighSpotsModel", name := "laysTouching", desc := "()V" } : Jvm.MethodName)) ∈ lw_tbl := lw_at lw_m7 107 rfl
theorem q1664 : (Jvm.Cond.instanceMethod ({ cls := "HighSpotsModel", name := "laysTouching", desc := "()V" } : Jvm.MethodName)) ∈ lw_all := lw_g (lw_at lw_m7 108 rfl) rfl
theorem q1665 : (Jvm.Cond.code ({ cls := "HighSpotsModel", name := "laysTouching", desc := "()V" } : Jvm.MethodName) prog_19_method_85_code (2 : Nat) (Option.none : Option Jvm.ClassFile.FieldType)) ∈ lw_all := lw_g (lw_at lw_m7 109 rfl) rfl
theorem q1666 : (Jvm.Cond.methodLink "HighSpotsModel" (391 : Nat) ({ cls := "HighSpotsModel", name := "holdsMiddle", desc := "(III)Z" } : Jvm.MethodName)) ∈ lw_all := lw_g (lw_at lw_m7 110 rfl) rfl
theorem q1667 : (Jvm.Cond.static ({ cls := "HighSpotsModel", name := "holdsMiddle", desc := "(III)Z" } : Jvm.MethodName)) ∈ lw_all := lw_g (lw_at lw_m7 111 rfl) rfl
theorem q1668 : (Jvm.Cond.code ({ cls := "HighSpotsModel", name := "holdsMiddle", desc := "(III)Z" } : Jvm.MethodName) prog_19_method_91_code (6 : Nat) (Option.some Jvm.ClassFile.FieldType.boolean)) ∈ lw_all := lw_g (lw_at lw_m7 112 rfl) rfl
theorem q1669 : (Jvm.Cond.methodLink "HighSpotsModel" (385 : Nat) ({ cls := "HighSpotsModel", name := "round3", desc := "(III)I" } : Jvm.MethodName)) ∈ lw_all := lw_g (lw_at lw_m7 113 rfl) rfl
theorem q1670 : (Jvm.Cond.static ({ cls := "HighSpotsModel", name := "round3", desc := "(III)I" } : Jvm.MethodName)) ∈ lw_all := lw_g (lw_at lw_m7 114 rfl) rfl
theorem q1671 : (Jvm.Cond.code ({ cls := "HighSpotsModel", name := "round3", desc := "(III)I" } : Jvm.MethodName) prog_19_method_89_code (7 : Nat) (Option.some Jvm.ClassFile.FieldType.int)) ∈ lw_all := lw_g (lw_at lw_m7 115 rfl) rfl
theorem q1672 : (Jvm.Cond.methodLink "HighSpotsModel" (382 : Nat) ({ cls := "HighSpotsModel", name := "middleSide", desc := "(II)I" } : Jvm.MethodName)) ∈ lw_all := lw_g (lw_at lw_m7 116 rfl) rfl
theorem q1673 : (Jvm.Cond.static ({ cls := "HighSpotsModel", name := "middleSide", desc := "(II)I" } : Jvm.MethodName)) ∈ lw_all := lw_g (lw_at lw_m7 117 rfl) rfl
theorem q1674 : (Jvm.Cond.code ({ cls := "HighSpotsModel", name := "middleSide", desc := "(II)I" } : Jvm.MethodName) prog_19_method_88_code (2 : Nat) (Option.some Jvm.ClassFile.FieldType.int)) ∈ lw_all := lw_g (lw_at lw_m7 118 rfl) rfl
theorem q1675 : (Jvm.Cond.methodLink "HighSpotsModel" (376 : Nat) ({ cls := "HighSpotsModel", name := "acrossOf", desc := "(I)I" } : Jvm.MethodName)) ∈ lw_all := lw_g (lw_at lw_m7 119 rfl) rfl
theorem q1676 : (Jvm.Cond.static ({ cls := "HighSpotsModel", name := "acrossOf", desc := "(I)I" } : Jvm.MethodName)) ∈ lw_all := lw_g (lw_at lw_m7 120 rfl) rfl
theorem q1677 : (Jvm.Cond.code ({ cls := "HighSpotsModel", name := "acrossOf", desc := "(I)I" } : Jvm.MethodName) prog_19_method_86_code (1 : Nat) (Option.some Jvm.ClassFile.FieldType.int)) ∈ lw_all := lw_g (lw_at lw_m7 121 rfl) rfl
theorem q1678 : (Jvm.Cond.methodLink "HighSpotsModel" (379 : Nat) ({ cls := "HighSpotsModel", name := "alongOf", desc := "(I)I" } : Jvm.MethodName)) ∈ lw_all := lw_g (lw_at lw_m7 122 rfl) rfl
theorem q1679 : (Jvm.Cond.static ({ cls := "HighSpotsModel", name := "alongOf", desc := "(I)I" } : Jvm.MethodName)) ∈ lw_all := lw_g (lw_at lw_m7 123 rfl) rfl
theorem q1680 : (Jvm.Cond.code ({ cls := "HighSpotsModel", name := "alongOf", desc := "(I)I" } : Jvm.MethodName) prog_19_method_87_code (1 : Nat) (Option.some Jvm.ClassFile.FieldType.int)) ∈ lw_all := lw_g (lw_at lw_m7 124 rfl) rfl
theorem q1682 : (Jvm.Cond.instanceMethod ({ cls := "HighSpotsModel", name := "rocks", desc := "()I" } : Jvm.MethodName)) ∈ lw_all := lw_g (lw_at lw_m7 126 rfl) rfl
theorem q1683 : (Jvm.Cond.selects "HighSpotsModel" ({ cls := "HighSpotsModel", name := "rocks", desc := "()I" } : Jvm.MethodName) ({ cls := "HighSpotsModel", name := "rocks", desc := "()I" } : Jvm.MethodName)) ∈ lw_all := lw_g (lw_at lw_m7 127 rfl) rfl
theorem q1684 : (Jvm.Cond.code ({ cls := "HighSpotsModel", name := "rocks", desc := "()I" } : Jvm.MethodName) prog_19_method_93_code (4 : Nat) (Option.some Jvm.ClassFile.FieldType.int)) ∈ lw_all := lw_g (lw_at lw_m7 128 rfl) rfl
theorem q1685 : (Jvm.Cond.methodLink "HighSpotsModel" (394 : Nat) ({ cls := "HighSpotsModel", name := "tripods", desc := "()I" } : Jvm.MethodName)) ∈ lw_all := lw_g (lw_at lw_m7 129 rfl) rfl
theorem q1686 : (Jvm.Cond.methodLink "HighSpotsModel" (397 : Nat) ({ cls := "HighSpotsModel", name := "isBetween", desc := "(II)Z" } : Jvm.MethodName)) ∈ lw_all := lw_g (lw_at lw_m7 130 rfl) rfl
theorem q1687 : (Jvm.Cond.static ({ cls := "HighSpotsModel", name := "isBetween", desc := "(II)Z" } : Jvm.MethodName)) ∈ lw_all := lw_g (lw_at lw_m7 131 rfl) rfl
theorem q1688 : (Jvm.Cond.code ({ cls := "HighSpotsModel", name := "isBetween", desc := "(II)Z" } : Jvm.MethodName) prog_19_method_90_code (2 : Nat) (Option.some Jvm.ClassFile.FieldType.boolean)) ∈ lw_all := lw_g (lw_at lw_m7 132 rfl) rfl
theorem q1690 : (Jvm.Cond.instanceMethod ({ cls := "HighSpotsModel", name := "figure", desc := "()I" } : Jvm.MethodName)) ∈ lw_all := lw_g (lw_at lw_m7 134 rfl) rfl
theorem q1691 : (Jvm.Cond.selects "HighSpotsModel" ({ cls := "HighSpotsModel", name := "figure", desc := "()I" } : Jvm.MethodName) ({ cls := "HighSpotsModel", name := "figure", desc := "()I" } : Jvm.MethodName)) ∈ lw_all := lw_g (lw_at lw_m7 135 rfl) rfl
theorem q1692 : (Jvm.Cond.code ({ cls := "HighSpotsModel", name := "figure", desc := "()I" } : Jvm.MethodName) prog_19_method_95_code (6 : Nat) (Option.some Jvm.ClassFile.FieldType.int)) ∈ lw_all := lw_g (lw_at lw_m7 136 rfl) rfl
theorem q1693 : (Jvm.Cond.methodLink "HighSpotsModel" (400 : Nat) ({ cls := "HighSpotsModel", name := "isEdge", desc := "(II)Z" } : Jvm.MethodName)) ∈ lw_all := lw_g (lw_at lw_m7 137 rfl) rfl
theorem q1694 : (Jvm.Cond.privateMethod ({ cls := "HighSpotsModel", name := "isEdge", desc := "(II)Z" } : Jvm.MethodName)) ∈ lw_tbl := lw_at lw_m7 138 rfl
theorem q1695 : (Jvm.Cond.instanceMethod ({ cls := "HighSpotsModel", name := "isEdge", desc := "(II)Z" } : Jvm.MethodName)) ∈ lw_all := lw_g (lw_at lw_m7 139 rfl) rfl
theorem q1696 : (Jvm.Cond.code ({ cls := "HighSpotsModel", name := "isEdge", desc := "(II)Z" } : Jvm.MethodName) prog_19_method_94_code (8 : Nat) (Option.some Jvm.ClassFile.FieldType.boolean)) ∈ lw_all := lw_g (lw_at lw_m7 140 rfl) rfl
theorem q1698 : (Jvm.Cond.instanceMethod ({ cls := "HighSpotsModel", name := "lean", desc := "(I)I" } : Jvm.MethodName)) ∈ lw_all := lw_g (lw_at lw_m7 142 rfl) rfl
theorem q1699 : (Jvm.Cond.selects "HighSpotsModel" ({ cls := "HighSpotsModel", name := "lean", desc := "(I)I" } : Jvm.MethodName) ({ cls := "HighSpotsModel", name := "lean", desc := "(I)I" } : Jvm.MethodName)) ∈ lw_all := lw_g (lw_at lw_m7 143 rfl) rfl
theorem q1700 : (Jvm.Cond.code ({ cls := "HighSpotsModel", name := "lean", desc := "(I)I" } : Jvm.MethodName) prog_19_method_97_code (5 : Nat) (Option.some Jvm.ClassFile.FieldType.int)) ∈ lw_all := lw_g (lw_at lw_m7 144 rfl) rfl
theorem q1701 : (Jvm.Cond.methodLink "HighSpotsModel" (404 : Nat) ({ cls := "HighSpotsModel", name := "touchLeaning", desc := "(I)I" } : Jvm.MethodName)) ∈ lw_all := lw_g (lw_at lw_m7 145 rfl) rfl
theorem q1702 : (Jvm.Cond.privateMethod ({ cls := "HighSpotsModel", name := "touchLeaning", desc := "(I)I" } : Jvm.MethodName)) ∈ lw_tbl := lw_at lw_m7 146 rfl
theorem q1703 : (Jvm.Cond.instanceMethod ({ cls := "HighSpotsModel", name := "touchLeaning", desc := "(I)I" } : Jvm.MethodName)) ∈ lw_all := lw_g (lw_at lw_m7 147 rfl) rfl
theorem q1704 : (Jvm.Cond.code ({ cls := "HighSpotsModel", name := "touchLeaning", desc := "(I)I" } : Jvm.MethodName) prog_19_method_96_code (6 : Nat) (Option.some Jvm.ClassFile.FieldType.int)) ∈ lw_all := lw_g (lw_at lw_m7 148 rfl) rfl
theorem q1705 : (Jvm.Cond.constant "HighSpotsModel" (403 : Nat) (-1000000 : Int32)) ∈ lw_all := lw_g (lw_at lw_m7 149 rfl) rfl
theorem q1707 : (Jvm.Cond.instanceMethod ({ cls := "HighSpotsModel", name := "splint", desc := "(II)I" } : Jvm.MethodName)) ∈ lw_all := lw_g (lw_at lw_m7 151 rfl) rfl
theorem q1708 : (Jvm.Cond.selects "HighSpotsModel" ({ cls := "HighSpotsModel", name := "splint", desc := "(II)I" } : Jvm.MethodName) ({ cls := "HighSpotsModel", name := "splint", desc := "(II)I" } : Jvm.MethodName)) ∈ lw_all := lw_g (lw_at lw_m7 152 rfl) rfl
theorem q1709 : (Jvm.Cond.code ({ cls := "HighSpotsModel", name := "splint", desc := "(II)I" } : Jvm.MethodName) prog_19_method_98_code (6 : Nat) (Option.some Jvm.ClassFile.FieldType.int)) ∈ lw_all := lw_g (lw_at lw_m7 153 rfl) rfl
theorem q1711 : (Jvm.Cond.instanceMethod ({ cls := "HighSpotsModel", name := "turnedOver", desc := "(I)I" } : Jvm.MethodName)) ∈ lw_all := lw_g (lw_at lw_m7 155 rfl) rfl
theorem q1712 : (Jvm.Cond.selects "HighSpotsModel" ({ cls := "HighSpotsModel", name := "turnedOver", desc := "(I)I" } : Jvm.MethodName) ({ cls := "HighSpotsModel", name := "turnedOver", desc := "(I)I" } : Jvm.MethodName)) ∈ lw_all := lw_g (lw_at lw_m7 156 rfl) rfl
theorem q1713 : (Jvm.Cond.code ({ cls := "HighSpotsModel", name := "turnedOver", desc := "(I)I" } : Jvm.MethodName) prog_19_method_99_code (6 : Nat) (Option.some Jvm.ClassFile.FieldType.int)) ∈ lw_all := lw_g (lw_at lw_m7 157 rfl) rfl
theorem q1715 : (Jvm.Cond.instanceMethod ({ cls := "HighSpotsModel", name := "castIs", desc := "(II)I" } : Jvm.MethodName)) ∈ lw_all := lw_g (lw_at lw_m7 159 rfl) rfl
theorem q1716 : (Jvm.Cond.selects "HighSpotsModel" ({ cls := "HighSpotsModel", name := "castIs", desc := "(II)I" } : Jvm.MethodName) ({ cls := "HighSpotsModel", name := "castIs", desc := "(II)I" } : Jvm.MethodName)) ∈ lw_all := lw_g (lw_at lw_m7 160 rfl) rfl
theorem q1717 : (Jvm.Cond.code ({ cls := "HighSpotsModel", name := "castIs", desc := "(II)I" } : Jvm.MethodName) prog_19_method_103_code (6 : Nat) (Option.some Jvm.ClassFile.FieldType.int)) ∈ lw_all := lw_g (lw_at lw_m7 161 rfl) rfl
theorem q1718 : (Jvm.Cond.methodLink "HighSpotsModel" (407 : Nat) ({ cls := "HighSpotsModel", name := "highOf", desc := "(II)I" } : Jvm.MethodName)) ∈ lw_all := lw_g (lw_at lw_m7 162 rfl) rfl
theorem q1719 : (Jvm.Cond.privateMethod ({ cls := "HighSpotsModel", name := "highOf", desc := "(II)I" } : Jvm.MethodName)) ∈ lw_tbl := lw_at lw_m7 163 rfl
theorem q1720 : (Jvm.Cond.instanceMethod ({ cls := "HighSpotsModel", name := "highOf", desc := "(II)I" } : Jvm.MethodName)) ∈ lw_all := lw_g (lw_at lw_m7 164 rfl) rfl
theorem q1721 : (Jvm.Cond.code ({ cls := "HighSpotsModel", name := "highOf", desc := "(II)I" } : Jvm.MethodName) prog_19_method_100_code (3 : Nat) (Option.some Jvm.ClassFile.FieldType.int)) ∈ lw_all := lw_g (lw_at lw_m7 165 rfl) rfl
theorem q1722 : (Jvm.Cond.methodLink "HighSpotsModel" (413 : Nat) ({ cls := "HighSpotsModel", name := "peaks", desc := "(II)I" } : Jvm.MethodName)) ∈ lw_all := lw_g (lw_at lw_m7 166 rfl) rfl
theorem q1723 : (Jvm.Cond.privateMethod ({ cls := "HighSpotsModel", name := "peaks", desc := "(II)I" } : Jvm.MethodName)) ∈ lw_tbl := lw_at lw_m7 167 rfl
theorem q1724 : (Jvm.Cond.instanceMethod ({ cls := "HighSpotsModel", name := "peaks", desc := "(II)I" } : Jvm.MethodName)) ∈ lw_all := lw_g (lw_at lw_m7 168 rfl) rfl
theorem q1725 : (Jvm.Cond.code ({ cls := "HighSpotsModel", name := "peaks", desc := "(II)I" } : Jvm.MethodName) prog_19_method_102_code (5 : Nat) (Option.some Jvm.ClassFile.FieldType.int)) ∈ lw_all := lw_g (lw_at lw_m7 169 rfl) rfl
theorem q1726 : (Jvm.Cond.methodLink "HighSpotsModel" (410 : Nat) ({ cls := "HighSpotsModel", name := "isAbove", desc := "(III)Z" } : Jvm.MethodName)) ∈ lw_all := lw_g (lw_at lw_m7 170 rfl) rfl
theorem q1727 : (Jvm.Cond.privateMethod ({ cls := "HighSpotsModel", name := "isAbove", desc := "(III)Z" } : Jvm.MethodName)) ∈ lw_tbl := lw_at lw_m7 171 rfl
theorem q1728 : (Jvm.Cond.instanceMethod ({ cls := "HighSpotsModel", name := "isAbove", desc := "(III)Z" } : Jvm.MethodName)) ∈ lw_all := lw_g (lw_at lw_m7 172 rfl) rfl
theorem q1729 : (Jvm.Cond.code ({ cls := "HighSpotsModel", name := "isAbove", desc := "(III)Z" } : Jvm.MethodName) prog_19_method_101_code (6 : Nat) (Option.some Jvm.ClassFile.FieldType.boolean)) ∈ lw_all := lw_g (lw_at lw_m7 173 rfl) rfl
theorem q1731 : (Jvm.Cond.instanceMethod ({ cls := "HighSpotsModel", name := "climb", desc := "(II)I" } : Jvm.MethodName)) ∈ lw_all := lw_g (lw_at lw_m7 175 rfl) rfl
theorem q1732 : (Jvm.Cond.selects "HighSpotsModel" ({ cls := "HighSpotsModel", name := "climb", desc := "(II)I" } : Jvm.MethodName) ({ cls := "HighSpotsModel", name := "climb", desc := "(II)I" } : Jvm.MethodName)) ∈ lw_all := lw_g (lw_at lw_m7 176 rfl) rfl
theorem q1733 : (Jvm.Cond.code ({ cls := "HighSpotsModel", name := "climb", desc := "(II)I" } : Jvm.MethodName) prog_19_method_105_code (6 : Nat) (Option.some Jvm.ClassFile.FieldType.int)) ∈ lw_all := lw_g (lw_at lw_m7 177 rfl) rfl
theorem q1734 : (Jvm.Cond.methodLink "HighSpotsModel" (416 : Nat) ({ cls := "HighSpotsModel", name := "climbFrom", desc := "(II)I" } : Jvm.MethodName)) ∈ lw_all := lw_g (lw_at lw_m7 178 rfl) rfl
theorem q1735 : (Jvm.Cond.privateMethod ({ cls := "HighSpotsModel", name := "climbFrom", desc := "(II)I" } : Jvm.MethodName)) ∈ lw_tbl := lw_at lw_m7 179 rfl
theorem q1736 : (Jvm.Cond.instanceMethod ({ cls := "HighSpotsModel", name := "climbFrom", desc := "(II)I" } : Jvm.MethodName)) ∈ lw_all := lw_g (lw_at lw_m7 180 rfl) rfl
theorem q1737 : (Jvm.Cond.code ({ cls := "HighSpotsModel", name := "climbFrom", desc := "(II)I" } : Jvm.MethodName) prog_19_method_104_code (6 : Nat) (Option.some Jvm.ClassFile.FieldType.int)) ∈ lw_all := lw_g (lw_at lw_m7 181 rfl) rfl
theorem q1739 : (Jvm.Cond.instanceMethod ({ cls := "HighSpotsModel", name := "rolls", desc := "(II)I" } : Jvm.MethodName)) ∈ lw_all := lw_g (lw_at lw_m7 183 rfl) rfl
theorem q1740 : (Jvm.Cond.selects "HighSpotsModel" ({ cls := "HighSpotsModel", name := "rolls", desc := "(II)I" } : Jvm.MethodName) ({ cls := "HighSpotsModel", name := "rolls", desc := "(II)I" } : Jvm.MethodName)) ∈ lw_all := lw_g (lw_at lw_m7 184 rfl) rfl
theorem q1741 : (Jvm.Cond.code ({ cls := "HighSpotsModel", name := "rolls", desc := "(II)I" } : Jvm.MethodName) prog_19_method_107_code (4 : Nat) (Option.some Jvm.ClassFile.FieldType.int)) ∈ lw_all := lw_g (lw_at lw_m7 185 rfl) rfl
theorem q1742 : (Jvm.Cond.methodLink "HighSpotsModel" (419 : Nat) ({ cls := "HighSpotsModel", name := "lowestBy", desc := "(II)I" } : Jvm.MethodName)) ∈ lw_all := lw_g (lw_at lw_m7 186 rfl) rfl
theorem q1743 : (Jvm.Cond.privateMethod ({ cls := "HighSpotsModel", name := "lowestBy", desc := "(II)I" } : Jvm.MethodName)) ∈ lw_tbl := lw_at lw_m7 187 rfl
theorem q1744 : (Jvm.Cond.instanceMethod ({ cls := "HighSpotsModel", name := "lowestBy", desc := "(II)I" } : Jvm.MethodName)) ∈ lw_all := lw_g (lw_at lw_m7 188 rfl) rfl
theorem q1745 : (Jvm.Cond.code ({ cls := "HighSpotsModel", name := "lowestBy", desc := "(II)I" } : Jvm.MethodName) prog_19_method_106_code (6 : Nat) (Option.some Jvm.ClassFile.FieldType.int)) ∈ lw_all := lw_g (lw_at lw_m7 189 rfl) rfl
theorem q1747 : (Jvm.Cond.instanceMethod ({ cls := "HighSpotsModel", name := "pools", desc := "(II)I" } : Jvm.MethodName)) ∈ lw_all := lw_g (lw_at lw_m7 191 rfl) rfl
theorem q1748 : (Jvm.Cond.selects "HighSpotsModel" ({ cls := "HighSpotsModel", name := "pools", desc := "(II)I" } : Jvm.MethodName) ({ cls := "HighSpotsModel", name := "pools", desc := "(II)I" } : Jvm.MethodName)) ∈ lw_all := lw_g (lw_at lw_m7 192 rfl) rfl
theorem q1749 : (Jvm.Cond.code ({ cls := "HighSpotsModel", name := "pools", desc := "(II)I" } : Jvm.MethodName) prog_19_method_110_code (7 : Nat) (Option.some Jvm.ClassFile.FieldType.int)) ∈ lw_all := lw_g (lw_at lw_m7 193 rfl) rfl
theorem q1750 : (Jvm.Cond.methodLink "HighSpotsModel" (425 : Nat) ({ cls := "HighSpotsModel", name := "staysIn", desc := "(I)Z" } : Jvm.MethodName)) ∈ lw_all := lw_g (lw_at lw_m7 194 rfl) rfl
theorem q1751 : (Jvm.Cond.privateMethod ({ cls := "HighSpotsModel", name := "staysIn", desc := "(I)Z" } : Jvm.MethodName)) ∈ lw_tbl := lw_at lw_m7 195 rfl
theorem q1752 : (Jvm.Cond.instanceMethod ({ cls := "HighSpotsModel", name := "staysIn", desc := "(I)Z" } : Jvm.MethodName)) ∈ lw_all := lw_g (lw_at lw_m7 196 rfl) rfl
theorem q1753 : (Jvm.Cond.code ({ cls := "HighSpotsModel", name := "staysIn", desc := "(I)Z" } : Jvm.MethodName) prog_19_method_109_code (3 : Nat) (Option.some Jvm.ClassFile.FieldType.boolean)) ∈ lw_all := lw_g (lw_at lw_m7 197 rfl) rfl
theorem q1754 : (Jvm.Cond.methodLink "HighSpotsModel" (422 : Nat) ({ cls := "HighSpotsModel", name := "isRim", desc := "(I)Z" } : Jvm.MethodName)) ∈ lw_all := lw_g (lw_at lw_m7 198 rfl) rfl
theorem q1755 : (Jvm.Cond.static ({ cls := "HighSpotsModel", name := "isRim", desc := "(I)Z" } : Jvm.MethodName)) ∈ lw_all := lw_g (lw_at lw_m7 199 rfl) rfl
theorem q1756 : (Jvm.Cond.code ({ cls := "HighSpotsModel", name := "isRim", desc := "(I)Z" } : Jvm.MethodName) prog_19_method_108_code (1 : Nat) (Option.some Jvm.ClassFile.FieldType.boolean)) ∈ lw_all := lw_g (lw_at lw_m7 200 rfl) rfl
theorem q1758 : (Jvm.Cond.instanceMethod ({ cls := "HighSpotsModel", name := "belongs", desc := "(III)I" } : Jvm.MethodName)) ∈ lw_all := lw_g (lw_at lw_m7 202 rfl) rfl
theorem q1759 : (Jvm.Cond.selects "HighSpotsModel" ({ cls := "HighSpotsModel", name := "belongs", desc := "(III)I" } : Jvm.MethodName) ({ cls := "HighSpotsModel", name := "belongs", desc := "(III)I" } : Jvm.MethodName)) ∈ lw_all := lw_g (lw_at lw_m7 203 rfl) rfl
theorem q1760 : (Jvm.Cond.code ({ cls := "HighSpotsModel", name := "belongs", desc := "(III)I" } : Jvm.MethodName) prog_19_method_112_code (10 : Nat) (Option.some Jvm.ClassFile.FieldType.int)) ∈ lw_all := lw_g (lw_at lw_m7 204 rfl) rfl
theorem q1761 : (Jvm.Cond.methodLink "HighSpotsModel" (428 : Nat) ({ cls := "HighSpotsModel", name := "gapsMoved", desc := "(III)I" } : Jvm.MethodName)) ∈ lw_all := lw_g (lw_at lw_m7 205 rfl) rfl
theorem q1762 : (Jvm.Cond.privateMethod ({ cls := "HighSpotsModel", name := "gapsMoved", desc := "(III)I" } : Jvm.MethodName)) ∈ lw_tbl := lw_at lw_m7 206 rfl
theorem q1763 : (Jvm.Cond.instanceMethod ({ cls := "HighSpotsModel", name := "gapsMoved", desc := "(III)I" } : Jvm.MethodName)) ∈ lw_all := lw_g (lw_at lw_m7 207 rfl) rfl
theorem q1764 : (Jvm.Cond.code ({ cls := "HighSpotsModel", name := "gapsMoved", desc := "(III)I" } : Jvm.MethodName) prog_19_method_111_code (9 : Nat) (Option.some Jvm.ClassFile.FieldType.int)) ∈ lw_all := lw_g (lw_at lw_m7 208 rfl) rfl
theorem q1766 : (Jvm.Cond.instanceMethod ({ cls := "HighSpotsModel", name := "along", desc := "(II)I" } : Jvm.MethodName)) ∈ lw_all := lw_g (lw_at lw_m7 210 rfl) rfl
theorem q1767 : (Jvm.Cond.selects "HighSpotsModel" ({ cls := "HighSpotsModel", name := "along", desc := "(II)I" } : Jvm.MethodName) ({ cls := "HighSpotsModel", name := "along", desc := "(II)I" } : Jvm.MethodName)) ∈ lw_all := lw_g (lw_at lw_m7 211 rfl) rfl
theorem q1768 : (Jvm.Cond.code ({ cls := "HighSpotsModel", name := "along", desc := "(II)I" } : Jvm.MethodName) prog_19_method_114_code (10 : Nat) (Option.some Jvm.ClassFile.FieldType.int)) ∈ lw_all := lw_g (lw_at lw_m7 212 rfl) rfl
theorem q1769 : (Jvm.Cond.methodLink "HighSpotsModel" (437 : Nat) ({ cls := "HighSpotsModel", name := "glides", desc := "(I)V" } : Jvm.MethodName)) ∈ lw_all := lw_g (lw_at lw_m7 213 rfl) rfl
theorem q1770 : (Jvm.Cond.privateMethod ({ cls := "HighSpotsModel", name := "glides", desc := "(I)V" } : Jvm.MethodName)) ∈ lw_tbl := lw_at lw_m7 214 rfl
theorem q1771 : (Jvm.Cond.instanceMethod ({ cls := "HighSpotsModel", name := "glides", desc := "(I)V" } : Jvm.MethodName)) ∈ lw_all := lw_g (lw_at lw_m7 215 rfl) rfl
theorem q1772 : (Jvm.Cond.code ({ cls := "HighSpotsModel", name := "glides", desc := "(I)V" } : Jvm.MethodName) prog_19_method_113_code (4 : Nat) (Option.none : Option Jvm.ClassFile.FieldType)) ∈ lw_all := lw_g (lw_at lw_m7 216 rfl) rfl
theorem q1774 : (Jvm.Cond.instanceMethod ({ cls := "HighSpotsModel", name := "nights", desc := "(II)I" } : Jvm.MethodName)) ∈ lw_all := lw_g (lw_at lw_m7 218 rfl) rfl
theorem q1775 : (Jvm.Cond.selects "HighSpotsModel" ({ cls := "HighSpotsModel", name := "nights", desc := "(II)I" } : Jvm.MethodName) ({ cls := "HighSpotsModel", name := "nights", desc := "(II)I" } : Jvm.MethodName)) ∈ lw_all := lw_g (lw_at lw_m7 219 rfl) rfl
theorem q1776 : (Jvm.Cond.code ({ cls := "HighSpotsModel", name := "nights", desc := "(II)I" } : Jvm.MethodName) prog_19_method_119_code (3 : Nat) (Option.some Jvm.ClassFile.FieldType.int)) ∈ lw_all := lw_g (lw_at lw_m7 220 rfl) rfl
theorem q1777 : (Jvm.Cond.methodLink "HighSpotsModel" (455 : Nat) ({ cls := "HighSpotsModel", name := "isNights", desc := "(II)Z" } : Jvm.MethodName)) ∈ lw_all := lw_g (lw_at lw_m7 221 rfl) rfl
theorem q1778 : (Jvm.Cond.static ({ cls := "HighSpotsModel", name := "isNights", desc := "(II)Z" } : Jvm.MethodName)) ∈ lw_all := lw_g (lw_at lw_m7 222 rfl) rfl
theorem q1779 : (Jvm.Cond.code ({ cls := "HighSpotsModel", name := "isNights", desc := "(II)Z" } : Jvm.MethodName) prog_19_method_117_code (2 : Nat) (Option.some Jvm.ClassFile.FieldType.boolean)) ∈ lw_all := lw_g (lw_at lw_m7 223 rfl) rfl
theorem q1780 : (Jvm.Cond.methodLink "HighSpotsModel" (458 : Nat) ({ cls := "HighSpotsModel", name := "wears", desc := "(II)I" } : Jvm.MethodName)) ∈ lw_all := lw_g (lw_at lw_m7 224 rfl) rfl
theorem q1781 : (Jvm.Cond.privateMethod ({ cls := "HighSpotsModel", name := "wears", desc := "(II)I" } : Jvm.MethodName)) ∈ lw_tbl := lw_at lw_m7 225 rfl
theorem q1782 : (Jvm.Cond.instanceMethod ({ cls := "HighSpotsModel", name := "wears", desc := "(II)I" } : Jvm.MethodName)) ∈ lw_all := lw_g (lw_at lw_m7 226 rfl) rfl
theorem q1783 : (Jvm.Cond.code ({ cls := "HighSpotsModel", name := "wears", desc := "(II)I" } : Jvm.MethodName) prog_19_method_118_code (5 : Nat) (Option.some Jvm.ClassFile.FieldType.int)) ∈ lw_all := lw_g (lw_at lw_m7 227 rfl) rfl
theorem q1784 : (Jvm.Cond.methodLink "HighSpotsModel" (452 : Nat) ({ cls := "HighSpotsModel", name := "wearsNight", desc := "(I)I" } : Jvm.MethodName)) ∈ lw_all := lw_g (lw_at lw_m7 228 rfl) rfl
theorem q1785 : (Jvm.Cond.privateMethod ({ cls := "HighSpotsModel", name := "wearsNight", desc := "(I)I" } : Jvm.MethodName)) ∈ lw_tbl := lw_at lw_m7 229 rfl
theorem q1786 : (Jvm.Cond.instanceMethod ({ cls := "HighSpotsModel", name := "wearsNight", desc := "(I)I" } : Jvm.MethodName)) ∈ lw_all := lw_g (lw_at lw_m7 230 rfl) rfl
theorem q1787 : (Jvm.Cond.code ({ cls := "HighSpotsModel", name := "wearsNight", desc := "(I)I" } : Jvm.MethodName) prog_19_method_116_code (6 : Nat) (Option.some Jvm.ClassFile.FieldType.int)) ∈ lw_all := lw_g (lw_at lw_m7 231 rfl) rfl
theorem q1788 : (Jvm.Cond.methodLink "HighSpotsModel" (449 : Nat) ({ cls := "HighSpotsModel", name := "wearsAt", desc := "(III)I" } : Jvm.MethodName)) ∈ lw_all := lw_g (lw_at lw_m7 232 rfl) rfl
theorem q1789 : (Jvm.Cond.privateMethod ({ cls := "HighSpotsModel", name := "wearsAt", desc := "(III)I" } : Jvm.MethodName)) ∈ lw_tbl := lw_at lw_m7 233 rfl
theorem q1790 : (Jvm.Cond.instanceMethod ({ cls := "HighSpotsModel", name := "wearsAt", desc := "(III)I" } : Jvm.MethodName)) ∈ lw_all := lw_g (lw_at lw_m7 234 rfl) rfl
theorem q1791 : (Jvm.Cond.code ({ cls := "HighSpotsModel", name := "wearsAt", desc := "(III)I" } : Jvm.MethodName) prog_19_method_115_code (7 : Nat) (Option.some Jvm.ClassFile.FieldType.int)) ∈ lw_all := lw_g (lw_at lw_m7 235 rfl) rfl
theorem q1792 : (Jvm.Cond.methodLink "HighSpotsModel" (443 : Nat) ({ cls := "HighSpotsModel", name := "lotGoes", desc := "()I" } : Jvm.MethodName)) ∈ lw_all := lw_g (lw_at lw_m7 236 rfl) rfl
theorem q1793 : (Jvm.Cond.privateMethod ({ cls := "HighSpotsModel", name := "lotGoes", desc := "()I" } : Jvm.MethodName)) ∈ lw_tbl := lw_at lw_m7 237 rfl
theorem q1794 : (Jvm.Cond.instanceMethod ({ cls := "HighSpotsModel", name := "lotGoes", desc := "()I" } : Jvm.MethodName)) ∈ lw_all := lw_g (lw_at lw_m7 238 rfl) rfl
theorem q1795 : (Jvm.Cond.code ({ cls := "HighSpotsModel", name := "lotGoes", desc := "()I" } : Jvm.MethodName) prog_19_method_9_code (1 : Nat) (Option.some Jvm.ClassFile.FieldType.int)) ∈ lw_all := lw_g (lw_at lw_m7 239 rfl) rfl
theorem q1796 : (Jvm.Cond.constant "HighSpotsModel" (116 : Nat) (65536 : Int32)) ∈ lw_all := lw_g (lw_at lw_m8 0 rfl) rfl
theorem q1797 : (Jvm.Cond.methodLink "HighSpotsModel" (236 : Nat) ({ cls := "HighSpotsModel", name := "firstOf", desc := "(I)I" } : Jvm.MethodName)) ∈ lw_all := lw_g (lw_at lw_m8 1 rfl) rfl
theorem q1798 : (Jvm.Cond.privateMethod ({ cls := "HighSpotsModel", name := "firstOf", desc := "(I)I" } : Jvm.MethodName)) ∈ lw_tbl := lw_at lw_m8 2 rfl
theorem q1799 : (Jvm.Cond.instanceMethod ({ cls := "HighSpotsModel", name := "firstOf", desc := "(I)I" } : Jvm.MethodName)) ∈ lw_all := lw_g (lw_at lw_m8 3 rfl) rfl
theorem q1800 : (Jvm.Cond.code ({ cls := "HighSpotsModel", name := "firstOf", desc := "(I)I" } : Jvm.MethodName) prog_19_method_42_code (3 : Nat) (Option.some Jvm.ClassFile.FieldType.int)) ∈ lw_all := lw_g (lw_at lw_m8 4 rfl) rfl
theorem q1801 : (Jvm.Cond.methodLink "HighSpotsModel" (232 : Nat) ({ cls := "HighSpotsModel", name := "reckonsTo", desc := "(II)I" } : Jvm.MethodName)) ∈ lw_all := lw_g (lw_at lw_m8 5 rfl) rfl
theorem q1802 : (Jvm.Cond.privateMethod ({ cls := "HighSpotsModel", name := "reckonsTo", desc := "(II)I" } : Jvm.MethodName)) ∈ lw_tbl := lw_at lw_m8 6 rfl
theorem q1803 : (Jvm.Cond.instanceMethod ({ cls := "HighSpotsModel", name := "reckonsTo", desc := "(II)I" } : Jvm.MethodName)) ∈ lw_all := lw_g (lw_at lw_m8 7 rfl) rfl
theorem q1804 : (Jvm.Cond.code ({ cls := "HighSpotsModel", name := "reckonsTo", desc := "(II)I" } : Jvm.MethodName) prog_19_method_41_code (8 : Nat) (Option.some Jvm.ClassFile.FieldType.int)) ∈ lw_all := lw_g (lw_at lw_m8 8 rfl) rfl
theorem q1805 : (Jvm.Cond.methodLink "HighSpotsModel" (228 : Nat) ({ cls := "HighSpotsModel", name := "reckon", desc := "(III)I" } : Jvm.MethodName)) ∈ lw_all := lw_g (lw_at lw_m8 9 rfl) rfl
theorem q1806 : (Jvm.Cond.static ({ cls := "HighSpotsModel", name := "reckon", desc := "(III)I" } : Jvm.MethodName)) ∈ lw_all := lw_g (lw_at lw_m8 10 rfl) rfl
theorem q1807 : (Jvm.Cond.code ({ cls := "HighSpotsModel", name := "reckon", desc := "(III)I" } : Jvm.MethodName) prog_19_method_40_code (3 : Nat) (Option.some Jvm.ClassFile.FieldType.int)) ∈ lw_all := lw_g (lw_at lw_m8 11 rfl) rfl
theorem q1808 : (Jvm.Cond.methodLink "HighSpotsModel" (446 : Nat) ({ cls := "HighSpotsModel", name := "wornBy", desc := "(II)I" } : Jvm.MethodName)) ∈ lw_all := lw_g (lw_at lw_m8 12 rfl) rfl
theorem q1809 : (Jvm.Cond.privateMethod ({ cls := "HighSpotsModel", name := "wornBy", desc := "(II)I" } : Jvm.MethodName)) ∈ lw_tbl := lw_at lw_m8 13 rfl
theorem q1810 : (Jvm.Cond.instanceMethod ({ cls := "HighSpotsModel", name := "wornBy", desc := "(II)I" } : Jvm.MethodName)) ∈ lw_all := lw_g (lw_at lw_m8 14 rfl) rfl
theorem q1811 : (Jvm.Cond.code ({ cls := "HighSpotsModel", name := "wornBy", desc := "(II)I" } : Jvm.MethodName) prog_19_method_43_code (4 : Nat) (Option.some Jvm.ClassFile.FieldType.int)) ∈ lw_all := lw_g (lw_at lw_m8 15 rfl) rfl
theorem q1813 : (Jvm.Cond.instanceMethod ({ cls := "HighSpotsModel", name := "tried", desc := "(III)I" } : Jvm.MethodName)) ∈ lw_all := lw_g (lw_at lw_m8 17 rfl) rfl
theorem q1814 : (Jvm.Cond.selects "HighSpotsModel" ({ cls := "HighSpotsModel", name := "tried", desc := "(III)I" } : Jvm.MethodName) ({ cls := "HighSpotsModel", name := "tried", desc := "(III)I" } : Jvm.MethodName)) ∈ lw_all := lw_g (lw_at lw_m8 18 rfl) rfl
theorem q1815 : (Jvm.Cond.code ({ cls := "HighSpotsModel", name := "tried", desc := "(III)I" } : Jvm.MethodName) prog_19_method_123_code (6 : Nat) (Option.some Jvm.ClassFile.FieldType.int)) ∈ lw_all := lw_g (lw_at lw_m8 19 rfl) rfl
theorem q1816 : (Jvm.Cond.methodLink "HighSpotsModel" (461 : Nat) ({ cls := "HighSpotsModel", name := "shelves", desc := "(I)V" } : Jvm.MethodName)) ∈ lw_all := lw_g (lw_at lw_m8 20 rfl) rfl
theorem q1817 : (Jvm.Cond.privateMethod ({ cls := "HighSpotsModel", name := "shelves", desc := "(I)V" } : Jvm.MethodName)) ∈ lw_tbl := lw_at lw_m8 21 rfl
theorem q1818 : (Jvm.Cond.instanceMethod ({ cls := "HighSpotsModel", name := "shelves", desc := "(I)V" } : Jvm.MethodName)) ∈ lw_all := lw_g (lw_at lw_m8 22 rfl) rfl
theorem q1819 : (Jvm.Cond.code ({ cls := "HighSpotsModel", name := "shelves", desc := "(I)V" } : Jvm.MethodName) prog_19_method_120_code (3 : Nat) (Option.none : Option Jvm.ClassFile.FieldType)) ∈ lw_all := lw_g (lw_at lw_m8 23 rfl) rfl
theorem q1820 : (Jvm.Cond.methodLink "HighSpotsModel" (464 : Nat) ({ cls := "HighSpotsModel", name := "triedIs", desc := "(II)I" } : Jvm.MethodName)) ∈ lw_all := lw_g (lw_at lw_m8 24 rfl) rfl
theorem q1821 : (Jvm.Cond.privateMethod ({ cls := "HighSpotsModel", name := "triedIs", desc := "(II)I" } : Jvm.MethodName)) ∈ lw_tbl := lw_at lw_m8 25 rfl
theorem q1822 : (Jvm.Cond.instanceMethod ({ cls := "HighSpotsModel", name := "triedIs", desc := "(II)I" } : Jvm.MethodName)) ∈ lw_all := lw_g (lw_at lw_m8 26 rfl) rfl
theorem q1823 : (Jvm.Cond.code ({ cls := "HighSpotsModel", name := "triedIs", desc := "(II)I" } : Jvm.MethodName) prog_19_method_122_code (3 : Nat) (Option.some Jvm.ClassFile.FieldType.int)) ∈ lw_all := lw_g (lw_at lw_m8 27 rfl) rfl
theorem q1824 : (Jvm.Cond.methodLink "HighSpotsModel" (467 : Nat) ({ cls := "HighSpotsModel", name := "takesBack", desc := "(I)V" } : Jvm.MethodName)) ∈ lw_all := lw_g (lw_at lw_m8 28 rfl) rfl
theorem q1825 : (Jvm.Cond.privateMethod ({ cls := "HighSpotsModel", name := "takesBack", desc := "(I)V" } : Jvm.MethodName)) ∈ lw_tbl := lw_at lw_m8 29 rfl
theorem q1826 : (Jvm.Cond.instanceMethod ({ cls := "HighSpotsModel", name := "takesBack", desc := "(I)V" } : Jvm.MethodName)) ∈ lw_all := lw_g (lw_at lw_m8 30 rfl) rfl
theorem q1827 : (Jvm.Cond.code ({ cls := "HighSpotsModel", name := "takesBack", desc := "(I)V" } : Jvm.MethodName) prog_19_method_121_code (3 : Nat) (Option.none : Option Jvm.ClassFile.FieldType)) ∈ lw_all := lw_g (lw_at lw_m8 31 rfl) rfl
theorem q1829 : (Jvm.Cond.instanceMethod ({ cls := "HighSpotsModel", name := "even", desc := "(III)I" } : Jvm.MethodName)) ∈ lw_all := lw_g (lw_at lw_m8 33 rfl) rfl
theorem q1830 : (Jvm.Cond.selects "HighSpotsModel" ({ cls := "HighSpotsModel", name := "even", desc := "(III)I" } : Jvm.MethodName) ({ cls := "HighSpotsModel", name := "even", desc := "(III)I" } : Jvm.MethodName)) ∈ lw_all := lw_g (lw_at lw_m8 34 rfl) rfl
theorem q1831 : (Jvm.Cond.code ({ cls := "HighSpotsModel", name := "even", desc := "(III)I" } : Jvm.MethodName) prog_19_method_124_code (7 : Nat) (Option.some Jvm.ClassFile.FieldType.int)) ∈ lw_all := lw_g (lw_at lw_m8 35 rfl) rfl
theorem q1833 : (Jvm.Cond.instanceMethod ({ cls := "HighSpotsModel", name := "seed", desc := "(I)Z" } : Jvm.MethodName)) ∈ lw_all := lw_g (lw_at lw_m8 37 rfl) rfl
theorem q1834 : (Jvm.Cond.selects "HighSpotsModel" ({ cls := "HighSpotsModel", name := "seed", desc := "(I)Z" } : Jvm.MethodName) ({ cls := "HighSpotsModel", name := "seed", desc := "(I)Z" } : Jvm.MethodName)) ∈ lw_all := lw_g (lw_at lw_m8 38 rfl) rfl
theorem q1835 : (Jvm.Cond.code ({ cls := "HighSpotsModel", name := "seed", desc := "(I)Z" } : Jvm.MethodName) prog_19_method_125_code (2 : Nat) (Option.some Jvm.ClassFile.FieldType.boolean)) ∈ lw_all := lw_g (lw_at lw_m8 39 rfl) rfl
theorem q1836 : (Jvm.Cond.constant "HighSpotsModel" (470 : Nat) (65535 : Int32)) ∈ lw_all := lw_g (lw_at lw_m8 40 rfl) rfl
theorem q1838 : (Jvm.Cond.instanceMethod ({ cls := "HighSpotsModel", name := "keep", desc := "()I" } : Jvm.MethodName)) ∈ lw_all := lw_g (lw_at lw_m8 42 rfl) rfl
theorem q1839 : (Jvm.Cond.selects "HighSpotsModel" ({ cls := "HighSpotsModel", name := "keep", desc := "()I" } : Jvm.MethodName) ({ cls := "HighSpotsModel", name := "keep", desc := "()I" } : Jvm.MethodName)) ∈ lw_all := lw_g (lw_at lw_m8 43 rfl) rfl
theorem q1840 : (Jvm.Cond.code ({ cls := "HighSpotsModel", name := "keep", desc := "()I" } : Jvm.MethodName) prog_19_method_126_code (1 : Nat) (Option.some Jvm.ClassFile.FieldType.int)) ∈ lw_all := lw_g (lw_at lw_m8 44 rfl) rfl
theorem q1842 : (Jvm.Cond.instanceMethod ({ cls := "HighSpotsModel", name := "undo", desc := "()Z" } : Jvm.MethodName)) ∈ lw_all := lw_g (lw_at lw_m8 46 rfl) rfl
theorem q1843 : (Jvm.Cond.selects "HighSpotsModel" ({ cls := "HighSpotsModel", name := "undo", desc := "()Z" } : Jvm.MethodName) ({ cls := "HighSpotsModel", name := "undo", desc := "()Z" } : Jvm.MethodName)) ∈ lw_all := lw_g (lw_at lw_m8 47 rfl) rfl
theorem q1844 : (Jvm.Cond.code ({ cls := "HighSpotsModel", name := "undo", desc := "()Z" } : Jvm.MethodName) prog_19_method_127_code (1 : Nat) (Option.some Jvm.ClassFile.FieldType.boolean)) ∈ lw_all := lw_g (lw_at lw_m8 48 rfl) rfl
theorem q1846 : (Jvm.Cond.instanceMethod ({ cls := "HighSpotsModel", name := "check", desc := "(I)I" } : Jvm.MethodName)) ∈ lw_all := lw_g (lw_at lw_m8 50 rfl) rfl
theorem q1847 : (Jvm.Cond.selects "HighSpotsModel" ({ cls := "HighSpotsModel", name := "check", desc := "(I)I" } : Jvm.MethodName) ({ cls := "HighSpotsModel", name := "check", desc := "(I)I" } : Jvm.MethodName)) ∈ lw_all := lw_g (lw_at lw_m8 51 rfl) rfl
theorem q1848 : (Jvm.Cond.code ({ cls := "HighSpotsModel", name := "check", desc := "(I)I" } : Jvm.MethodName) prog_19_method_128_code (4 : Nat) (Option.some Jvm.ClassFile.FieldType.int)) ∈ lw_all := lw_g (lw_at lw_m8 52 rfl) rfl
theorem q1850 : (Jvm.Cond.instanceMethod ({ cls := "HighSpotsModel", name := "count", desc := "(I)I" } : Jvm.MethodName)) ∈ lw_all := lw_g (lw_at lw_m8 54 rfl) rfl
theorem q1851 : (Jvm.Cond.selects "HighSpotsModel" ({ cls := "HighSpotsModel", name := "count", desc := "(I)I" } : Jvm.MethodName) ({ cls := "HighSpotsModel", name := "count", desc := "(I)I" } : Jvm.MethodName)) ∈ lw_all := lw_g (lw_at lw_m8 55 rfl) rfl
theorem q1852 : (Jvm.Cond.code ({ cls := "HighSpotsModel", name := "count", desc := "(I)I" } : Jvm.MethodName) prog_19_method_130_code (2 : Nat) (Option.some Jvm.ClassFile.FieldType.int)) ∈ lw_all := lw_g (lw_at lw_m8 56 rfl) rfl
theorem q1853 : (Jvm.Cond.methodLink "HighSpotsModel" (475 : Nat) ({ cls := "HighSpotsModel", name := "offMany", desc := "()I" } : Jvm.MethodName)) ∈ lw_all := lw_g (lw_at lw_m8 57 rfl) rfl
theorem q1854 : (Jvm.Cond.privateMethod ({ cls := "HighSpotsModel", name := "offMany", desc := "()I" } : Jvm.MethodName)) ∈ lw_tbl := lw_at lw_m8 58 rfl
theorem q1855 : (Jvm.Cond.instanceMethod ({ cls := "HighSpotsModel", name := "offMany", desc := "()I" } : Jvm.MethodName)) ∈ lw_all := lw_g (lw_at lw_m8 59 rfl) rfl
theorem q1856 : (Jvm.Cond.code ({ cls := "HighSpotsModel", name := "offMany", desc := "()I" } : Jvm.MethodName) prog_19_method_129_code (3 : Nat) (Option.some Jvm.ClassFile.FieldType.int)) ∈ lw_all := lw_g (lw_at lw_m8 60 rfl) rfl
theorem in_X5 : ∀ w ∈ wsX50, w ∈ lw_all := lw_in wsX50 [1244, 1246, 1248, 1250, 1252, 1254, 1256, 1258, 1260, 1262, 1264, 1266, 1268, 1270, 1272, 1274, 1276, 1278, 1280, 1282, 1284, 1286, 1288, 1290, 1292, 1294, 1296, 1298, 1300, 1302, 1304, 1306, 1308, 1310, 1312, 1314, 1316, 1318, 1320, 1322, 1324, 1326, 1328, 1330, 1332, 1334, 1336, 1338, 1340, 1342, 1344, 1346, 1348, 1350, 1352, 1354, 1356] (by decide +kernel) (by decide +kernel)

end