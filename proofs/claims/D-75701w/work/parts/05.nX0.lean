section
/-! HighSpots -/
set_option maxRecDepth 100000
def RX0 : String := "HighSpots"
def TX0 : u_T := fun k => match k with
  | 0 => ("HighSpots", "moment", "LHighSpots$Moment;", true)
  | 1 => ("HighSpots", "isKeptOff", "[Z", true)
  | 2 => ("HighSpots", "isMarked", "[Z", true)
  | 3 => ("HighSpots", "path", "[I", true)
  | 4 => ("HighSpots", "steps", "I", false)
  | 5 => ("HighSpots", "bench", "LHighSpots$Bench;", true)
  | 6 => ("HighSpots", "then", "LHighSpots$Bench;", true)
  | 7 => ("HighSpots", "kept", "LHighSpots$Bench;", true)
  | 8 => ("HighSpots", "tape", "[B", true)
  | 9 => ("HighSpots", "law", "LHighSpots$Text;", false)
  | 10 => ("HighSpots", "taped", "I", false)
  | 11 => ("HighSpots", "isKept", "Z", false)
  | 12 => ("HighSpots", "openings", "[I", true)
  | 13 => ("HighSpots", "came", "[I", true)
  | 14 => ("HighSpots", "queue", "[I", true)
  | 15 => ("HighSpots", "highest", "[I", true)
  | 16 => ("HighSpots", "isGone", "[Z", true)
  | 17 => ("HighSpots", "line", "[I", true)
  | 18 => ("HighSpots", "sums", "[I", true)
  | 19 => ("HighSpots", "climbs", "[I", true)
  | _ => ("HighSpots", "level", "[I", true)
def tyX0 : Nat → FieldType := fun k => match k with
  | 0 => .object "HighSpots$Moment"
  | 1 => .array .boolean
  | 2 => .array .boolean
  | 3 => .array .int
  | 4 => .int
  | 5 => .object "HighSpots$Bench"
  | 6 => .object "HighSpots$Bench"
  | 7 => .object "HighSpots$Bench"
  | 8 => .array .byte
  | 9 => .object "HighSpots$Text"
  | 10 => .int
  | 11 => .boolean
  | 12 => .array .int
  | 13 => .array .int
  | 14 => .array .int
  | 15 => .array .int
  | 16 => .array .boolean
  | 17 => .array .int
  | 18 => .array .int
  | 19 => .array .int
  | _ => .array .int
abbrev wsX00 : List Cond := u_ws RX0 TX0 21
set_option maxRecDepth 100000 in
theorem nmX0 : ∀ a, a < 21 → ∀ b, b < 21 → a ≠ b → (TX0 a).2.1 ≠ (TX0 b).2.1 := by decide +kernel
set_option maxRecDepth 100000 in
theorem tyX0_ok : ∀ k, k < 21 → parseFieldDescriptor (TX0 k).2.2.1 = some (tyX0 k) := by decide +kernel
abbrev cX0_init : ByteArray := prog_1_method_11_code
def yX0_init : MethodName := ⟨RX0, "<init>", "()V"⟩
def dkwX0_init_7 : List UInt8 := [180, 0, 65, 4, 181, 0, 113, 177]
abbrev dktX0_init_7 : List UInt8 := dkwX0_init_7 ++ []
def dkwX0_init_6 : List UInt8 := [16, 48, 188, 10, 181, 0, 104, 42, 16, 48, 188, 10, 181, 0, 107, 42, 16, 48, 188, 10, 181, 0, 110, 42]
abbrev dktX0_init_6 : List UInt8 := dkwX0_init_6 ++ dktX0_init_7
def dkwX0_init_5 : List UInt8 := [16, 63, 188, 10, 181, 0, 95, 42, 16, 48, 188, 4, 181, 0, 98, 42, 16, 48, 188, 10, 181, 0, 101, 42]
abbrev dktX0_init_5 : List UInt8 := dkwX0_init_5 ++ dktX0_init_6
def dkwX0_init_4 : List UInt8 := [16, 63, 188, 10, 181, 0, 86, 42, 16, 63, 188, 10, 181, 0, 89, 42, 16, 63, 188, 10, 181, 0, 92, 42]
abbrev dktX0_init_4 : List UInt8 := dkwX0_init_4 ++ dktX0_init_5
def dkwX0_init_3 : List UInt8 := [181, 0, 72, 42, 17, 1, 4, 188, 8, 181, 0, 75, 42, 187, 0, 79, 89, 183, 0, 81, 181, 0, 82, 42]
abbrev dktX0_init_3 : List UInt8 := dkwX0_init_3 ++ dktX0_init_4
def dkwX0_init_2 : List UInt8 := [181, 0, 65, 42, 187, 0, 60, 89, 42, 183, 0, 62, 181, 0, 69, 42, 187, 0, 60, 89, 42, 183, 0, 62]
abbrev dktX0_init_2 : List UInt8 := dkwX0_init_2 ++ dktX0_init_3
def dkwX0_init_1 : List UInt8 := [16, 48, 188, 4, 181, 0, 53, 42, 16, 48, 188, 10, 181, 0, 56, 42, 187, 0, 60, 89, 42, 183, 0, 62]
abbrev dktX0_init_1 : List UInt8 := dkwX0_init_1 ++ dktX0_init_2
def dkwX0_init_0 : List UInt8 := [42, 183, 0, 36, 42, 187, 0, 42, 89, 183, 0, 44, 181, 0, 45, 42, 16, 48, 188, 4, 181, 0, 49, 42]
abbrev dktX0_init_0 : List UInt8 := dkwX0_init_0 ++ dktX0_init_1
theorem dksX0_init_0 : cX0_init.data.toList.drop 0 = dktX0_init_0 := by decide +kernel
theorem dksX0_init_1 : cX0_init.data.toList.drop 24 = dktX0_init_1 := dk_seg dksX0_init_0 24 rfl rfl
theorem dksX0_init_2 : cX0_init.data.toList.drop 48 = dktX0_init_2 := dk_seg dksX0_init_1 24 rfl rfl
theorem dksX0_init_3 : cX0_init.data.toList.drop 72 = dktX0_init_3 := dk_seg dksX0_init_2 24 rfl rfl
theorem dksX0_init_4 : cX0_init.data.toList.drop 96 = dktX0_init_4 := dk_seg dksX0_init_3 24 rfl rfl
theorem dksX0_init_5 : cX0_init.data.toList.drop 120 = dktX0_init_5 := dk_seg dksX0_init_4 24 rfl rfl
theorem dksX0_init_6 : cX0_init.data.toList.drop 144 = dktX0_init_6 := dk_seg dksX0_init_5 24 rfl rfl
theorem dksX0_init_7 : cX0_init.data.toList.drop 168 = dktX0_init_7 := dk_seg dksX0_init_6 24 rfl rfl
theorem dX0_init_0 : decode cX0_init 0 = .ok (.aload_n 0, 1) := dk_42 (dk_at dksX0_init_0 0 rfl rfl)
theorem dX0_init_1 : decode cX0_init 1 = .ok (.invokespecial 36, 3) := dk_183 0 36 (dk_at dksX0_init_0 1 rfl rfl)
theorem dX0_init_4 : decode cX0_init 4 = .ok (.aload_n 0, 1) := dk_42 (dk_at dksX0_init_0 4 rfl rfl)
theorem dX0_init_5 : decode cX0_init 5 = .ok (.new 42, 3) := dk_187 0 42 (dk_at dksX0_init_0 5 rfl rfl)
theorem dX0_init_8 : decode cX0_init 8 = .ok (.dup, 1) := dk_89 (dk_at dksX0_init_0 8 rfl rfl)
theorem dX0_init_9 : decode cX0_init 9 = .ok (.invokespecial 44, 3) := dk_183 0 44 (dk_at dksX0_init_0 9 rfl rfl)
theorem dX0_init_12 : decode cX0_init 12 = .ok (.putfield 45, 3) := dk_181 0 45 (dk_at dksX0_init_0 12 rfl rfl)
theorem dX0_init_15 : decode cX0_init 15 = .ok (.aload_n 0, 1) := dk_42 (dk_at dksX0_init_0 15 rfl rfl)
theorem dX0_init_16 : decode cX0_init 16 = .ok (.bipush 48, 2) := dk_16 48 (dk_at dksX0_init_0 16 rfl rfl)
theorem dX0_init_18 : decode cX0_init 18 = .ok (.newarray .boolean, 2) := dk_188_4 (dk_at dksX0_init_0 18 rfl rfl)
theorem dX0_init_20 : decode cX0_init 20 = .ok (.putfield 49, 3) := dk_181 0 49 (dk_at dksX0_init_0 20 rfl rfl)
theorem dX0_init_23 : decode cX0_init 23 = .ok (.aload_n 0, 1) := dk_42 (dk_at dksX0_init_0 23 rfl rfl)
theorem dX0_init_24 : decode cX0_init 24 = .ok (.bipush 48, 2) := dk_16 48 (dk_at dksX0_init_1 0 rfl rfl)
theorem dX0_init_26 : decode cX0_init 26 = .ok (.newarray .boolean, 2) := dk_188_4 (dk_at dksX0_init_1 2 rfl rfl)
theorem dX0_init_28 : decode cX0_init 28 = .ok (.putfield 53, 3) := dk_181 0 53 (dk_at dksX0_init_1 4 rfl rfl)
theorem dX0_init_31 : decode cX0_init 31 = .ok (.aload_n 0, 1) := dk_42 (dk_at dksX0_init_1 7 rfl rfl)
theorem dX0_init_32 : decode cX0_init 32 = .ok (.bipush 48, 2) := dk_16 48 (dk_at dksX0_init_1 8 rfl rfl)
theorem dX0_init_34 : decode cX0_init 34 = .ok (.newarray .int, 2) := dk_188_10 (dk_at dksX0_init_1 10 rfl rfl)
theorem dX0_init_36 : decode cX0_init 36 = .ok (.putfield 56, 3) := dk_181 0 56 (dk_at dksX0_init_1 12 rfl rfl)
theorem dX0_init_39 : decode cX0_init 39 = .ok (.aload_n 0, 1) := dk_42 (dk_at dksX0_init_1 15 rfl rfl)
theorem dX0_init_40 : decode cX0_init 40 = .ok (.new 60, 3) := dk_187 0 60 (dk_at dksX0_init_1 16 rfl rfl)
theorem dX0_init_43 : decode cX0_init 43 = .ok (.dup, 1) := dk_89 (dk_at dksX0_init_1 19 rfl rfl)
theorem dX0_init_44 : decode cX0_init 44 = .ok (.aload_n 0, 1) := dk_42 (dk_at dksX0_init_1 20 rfl rfl)
theorem dX0_init_45 : decode cX0_init 45 = .ok (.invokespecial 62, 3) := dk_183 0 62 (dk_at dksX0_init_1 21 rfl rfl)
theorem dX0_init_48 : decode cX0_init 48 = .ok (.putfield 65, 3) := dk_181 0 65 (dk_at dksX0_init_2 0 rfl rfl)
theorem dX0_init_51 : decode cX0_init 51 = .ok (.aload_n 0, 1) := dk_42 (dk_at dksX0_init_2 3 rfl rfl)
theorem dX0_init_52 : decode cX0_init 52 = .ok (.new 60, 3) := dk_187 0 60 (dk_at dksX0_init_2 4 rfl rfl)
theorem dX0_init_55 : decode cX0_init 55 = .ok (.dup, 1) := dk_89 (dk_at dksX0_init_2 7 rfl rfl)
theorem dX0_init_56 : decode cX0_init 56 = .ok (.aload_n 0, 1) := dk_42 (dk_at dksX0_init_2 8 rfl rfl)
theorem dX0_init_57 : decode cX0_init 57 = .ok (.invokespecial 62, 3) := dk_183 0 62 (dk_at dksX0_init_2 9 rfl rfl)
theorem dX0_init_60 : decode cX0_init 60 = .ok (.putfield 69, 3) := dk_181 0 69 (dk_at dksX0_init_2 12 rfl rfl)
theorem dX0_init_63 : decode cX0_init 63 = .ok (.aload_n 0, 1) := dk_42 (dk_at dksX0_init_2 15 rfl rfl)
theorem dX0_init_64 : decode cX0_init 64 = .ok (.new 60, 3) := dk_187 0 60 (dk_at dksX0_init_2 16 rfl rfl)
theorem dX0_init_67 : decode cX0_init 67 = .ok (.dup, 1) := dk_89 (dk_at dksX0_init_2 19 rfl rfl)
theorem dX0_init_68 : decode cX0_init 68 = .ok (.aload_n 0, 1) := dk_42 (dk_at dksX0_init_2 20 rfl rfl)
theorem dX0_init_69 : decode cX0_init 69 = .ok (.invokespecial 62, 3) := dk_183 0 62 (dk_at dksX0_init_2 21 rfl rfl)
theorem dX0_init_72 : decode cX0_init 72 = .ok (.putfield 72, 3) := dk_181 0 72 (dk_at dksX0_init_3 0 rfl rfl)
theorem dX0_init_75 : decode cX0_init 75 = .ok (.aload_n 0, 1) := dk_42 (dk_at dksX0_init_3 3 rfl rfl)
theorem dX0_init_76 : decode cX0_init 76 = .ok (.sipush 260, 3) := dk_17 1 4 (dk_at dksX0_init_3 4 rfl rfl)
theorem dX0_init_79 : decode cX0_init 79 = .ok (.newarray .byte, 2) := dk_188_8 (dk_at dksX0_init_3 7 rfl rfl)
theorem dX0_init_81 : decode cX0_init 81 = .ok (.putfield 75, 3) := dk_181 0 75 (dk_at dksX0_init_3 9 rfl rfl)
theorem dX0_init_84 : decode cX0_init 84 = .ok (.aload_n 0, 1) := dk_42 (dk_at dksX0_init_3 12 rfl rfl)
theorem dX0_init_85 : decode cX0_init 85 = .ok (.new 79, 3) := dk_187 0 79 (dk_at dksX0_init_3 13 rfl rfl)
theorem dX0_init_88 : decode cX0_init 88 = .ok (.dup, 1) := dk_89 (dk_at dksX0_init_3 16 rfl rfl)
theorem dX0_init_89 : decode cX0_init 89 = .ok (.invokespecial 81, 3) := dk_183 0 81 (dk_at dksX0_init_3 17 rfl rfl)
theorem dX0_init_92 : decode cX0_init 92 = .ok (.putfield 82, 3) := dk_181 0 82 (dk_at dksX0_init_3 20 rfl rfl)
theorem dX0_init_95 : decode cX0_init 95 = .ok (.aload_n 0, 1) := dk_42 (dk_at dksX0_init_3 23 rfl rfl)
theorem dX0_init_96 : decode cX0_init 96 = .ok (.bipush 63, 2) := dk_16 63 (dk_at dksX0_init_4 0 rfl rfl)
theorem dX0_init_98 : decode cX0_init 98 = .ok (.newarray .int, 2) := dk_188_10 (dk_at dksX0_init_4 2 rfl rfl)
theorem dX0_init_100 : decode cX0_init 100 = .ok (.putfield 86, 3) := dk_181 0 86 (dk_at dksX0_init_4 4 rfl rfl)
theorem dX0_init_103 : decode cX0_init 103 = .ok (.aload_n 0, 1) := dk_42 (dk_at dksX0_init_4 7 rfl rfl)
theorem dX0_init_104 : decode cX0_init 104 = .ok (.bipush 63, 2) := dk_16 63 (dk_at dksX0_init_4 8 rfl rfl)
theorem dX0_init_106 : decode cX0_init 106 = .ok (.newarray .int, 2) := dk_188_10 (dk_at dksX0_init_4 10 rfl rfl)
theorem dX0_init_108 : decode cX0_init 108 = .ok (.putfield 89, 3) := dk_181 0 89 (dk_at dksX0_init_4 12 rfl rfl)
theorem dX0_init_111 : decode cX0_init 111 = .ok (.aload_n 0, 1) := dk_42 (dk_at dksX0_init_4 15 rfl rfl)
theorem dX0_init_112 : decode cX0_init 112 = .ok (.bipush 63, 2) := dk_16 63 (dk_at dksX0_init_4 16 rfl rfl)
theorem dX0_init_114 : decode cX0_init 114 = .ok (.newarray .int, 2) := dk_188_10 (dk_at dksX0_init_4 18 rfl rfl)
theorem dX0_init_116 : decode cX0_init 116 = .ok (.putfield 92, 3) := dk_181 0 92 (dk_at dksX0_init_4 20 rfl rfl)
theorem dX0_init_119 : decode cX0_init 119 = .ok (.aload_n 0, 1) := dk_42 (dk_at dksX0_init_4 23 rfl rfl)
theorem dX0_init_120 : decode cX0_init 120 = .ok (.bipush 63, 2) := dk_16 63 (dk_at dksX0_init_5 0 rfl rfl)
theorem dX0_init_122 : decode cX0_init 122 = .ok (.newarray .int, 2) := dk_188_10 (dk_at dksX0_init_5 2 rfl rfl)
theorem dX0_init_124 : decode cX0_init 124 = .ok (.putfield 95, 3) := dk_181 0 95 (dk_at dksX0_init_5 4 rfl rfl)
theorem dX0_init_127 : decode cX0_init 127 = .ok (.aload_n 0, 1) := dk_42 (dk_at dksX0_init_5 7 rfl rfl)
theorem dX0_init_128 : decode cX0_init 128 = .ok (.bipush 48, 2) := dk_16 48 (dk_at dksX0_init_5 8 rfl rfl)
theorem dX0_init_130 : decode cX0_init 130 = .ok (.newarray .boolean, 2) := dk_188_4 (dk_at dksX0_init_5 10 rfl rfl)
theorem dX0_init_132 : decode cX0_init 132 = .ok (.putfield 98, 3) := dk_181 0 98 (dk_at dksX0_init_5 12 rfl rfl)
theorem dX0_init_135 : decode cX0_init 135 = .ok (.aload_n 0, 1) := dk_42 (dk_at dksX0_init_5 15 rfl rfl)
theorem dX0_init_136 : decode cX0_init 136 = .ok (.bipush 48, 2) := dk_16 48 (dk_at dksX0_init_5 16 rfl rfl)
theorem dX0_init_138 : decode cX0_init 138 = .ok (.newarray .int, 2) := dk_188_10 (dk_at dksX0_init_5 18 rfl rfl)
theorem dX0_init_140 : decode cX0_init 140 = .ok (.putfield 101, 3) := dk_181 0 101 (dk_at dksX0_init_5 20 rfl rfl)
theorem dX0_init_143 : decode cX0_init 143 = .ok (.aload_n 0, 1) := dk_42 (dk_at dksX0_init_5 23 rfl rfl)
theorem dX0_init_144 : decode cX0_init 144 = .ok (.bipush 48, 2) := dk_16 48 (dk_at dksX0_init_6 0 rfl rfl)
theorem dX0_init_146 : decode cX0_init 146 = .ok (.newarray .int, 2) := dk_188_10 (dk_at dksX0_init_6 2 rfl rfl)
theorem dX0_init_148 : decode cX0_init 148 = .ok (.putfield 104, 3) := dk_181 0 104 (dk_at dksX0_init_6 4 rfl rfl)
theorem dX0_init_151 : decode cX0_init 151 = .ok (.aload_n 0, 1) := dk_42 (dk_at dksX0_init_6 7 rfl rfl)
theorem dX0_init_152 : decode cX0_init 152 = .ok (.bipush 48, 2) := dk_16 48 (dk_at dksX0_init_6 8 rfl rfl)
theorem dX0_init_154 : decode cX0_init 154 = .ok (.newarray .int, 2) := dk_188_10 (dk_at dksX0_init_6 10 rfl rfl)
theorem dX0_init_156 : decode cX0_init 156 = .ok (.putfield 107, 3) := dk_181 0 107 (dk_at dksX0_init_6 12 rfl rfl)
theorem dX0_init_159 : decode cX0_init 159 = .ok (.aload_n 0, 1) := dk_42 (dk_at dksX0_init_6 15 rfl rfl)
theorem dX0_init_160 : decode cX0_init 160 = .ok (.bipush 48, 2) := dk_16 48 (dk_at dksX0_init_6 16 rfl rfl)
theorem dX0_init_162 : decode cX0_init 162 = .ok (.newarray .int, 2) := dk_188_10 (dk_at dksX0_init_6 18 rfl rfl)
theorem dX0_init_164 : decode cX0_init 164 = .ok (.putfield 110, 3) := dk_181 0 110 (dk_at dksX0_init_6 20 rfl rfl)
theorem dX0_init_167 : decode cX0_init 167 = .ok (.aload_n 0, 1) := dk_42 (dk_at dksX0_init_6 23 rfl rfl)
theorem dX0_init_168 : decode cX0_init 168 = .ok (.getfield 65, 3) := dk_180 0 65 (dk_at dksX0_init_7 0 rfl rfl)
theorem dX0_init_171 : decode cX0_init 171 = .ok (.iconst 1, 1) := dk_4 (dk_at dksX0_init_7 3 rfl rfl)
theorem dX0_init_172 : decode cX0_init 172 = .ok (.putfield 113, 3) := dk_181 0 113 (dk_at dksX0_init_7 4 rfl rfl)
theorem dX0_init_175 : decode cX0_init 175 = .ok (.return_, 1) := dk_177 (dk_at dksX0_init_7 7 rfl rfl)
abbrev cX0_height : ByteArray := prog_1_method_14_code
def yX0_height : MethodName := ⟨RX0, "height", "(III)Z"⟩
def dkwX0_height_1 : List UInt8 := [3, 172, 42, 180, 0, 65, 180, 0, 124, 27, 50, 28, 29, 79, 4, 172]
abbrev dktX0_height_1 : List UInt8 := dkwX0_height_1 ++ []
def dkwX0_height_0 : List UInt8 := [27, 184, 0, 117, 153, 0, 20, 28, 184, 0, 121, 153, 0, 13, 29, 3, 16, 25, 184, 0, 16, 154, 0, 5]
abbrev dktX0_height_0 : List UInt8 := dkwX0_height_0 ++ dktX0_height_1
theorem dksX0_height_0 : cX0_height.data.toList.drop 0 = dktX0_height_0 := by decide +kernel
theorem dksX0_height_1 : cX0_height.data.toList.drop 24 = dktX0_height_1 := dk_seg dksX0_height_0 24 rfl rfl
theorem dX0_height_0 : decode cX0_height 0 = .ok (.iload_n 1, 1) := dk_27 (dk_at dksX0_height_0 0 rfl rfl)
theorem dX0_height_1 : decode cX0_height 1 = .ok (.invokestatic 117, 3) := dk_184 0 117 (dk_at dksX0_height_0 1 rfl rfl)
theorem dX0_height_4 : decode cX0_height 4 = .ok (.ifCond .eq 20, 3) := dk_153 0 20 (dk_at dksX0_height_0 4 rfl rfl)
theorem dX0_height_7 : decode cX0_height 7 = .ok (.iload_n 2, 1) := dk_28 (dk_at dksX0_height_0 7 rfl rfl)
theorem dX0_height_8 : decode cX0_height 8 = .ok (.invokestatic 121, 3) := dk_184 0 121 (dk_at dksX0_height_0 8 rfl rfl)
theorem dX0_height_11 : decode cX0_height 11 = .ok (.ifCond .eq 13, 3) := dk_153 0 13 (dk_at dksX0_height_0 11 rfl rfl)
theorem dX0_height_14 : decode cX0_height 14 = .ok (.iload_n 3, 1) := dk_29 (dk_at dksX0_height_0 14 rfl rfl)
theorem dX0_height_15 : decode cX0_height 15 = .ok (.iconst 0, 1) := dk_3 (dk_at dksX0_height_0 15 rfl rfl)
theorem dX0_height_16 : decode cX0_height 16 = .ok (.bipush 25, 2) := dk_16 25 (dk_at dksX0_height_0 16 rfl rfl)
theorem dX0_height_18 : decode cX0_height 18 = .ok (.invokestatic 16, 3) := dk_184 0 16 (dk_at dksX0_height_0 18 rfl rfl)
theorem dX0_height_21 : decode cX0_height 21 = .ok (.ifCond .ne 5, 3) := dk_154 0 5 (dk_at dksX0_height_0 21 rfl rfl)
theorem dX0_height_24 : decode cX0_height 24 = .ok (.iconst 0, 1) := dk_3 (dk_at dksX0_height_1 0 rfl rfl)
theorem dX0_height_25 : decode cX0_height 25 = .ok (.ireturn, 1) := dk_172 (dk_at dksX0_height_1 1 rfl rfl)
theorem dX0_height_26 : decode cX0_height 26 = .ok (.aload_n 0, 1) := dk_42 (dk_at dksX0_height_1 2 rfl rfl)
theorem dX0_height_27 : decode cX0_height 27 = .ok (.getfield 65, 3) := dk_180 0 65 (dk_at dksX0_height_1 3 rfl rfl)
theorem dX0_height_30 : decode cX0_height 30 = .ok (.getfield 124, 3) := dk_180 0 124 (dk_at dksX0_height_1 6 rfl rfl)
theorem dX0_height_33 : decode cX0_height 33 = .ok (.iload_n 1, 1) := dk_27 (dk_at dksX0_height_1 9 rfl rfl)
theorem dX0_height_34 : decode cX0_height 34 = .ok (.aaload, 1) := dk_50 (dk_at dksX0_height_1 10 rfl rfl)
theorem dX0_height_35 : decode cX0_height 35 = .ok (.iload_n 2, 1) := dk_28 (dk_at dksX0_height_1 11 rfl rfl)
theorem dX0_height_36 : decode cX0_height 36 = .ok (.iload_n 3, 1) := dk_29 (dk_at dksX0_height_1 12 rfl rfl)
theorem dX0_height_37 : decode cX0_height 37 = .ok (.iastore, 1) := dk_79 (dk_at dksX0_height_1 13 rfl rfl)
theorem dX0_height_38 : decode cX0_height 38 = .ok (.iconst 1, 1) := dk_4 (dk_at dksX0_height_1 14 rfl rfl)
theorem dX0_height_39 : decode cX0_height 39 = .ok (.ireturn, 1) := dk_172 (dk_at dksX0_height_1 15 rfl rfl)
abbrev cX0_isCast : ByteArray := prog_1_method_12_code
def yX0_isCast : MethodName := ⟨RX0, "isCast", "(I)Z"⟩
def dkwX0_isCast_0 : List UInt8 := [26, 5, 184, 0, 12, 172]
abbrev dktX0_isCast_0 : List UInt8 := dkwX0_isCast_0 ++ []
theorem dksX0_isCast_0 : cX0_isCast.data.toList.drop 0 = dktX0_isCast_0 := by decide +kernel
theorem dX0_isCast_0 : decode cX0_isCast 0 = .ok (.iload_n 0, 1) := dk_26 (dk_at dksX0_isCast_0 0 rfl rfl)
theorem dX0_isCast_1 : decode cX0_isCast 1 = .ok (.iconst 2, 1) := dk_5 (dk_at dksX0_isCast_0 1 rfl rfl)
theorem dX0_isCast_2 : decode cX0_isCast 2 = .ok (.invokestatic 12, 3) := dk_184 0 12 (dk_at dksX0_isCast_0 2 rfl rfl)
theorem dX0_isCast_5 : decode cX0_isCast 5 = .ok (.ireturn, 1) := dk_172 (dk_at dksX0_isCast_0 5 rfl rfl)
abbrev cX0_in : ByteArray := prog_1_method_1_code
def yX0_in : MethodName := ⟨RX0, "in", "(II)Z"⟩
def dkwX0_in_0 : List UInt8 := [26, 155, 0, 12, 26, 27, 162, 0, 7, 4, 167, 0, 4, 3, 172]
abbrev dktX0_in_0 : List UInt8 := dkwX0_in_0 ++ []
theorem dksX0_in_0 : cX0_in.data.toList.drop 0 = dktX0_in_0 := by decide +kernel
theorem dX0_in_0 : decode cX0_in 0 = .ok (.iload_n 0, 1) := dk_26 (dk_at dksX0_in_0 0 rfl rfl)
theorem dX0_in_1 : decode cX0_in 1 = .ok (.ifCond .lt 12, 3) := dk_155 0 12 (dk_at dksX0_in_0 1 rfl rfl)
theorem dX0_in_4 : decode cX0_in 4 = .ok (.iload_n 0, 1) := dk_26 (dk_at dksX0_in_0 4 rfl rfl)
theorem dX0_in_5 : decode cX0_in 5 = .ok (.iload_n 1, 1) := dk_27 (dk_at dksX0_in_0 5 rfl rfl)
theorem dX0_in_6 : decode cX0_in 6 = .ok (.if_icmp .ge 7, 3) := dk_162 0 7 (dk_at dksX0_in_0 6 rfl rfl)
theorem dX0_in_9 : decode cX0_in 9 = .ok (.iconst 1, 1) := dk_4 (dk_at dksX0_in_0 9 rfl rfl)
theorem dX0_in_10 : decode cX0_in 10 = .ok (.goto 4, 3) := dk_167 0 4 (dk_at dksX0_in_0 10 rfl rfl)
theorem dX0_in_13 : decode cX0_in 13 = .ok (.iconst 0, 1) := dk_3 (dk_at dksX0_in_0 13 rfl rfl)
theorem dX0_in_14 : decode cX0_in 14 = .ok (.ireturn, 1) := dk_172 (dk_at dksX0_in_0 14 rfl rfl)
abbrev cX0_isPlace : ByteArray := prog_1_method_13_code
def yX0_isPlace : MethodName := ⟨RX0, "isPlace", "(I)Z"⟩
def dkwX0_isPlace_0 : List UInt8 := [26, 16, 48, 184, 0, 12, 172]
abbrev dktX0_isPlace_0 : List UInt8 := dkwX0_isPlace_0 ++ []
theorem dksX0_isPlace_0 : cX0_isPlace.data.toList.drop 0 = dktX0_isPlace_0 := by decide +kernel
theorem dX0_isPlace_0 : decode cX0_isPlace 0 = .ok (.iload_n 0, 1) := dk_26 (dk_at dksX0_isPlace_0 0 rfl rfl)
theorem dX0_isPlace_1 : decode cX0_isPlace 1 = .ok (.bipush 48, 2) := dk_16 48 (dk_at dksX0_isPlace_0 1 rfl rfl)
theorem dX0_isPlace_3 : decode cX0_isPlace 3 = .ok (.invokestatic 12, 3) := dk_184 0 12 (dk_at dksX0_isPlace_0 3 rfl rfl)
theorem dX0_isPlace_6 : decode cX0_isPlace 6 = .ok (.ireturn, 1) := dk_172 (dk_at dksX0_isPlace_0 6 rfl rfl)
abbrev cX0_within : ByteArray := prog_1_method_2_code
def yX0_within : MethodName := ⟨RX0, "within", "(III)Z"⟩
def dkwX0_within_0 : List UInt8 := [26, 27, 161, 0, 12, 26, 28, 163, 0, 7, 4, 167, 0, 4, 3, 172]
abbrev dktX0_within_0 : List UInt8 := dkwX0_within_0 ++ []
theorem dksX0_within_0 : cX0_within.data.toList.drop 0 = dktX0_within_0 := by decide +kernel
theorem dX0_within_0 : decode cX0_within 0 = .ok (.iload_n 0, 1) := dk_26 (dk_at dksX0_within_0 0 rfl rfl)
theorem dX0_within_1 : decode cX0_within 1 = .ok (.iload_n 1, 1) := dk_27 (dk_at dksX0_within_0 1 rfl rfl)
theorem dX0_within_2 : decode cX0_within 2 = .ok (.if_icmp .lt 12, 3) := dk_161 0 12 (dk_at dksX0_within_0 2 rfl rfl)
theorem dX0_within_5 : decode cX0_within 5 = .ok (.iload_n 0, 1) := dk_26 (dk_at dksX0_within_0 5 rfl rfl)
theorem dX0_within_6 : decode cX0_within 6 = .ok (.iload_n 2, 1) := dk_28 (dk_at dksX0_within_0 6 rfl rfl)
theorem dX0_within_7 : decode cX0_within 7 = .ok (.if_icmp .gt 7, 3) := dk_163 0 7 (dk_at dksX0_within_0 7 rfl rfl)
theorem dX0_within_10 : decode cX0_within 10 = .ok (.iconst 1, 1) := dk_4 (dk_at dksX0_within_0 10 rfl rfl)
theorem dX0_within_11 : decode cX0_within 11 = .ok (.goto 4, 3) := dk_167 0 4 (dk_at dksX0_within_0 11 rfl rfl)
theorem dX0_within_14 : decode cX0_within 14 = .ok (.iconst 0, 1) := dk_3 (dk_at dksX0_within_0 14 rfl rfl)
theorem dX0_within_15 : decode cX0_within 15 = .ok (.ireturn, 1) := dk_172 (dk_at dksX0_within_0 15 rfl rfl)
abbrev cX0_keepOff : ByteArray := prog_1_method_15_code
def yX0_keepOff : MethodName := ⟨RX0, "keepOff", "(IZ)Z"⟩
def dkwX0_keepOff_0 : List UInt8 := [27, 184, 0, 121, 154, 0, 5, 3, 172, 42, 180, 0, 49, 27, 28, 84, 4, 172]
abbrev dktX0_keepOff_0 : List UInt8 := dkwX0_keepOff_0 ++ []
theorem dksX0_keepOff_0 : cX0_keepOff.data.toList.drop 0 = dktX0_keepOff_0 := by decide +kernel
theorem dX0_keepOff_0 : decode cX0_keepOff 0 = .ok (.iload_n 1, 1) := dk_27 (dk_at dksX0_keepOff_0 0 rfl rfl)
theorem dX0_keepOff_1 : decode cX0_keepOff 1 = .ok (.invokestatic 121, 3) := dk_184 0 121 (dk_at dksX0_keepOff_0 1 rfl rfl)
theorem dX0_keepOff_4 : decode cX0_keepOff 4 = .ok (.ifCond .ne 5, 3) := dk_154 0 5 (dk_at dksX0_keepOff_0 4 rfl rfl)
theorem dX0_keepOff_7 : decode cX0_keepOff 7 = .ok (.iconst 0, 1) := dk_3 (dk_at dksX0_keepOff_0 7 rfl rfl)
theorem dX0_keepOff_8 : decode cX0_keepOff 8 = .ok (.ireturn, 1) := dk_172 (dk_at dksX0_keepOff_0 8 rfl rfl)
theorem dX0_keepOff_9 : decode cX0_keepOff 9 = .ok (.aload_n 0, 1) := dk_42 (dk_at dksX0_keepOff_0 9 rfl rfl)
theorem dX0_keepOff_10 : decode cX0_keepOff 10 = .ok (.getfield 49, 3) := dk_180 0 49 (dk_at dksX0_keepOff_0 10 rfl rfl)
theorem dX0_keepOff_13 : decode cX0_keepOff 13 = .ok (.iload_n 1, 1) := dk_27 (dk_at dksX0_keepOff_0 13 rfl rfl)
theorem dX0_keepOff_14 : decode cX0_keepOff 14 = .ok (.iload_n 2, 1) := dk_28 (dk_at dksX0_keepOff_0 14 rfl rfl)
theorem dX0_keepOff_15 : decode cX0_keepOff 15 = .ok (.bastore, 1) := dk_84 (dk_at dksX0_keepOff_0 15 rfl rfl)
theorem dX0_keepOff_16 : decode cX0_keepOff 16 = .ok (.iconst 1, 1) := dk_4 (dk_at dksX0_keepOff_0 16 rfl rfl)
theorem dX0_keepOff_17 : decode cX0_keepOff 17 = .ok (.ireturn, 1) := dk_172 (dk_at dksX0_keepOff_0 17 rfl rfl)
abbrev cX0_feed : ByteArray := prog_1_method_17_code
def yX0_feed : MethodName := ⟨RX0, "feed", "(IIIII)I"⟩
def dkwX0_feed_2 : List UInt8 := [172]
abbrev dktX0_feed_2 : List UInt8 := dkwX0_feed_2 ++ []
def dkwX0_feed_1 : List UInt8 := [182, 0, 131, 42, 29, 182, 0, 131, 42, 21, 4, 182, 0, 131, 42, 21, 5, 182, 0, 131, 42, 180, 0, 128]
abbrev dktX0_feed_1 : List UInt8 := dkwX0_feed_1 ++ dktX0_feed_2
def dkwX0_feed_0 : List UInt8 := [42, 180, 0, 128, 16, 20, 96, 17, 1, 4, 164, 0, 5, 2, 172, 42, 27, 182, 0, 131, 42, 28]
abbrev dktX0_feed_0 : List UInt8 := dkwX0_feed_0 ++ dktX0_feed_1
theorem dksX0_feed_0 : cX0_feed.data.toList.drop 0 = dktX0_feed_0 := by decide +kernel
theorem dksX0_feed_1 : cX0_feed.data.toList.drop 22 = dktX0_feed_1 := dk_seg dksX0_feed_0 22 rfl rfl
theorem dksX0_feed_2 : cX0_feed.data.toList.drop 46 = dktX0_feed_2 := dk_seg dksX0_feed_1 24 rfl rfl
theorem dX0_feed_0 : decode cX0_feed 0 = .ok (.aload_n 0, 1) := dk_42 (dk_at dksX0_feed_0 0 rfl rfl)
theorem dX0_feed_1 : decode cX0_feed 1 = .ok (.getfield 128, 3) := dk_180 0 128 (dk_at dksX0_feed_0 1 rfl rfl)
theorem dX0_feed_4 : decode cX0_feed 4 = .ok (.bipush 20, 2) := dk_16 20 (dk_at dksX0_feed_0 4 rfl rfl)
theorem dX0_feed_6 : decode cX0_feed 6 = .ok (.iadd, 1) := dk_96 (dk_at dksX0_feed_0 6 rfl rfl)
theorem dX0_feed_7 : decode cX0_feed 7 = .ok (.sipush 260, 3) := dk_17 1 4 (dk_at dksX0_feed_0 7 rfl rfl)
theorem dX0_feed_10 : decode cX0_feed 10 = .ok (.if_icmp .le 5, 3) := dk_164 0 5 (dk_at dksX0_feed_0 10 rfl rfl)
theorem dX0_feed_13 : decode cX0_feed 13 = .ok (.iconst (-1), 1) := dk_2 (dk_at dksX0_feed_0 13 rfl rfl)
theorem dX0_feed_14 : decode cX0_feed 14 = .ok (.ireturn, 1) := dk_172 (dk_at dksX0_feed_0 14 rfl rfl)
theorem dX0_feed_15 : decode cX0_feed 15 = .ok (.aload_n 0, 1) := dk_42 (dk_at dksX0_feed_0 15 rfl rfl)
theorem dX0_feed_16 : decode cX0_feed 16 = .ok (.iload_n 1, 1) := dk_27 (dk_at dksX0_feed_0 16 rfl rfl)
theorem dX0_feed_17 : decode cX0_feed 17 = .ok (.invokevirtual 131, 3) := dk_182 0 131 (dk_at dksX0_feed_0 17 rfl rfl)
theorem dX0_feed_20 : decode cX0_feed 20 = .ok (.aload_n 0, 1) := dk_42 (dk_at dksX0_feed_0 20 rfl rfl)
theorem dX0_feed_21 : decode cX0_feed 21 = .ok (.iload_n 2, 1) := dk_28 (dk_at dksX0_feed_0 21 rfl rfl)
theorem dX0_feed_22 : decode cX0_feed 22 = .ok (.invokevirtual 131, 3) := dk_182 0 131 (dk_at dksX0_feed_1 0 rfl rfl)
theorem dX0_feed_25 : decode cX0_feed 25 = .ok (.aload_n 0, 1) := dk_42 (dk_at dksX0_feed_1 3 rfl rfl)
theorem dX0_feed_26 : decode cX0_feed 26 = .ok (.iload_n 3, 1) := dk_29 (dk_at dksX0_feed_1 4 rfl rfl)
theorem dX0_feed_27 : decode cX0_feed 27 = .ok (.invokevirtual 131, 3) := dk_182 0 131 (dk_at dksX0_feed_1 5 rfl rfl)
theorem dX0_feed_30 : decode cX0_feed 30 = .ok (.aload_n 0, 1) := dk_42 (dk_at dksX0_feed_1 8 rfl rfl)
theorem dX0_feed_31 : decode cX0_feed 31 = .ok (.iload 4, 2) := dk_21 4 (dk_at dksX0_feed_1 9 rfl rfl)
theorem dX0_feed_33 : decode cX0_feed 33 = .ok (.invokevirtual 131, 3) := dk_182 0 131 (dk_at dksX0_feed_1 11 rfl rfl)
theorem dX0_feed_36 : decode cX0_feed 36 = .ok (.aload_n 0, 1) := dk_42 (dk_at dksX0_feed_1 14 rfl rfl)
theorem dX0_feed_37 : decode cX0_feed 37 = .ok (.iload 5, 2) := dk_21 5 (dk_at dksX0_feed_1 15 rfl rfl)
theorem dX0_feed_39 : decode cX0_feed 39 = .ok (.invokevirtual 131, 3) := dk_182 0 131 (dk_at dksX0_feed_1 17 rfl rfl)
theorem dX0_feed_42 : decode cX0_feed 42 = .ok (.aload_n 0, 1) := dk_42 (dk_at dksX0_feed_1 20 rfl rfl)
theorem dX0_feed_43 : decode cX0_feed 43 = .ok (.getfield 128, 3) := dk_180 0 128 (dk_at dksX0_feed_1 21 rfl rfl)
theorem dX0_feed_46 : decode cX0_feed 46 = .ok (.ireturn, 1) := dk_172 (dk_at dksX0_feed_2 0 rfl rfl)
abbrev cX0_push : ByteArray := prog_1_method_16_code
def yX0_push : MethodName := ⟨RX0, "push", "(I)V"⟩
def dkwX0_push_1 : List UInt8 := [180, 0, 128, 4, 96, 181, 0, 128, 132, 2, 248, 167, 255, 226, 177]
abbrev dktX0_push_1 : List UInt8 := dkwX0_push_1 ++ []
def dkwX0_push_0 : List UInt8 := [16, 24, 61, 28, 155, 0, 32, 42, 180, 0, 75, 42, 180, 0, 128, 27, 28, 122, 145, 84, 42, 89]
abbrev dktX0_push_0 : List UInt8 := dkwX0_push_0 ++ dktX0_push_1
theorem dksX0_push_0 : cX0_push.data.toList.drop 0 = dktX0_push_0 := by decide +kernel
theorem dksX0_push_1 : cX0_push.data.toList.drop 22 = dktX0_push_1 := dk_seg dksX0_push_0 22 rfl rfl
theorem dX0_push_0 : decode cX0_push 0 = .ok (.bipush 24, 2) := dk_16 24 (dk_at dksX0_push_0 0 rfl rfl)
theorem dX0_push_2 : decode cX0_push 2 = .ok (.istore_n 2, 1) := dk_61 (dk_at dksX0_push_0 2 rfl rfl)
theorem dX0_push_3 : decode cX0_push 3 = .ok (.iload_n 2, 1) := dk_28 (dk_at dksX0_push_0 3 rfl rfl)
theorem dX0_push_4 : decode cX0_push 4 = .ok (.ifCond .lt 32, 3) := dk_155 0 32 (dk_at dksX0_push_0 4 rfl rfl)
theorem dX0_push_7 : decode cX0_push 7 = .ok (.aload_n 0, 1) := dk_42 (dk_at dksX0_push_0 7 rfl rfl)
theorem dX0_push_8 : decode cX0_push 8 = .ok (.getfield 75, 3) := dk_180 0 75 (dk_at dksX0_push_0 8 rfl rfl)
theorem dX0_push_11 : decode cX0_push 11 = .ok (.aload_n 0, 1) := dk_42 (dk_at dksX0_push_0 11 rfl rfl)
theorem dX0_push_12 : decode cX0_push 12 = .ok (.getfield 128, 3) := dk_180 0 128 (dk_at dksX0_push_0 12 rfl rfl)
theorem dX0_push_15 : decode cX0_push 15 = .ok (.iload_n 1, 1) := dk_27 (dk_at dksX0_push_0 15 rfl rfl)
theorem dX0_push_16 : decode cX0_push 16 = .ok (.iload_n 2, 1) := dk_28 (dk_at dksX0_push_0 16 rfl rfl)
theorem dX0_push_17 : decode cX0_push 17 = .ok (.ishr, 1) := dk_122 (dk_at dksX0_push_0 17 rfl rfl)
theorem dX0_push_18 : decode cX0_push 18 = .ok (.i2b, 1) := dk_145 (dk_at dksX0_push_0 18 rfl rfl)
theorem dX0_push_19 : decode cX0_push 19 = .ok (.bastore, 1) := dk_84 (dk_at dksX0_push_0 19 rfl rfl)
theorem dX0_push_20 : decode cX0_push 20 = .ok (.aload_n 0, 1) := dk_42 (dk_at dksX0_push_0 20 rfl rfl)
theorem dX0_push_21 : decode cX0_push 21 = .ok (.dup, 1) := dk_89 (dk_at dksX0_push_0 21 rfl rfl)
theorem dX0_push_22 : decode cX0_push 22 = .ok (.getfield 128, 3) := dk_180 0 128 (dk_at dksX0_push_1 0 rfl rfl)
theorem dX0_push_25 : decode cX0_push 25 = .ok (.iconst 1, 1) := dk_4 (dk_at dksX0_push_1 3 rfl rfl)
theorem dX0_push_26 : decode cX0_push 26 = .ok (.iadd, 1) := dk_96 (dk_at dksX0_push_1 4 rfl rfl)
theorem dX0_push_27 : decode cX0_push 27 = .ok (.putfield 128, 3) := dk_181 0 128 (dk_at dksX0_push_1 5 rfl rfl)
theorem dX0_push_30 : decode cX0_push 30 = .ok (.iinc 2 (-8), 3) := dk_132 2 248 (dk_at dksX0_push_1 8 rfl rfl)
theorem dX0_push_33 : decode cX0_push 33 = .ok (.goto (-30), 3) := dk_167 255 226 (dk_at dksX0_push_1 11 rfl rfl)
theorem dX0_push_36 : decode cX0_push 36 = .ok (.return_, 1) := dk_177 (dk_at dksX0_push_1 14 rfl rfl)
abbrev cX0_law : ByteArray := prog_1_method_18_code
def yX0_law : MethodName := ⟨RX0, "law", "(I)I"⟩
def dkwX0_law_2 : List UInt8 := [180, 0, 144, 181, 0, 82, 29, 172]
abbrev dktX0_law_2 : List UInt8 := dkwX0_law_2 ++ []
def dkwX0_law_1 : List UInt8 := [181, 0, 128, 187, 0, 135, 89, 42, 27, 183, 0, 137, 77, 44, 182, 0, 140, 62, 29, 155, 0, 11, 42, 44]
abbrev dktX0_law_1 : List UInt8 := dkwX0_law_1 ++ dktX0_law_2
def dkwX0_law_0 : List UInt8 := [27, 4, 17, 0, 240, 184, 0, 16, 153, 0, 11, 27, 42, 180, 0, 128, 164, 0, 5, 2, 172, 42, 3]
abbrev dktX0_law_0 : List UInt8 := dkwX0_law_0 ++ dktX0_law_1
theorem dksX0_law_0 : cX0_law.data.toList.drop 0 = dktX0_law_0 := by decide +kernel
theorem dksX0_law_1 : cX0_law.data.toList.drop 23 = dktX0_law_1 := dk_seg dksX0_law_0 23 rfl rfl
theorem dksX0_law_2 : cX0_law.data.toList.drop 47 = dktX0_law_2 := dk_seg dksX0_law_1 24 rfl rfl
theorem dX0_law_0 : decode cX0_law 0 = .ok (.iload_n 1, 1) := dk_27 (dk_at dksX0_law_0 0 rfl rfl)
theorem dX0_law_1 : decode cX0_law 1 = .ok (.iconst 1, 1) := dk_4 (dk_at dksX0_law_0 1 rfl rfl)
theorem dX0_law_2 : decode cX0_law 2 = .ok (.sipush 240, 3) := dk_17 0 240 (dk_at dksX0_law_0 2 rfl rfl)
theorem dX0_law_5 : decode cX0_law 5 = .ok (.invokestatic 16, 3) := dk_184 0 16 (dk_at dksX0_law_0 5 rfl rfl)
theorem dX0_law_8 : decode cX0_law 8 = .ok (.ifCond .eq 11, 3) := dk_153 0 11 (dk_at dksX0_law_0 8 rfl rfl)
theorem dX0_law_11 : decode cX0_law 11 = .ok (.iload_n 1, 1) := dk_27 (dk_at dksX0_law_0 11 rfl rfl)
theorem dX0_law_12 : decode cX0_law 12 = .ok (.aload_n 0, 1) := dk_42 (dk_at dksX0_law_0 12 rfl rfl)
theorem dX0_law_13 : decode cX0_law 13 = .ok (.getfield 128, 3) := dk_180 0 128 (dk_at dksX0_law_0 13 rfl rfl)
theorem dX0_law_16 : decode cX0_law 16 = .ok (.if_icmp .le 5, 3) := dk_164 0 5 (dk_at dksX0_law_0 16 rfl rfl)
theorem dX0_law_19 : decode cX0_law 19 = .ok (.iconst (-1), 1) := dk_2 (dk_at dksX0_law_0 19 rfl rfl)
theorem dX0_law_20 : decode cX0_law 20 = .ok (.ireturn, 1) := dk_172 (dk_at dksX0_law_0 20 rfl rfl)
theorem dX0_law_21 : decode cX0_law 21 = .ok (.aload_n 0, 1) := dk_42 (dk_at dksX0_law_0 21 rfl rfl)
theorem dX0_law_22 : decode cX0_law 22 = .ok (.iconst 0, 1) := dk_3 (dk_at dksX0_law_0 22 rfl rfl)
theorem dX0_law_23 : decode cX0_law 23 = .ok (.putfield 128, 3) := dk_181 0 128 (dk_at dksX0_law_1 0 rfl rfl)
theorem dX0_law_26 : decode cX0_law 26 = .ok (.new 135, 3) := dk_187 0 135 (dk_at dksX0_law_1 3 rfl rfl)
theorem dX0_law_29 : decode cX0_law 29 = .ok (.dup, 1) := dk_89 (dk_at dksX0_law_1 6 rfl rfl)
theorem dX0_law_30 : decode cX0_law 30 = .ok (.aload_n 0, 1) := dk_42 (dk_at dksX0_law_1 7 rfl rfl)
theorem dX0_law_31 : decode cX0_law 31 = .ok (.iload_n 1, 1) := dk_27 (dk_at dksX0_law_1 8 rfl rfl)
theorem dX0_law_32 : decode cX0_law 32 = .ok (.invokespecial 137, 3) := dk_183 0 137 (dk_at dksX0_law_1 9 rfl rfl)
theorem dX0_law_35 : decode cX0_law 35 = .ok (.astore_n 2, 1) := dk_77 (dk_at dksX0_law_1 12 rfl rfl)
theorem dX0_law_36 : decode cX0_law 36 = .ok (.aload_n 2, 1) := dk_44 (dk_at dksX0_law_1 13 rfl rfl)
theorem dX0_law_37 : decode cX0_law 37 = .ok (.invokevirtual 140, 3) := dk_182 0 140 (dk_at dksX0_law_1 14 rfl rfl)
theorem dX0_law_40 : decode cX0_law 40 = .ok (.istore_n 3, 1) := dk_62 (dk_at dksX0_law_1 17 rfl rfl)
theorem dX0_law_41 : decode cX0_law 41 = .ok (.iload_n 3, 1) := dk_29 (dk_at dksX0_law_1 18 rfl rfl)
theorem dX0_law_42 : decode cX0_law 42 = .ok (.ifCond .lt 11, 3) := dk_155 0 11 (dk_at dksX0_law_1 19 rfl rfl)
theorem dX0_law_45 : decode cX0_law 45 = .ok (.aload_n 0, 1) := dk_42 (dk_at dksX0_law_1 22 rfl rfl)
theorem dX0_law_46 : decode cX0_law 46 = .ok (.aload_n 2, 1) := dk_44 (dk_at dksX0_law_1 23 rfl rfl)
theorem dX0_law_47 : decode cX0_law 47 = .ok (.getfield 144, 3) := dk_180 0 144 (dk_at dksX0_law_2 0 rfl rfl)
theorem dX0_law_50 : decode cX0_law 50 = .ok (.putfield 82, 3) := dk_181 0 82 (dk_at dksX0_law_2 3 rfl rfl)
theorem dX0_law_53 : decode cX0_law 53 = .ok (.iload_n 3, 1) := dk_29 (dk_at dksX0_law_2 6 rfl rfl)
theorem dX0_law_54 : decode cX0_law 54 = .ok (.ireturn, 1) := dk_172 (dk_at dksX0_law_2 7 rfl rfl)
abbrev cX0_casts : ByteArray := prog_1_method_19_code
def yX0_casts : MethodName := ⟨RX0, "casts", "(I)I"⟩
def dkwX0_casts_4 : List UInt8 := [167, 255, 223, 42, 180, 0, 65, 180, 0, 154, 21, 4, 3, 79, 132, 4, 1, 167, 255, 197, 29, 172]
abbrev dktX0_casts_4 : List UInt8 := dkwX0_casts_4 ++ []
def dkwX0_casts_3 : List UInt8 := [180, 0, 124, 21, 4, 50, 21, 5, 44, 180, 0, 151, 21, 4, 50, 21, 5, 46, 79, 132, 5, 1]
abbrev dktX0_casts_3 : List UInt8 := dkwX0_casts_3 ++ dktX0_casts_4
def dkwX0_casts_2 : List UInt8 := [3, 54, 4, 21, 4, 5, 162, 0, 59, 3, 54, 5, 21, 5, 16, 48, 162, 0, 32, 42, 180, 0, 65]
abbrev dktX0_casts_2 : List UInt8 := dkwX0_casts_2 ++ dktX0_casts_3
def dkwX0_casts_1 : List UInt8 := [181, 0, 128, 187, 0, 147, 89, 42, 27, 183, 0, 149, 77, 44, 182, 0, 150, 62, 29, 156, 0, 5, 29, 172]
abbrev dktX0_casts_1 : List UInt8 := dkwX0_casts_1 ++ dktX0_casts_2
def dkwX0_casts_0 : List UInt8 := [27, 4, 17, 0, 240, 184, 0, 16, 153, 0, 11, 27, 42, 180, 0, 128, 164, 0, 5, 2, 172, 42, 3]
abbrev dktX0_casts_0 : List UInt8 := dkwX0_casts_0 ++ dktX0_casts_1
theorem dksX0_casts_0 : cX0_casts.data.toList.drop 0 = dktX0_casts_0 := by decide +kernel
theorem dksX0_casts_1 : cX0_casts.data.toList.drop 23 = dktX0_casts_1 := dk_seg dksX0_casts_0 23 rfl rfl
theorem dksX0_casts_2 : cX0_casts.data.toList.drop 47 = dktX0_casts_2 := dk_seg dksX0_casts_1 24 rfl rfl
theorem dksX0_casts_3 : cX0_casts.data.toList.drop 70 = dktX0_casts_3 := dk_seg dksX0_casts_2 23 rfl rfl
theorem dksX0_casts_4 : cX0_casts.data.toList.drop 92 = dktX0_casts_4 := dk_seg dksX0_casts_3 22 rfl rfl
theorem dX0_casts_0 : decode cX0_casts 0 = .ok (.iload_n 1, 1) := dk_27 (dk_at dksX0_casts_0 0 rfl rfl)
theorem dX0_casts_1 : decode cX0_casts 1 = .ok (.iconst 1, 1) := dk_4 (dk_at dksX0_casts_0 1 rfl rfl)
theorem dX0_casts_2 : decode cX0_casts 2 = .ok (.sipush 240, 3) := dk_17 0 240 (dk_at dksX0_casts_0 2 rfl rfl)
theorem dX0_casts_5 : decode cX0_casts 5 = .ok (.invokestatic 16, 3) := dk_184 0 16 (dk_at dksX0_casts_0 5 rfl rfl)
theorem dX0_casts_8 : decode cX0_casts 8 = .ok (.ifCond .eq 11, 3) := dk_153 0 11 (dk_at dksX0_casts_0 8 rfl rfl)
theorem dX0_casts_11 : decode cX0_casts 11 = .ok (.iload_n 1, 1) := dk_27 (dk_at dksX0_casts_0 11 rfl rfl)
theorem dX0_casts_12 : decode cX0_casts 12 = .ok (.aload_n 0, 1) := dk_42 (dk_at dksX0_casts_0 12 rfl rfl)
theorem dX0_casts_13 : decode cX0_casts 13 = .ok (.getfield 128, 3) := dk_180 0 128 (dk_at dksX0_casts_0 13 rfl rfl)
theorem dX0_casts_16 : decode cX0_casts 16 = .ok (.if_icmp .le 5, 3) := dk_164 0 5 (dk_at dksX0_casts_0 16 rfl rfl)
theorem dX0_casts_19 : decode cX0_casts 19 = .ok (.iconst (-1), 1) := dk_2 (dk_at dksX0_casts_0 19 rfl rfl)
theorem dX0_casts_20 : decode cX0_casts 20 = .ok (.ireturn, 1) := dk_172 (dk_at dksX0_casts_0 20 rfl rfl)
theorem dX0_casts_21 : decode cX0_casts 21 = .ok (.aload_n 0, 1) := dk_42 (dk_at dksX0_casts_0 21 rfl rfl)
theorem dX0_casts_22 : decode cX0_casts 22 = .ok (.iconst 0, 1) := dk_3 (dk_at dksX0_casts_0 22 rfl rfl)
theorem dX0_casts_23 : decode cX0_casts 23 = .ok (.putfield 128, 3) := dk_181 0 128 (dk_at dksX0_casts_1 0 rfl rfl)
theorem dX0_casts_26 : decode cX0_casts 26 = .ok (.new 147, 3) := dk_187 0 147 (dk_at dksX0_casts_1 3 rfl rfl)
theorem dX0_casts_29 : decode cX0_casts 29 = .ok (.dup, 1) := dk_89 (dk_at dksX0_casts_1 6 rfl rfl)
theorem dX0_casts_30 : decode cX0_casts 30 = .ok (.aload_n 0, 1) := dk_42 (dk_at dksX0_casts_1 7 rfl rfl)
theorem dX0_casts_31 : decode cX0_casts 31 = .ok (.iload_n 1, 1) := dk_27 (dk_at dksX0_casts_1 8 rfl rfl)
theorem dX0_casts_32 : decode cX0_casts 32 = .ok (.invokespecial 149, 3) := dk_183 0 149 (dk_at dksX0_casts_1 9 rfl rfl)
theorem dX0_casts_35 : decode cX0_casts 35 = .ok (.astore_n 2, 1) := dk_77 (dk_at dksX0_casts_1 12 rfl rfl)
theorem dX0_casts_36 : decode cX0_casts 36 = .ok (.aload_n 2, 1) := dk_44 (dk_at dksX0_casts_1 13 rfl rfl)
theorem dX0_casts_37 : decode cX0_casts 37 = .ok (.invokevirtual 150, 3) := dk_182 0 150 (dk_at dksX0_casts_1 14 rfl rfl)
theorem dX0_casts_40 : decode cX0_casts 40 = .ok (.istore_n 3, 1) := dk_62 (dk_at dksX0_casts_1 17 rfl rfl)
theorem dX0_casts_41 : decode cX0_casts 41 = .ok (.iload_n 3, 1) := dk_29 (dk_at dksX0_casts_1 18 rfl rfl)
theorem dX0_casts_42 : decode cX0_casts 42 = .ok (.ifCond .ge 5, 3) := dk_156 0 5 (dk_at dksX0_casts_1 19 rfl rfl)
theorem dX0_casts_45 : decode cX0_casts 45 = .ok (.iload_n 3, 1) := dk_29 (dk_at dksX0_casts_1 22 rfl rfl)
theorem dX0_casts_46 : decode cX0_casts 46 = .ok (.ireturn, 1) := dk_172 (dk_at dksX0_casts_1 23 rfl rfl)
theorem dX0_casts_47 : decode cX0_casts 47 = .ok (.iconst 0, 1) := dk_3 (dk_at dksX0_casts_2 0 rfl rfl)
theorem dX0_casts_48 : decode cX0_casts 48 = .ok (.istore 4, 2) := dk_54 4 (dk_at dksX0_casts_2 1 rfl rfl)
theorem dX0_casts_50 : decode cX0_casts 50 = .ok (.iload 4, 2) := dk_21 4 (dk_at dksX0_casts_2 3 rfl rfl)
theorem dX0_casts_52 : decode cX0_casts 52 = .ok (.iconst 2, 1) := dk_5 (dk_at dksX0_casts_2 5 rfl rfl)
theorem dX0_casts_53 : decode cX0_casts 53 = .ok (.if_icmp .ge 59, 3) := dk_162 0 59 (dk_at dksX0_casts_2 6 rfl rfl)
theorem dX0_casts_56 : decode cX0_casts 56 = .ok (.iconst 0, 1) := dk_3 (dk_at dksX0_casts_2 9 rfl rfl)
theorem dX0_casts_57 : decode cX0_casts 57 = .ok (.istore 5, 2) := dk_54 5 (dk_at dksX0_casts_2 10 rfl rfl)
theorem dX0_casts_59 : decode cX0_casts 59 = .ok (.iload 5, 2) := dk_21 5 (dk_at dksX0_casts_2 12 rfl rfl)
theorem dX0_casts_61 : decode cX0_casts 61 = .ok (.bipush 48, 2) := dk_16 48 (dk_at dksX0_casts_2 14 rfl rfl)
theorem dX0_casts_63 : decode cX0_casts 63 = .ok (.if_icmp .ge 32, 3) := dk_162 0 32 (dk_at dksX0_casts_2 16 rfl rfl)
theorem dX0_casts_66 : decode cX0_casts 66 = .ok (.aload_n 0, 1) := dk_42 (dk_at dksX0_casts_2 19 rfl rfl)
theorem dX0_casts_67 : decode cX0_casts 67 = .ok (.getfield 65, 3) := dk_180 0 65 (dk_at dksX0_casts_2 20 rfl rfl)
theorem dX0_casts_70 : decode cX0_casts 70 = .ok (.getfield 124, 3) := dk_180 0 124 (dk_at dksX0_casts_3 0 rfl rfl)
theorem dX0_casts_73 : decode cX0_casts 73 = .ok (.iload 4, 2) := dk_21 4 (dk_at dksX0_casts_3 3 rfl rfl)
theorem dX0_casts_75 : decode cX0_casts 75 = .ok (.aaload, 1) := dk_50 (dk_at dksX0_casts_3 5 rfl rfl)
theorem dX0_casts_76 : decode cX0_casts 76 = .ok (.iload 5, 2) := dk_21 5 (dk_at dksX0_casts_3 6 rfl rfl)
theorem dX0_casts_78 : decode cX0_casts 78 = .ok (.aload_n 2, 1) := dk_44 (dk_at dksX0_casts_3 8 rfl rfl)
theorem dX0_casts_79 : decode cX0_casts 79 = .ok (.getfield 151, 3) := dk_180 0 151 (dk_at dksX0_casts_3 9 rfl rfl)
theorem dX0_casts_82 : decode cX0_casts 82 = .ok (.iload 4, 2) := dk_21 4 (dk_at dksX0_casts_3 12 rfl rfl)
theorem dX0_casts_84 : decode cX0_casts 84 = .ok (.aaload, 1) := dk_50 (dk_at dksX0_casts_3 14 rfl rfl)
theorem dX0_casts_85 : decode cX0_casts 85 = .ok (.iload 5, 2) := dk_21 5 (dk_at dksX0_casts_3 15 rfl rfl)
theorem dX0_casts_87 : decode cX0_casts 87 = .ok (.iaload, 1) := dk_46 (dk_at dksX0_casts_3 17 rfl rfl)
theorem dX0_casts_88 : decode cX0_casts 88 = .ok (.iastore, 1) := dk_79 (dk_at dksX0_casts_3 18 rfl rfl)
theorem dX0_casts_89 : decode cX0_casts 89 = .ok (.iinc 5 1, 3) := dk_132 5 1 (dk_at dksX0_casts_3 19 rfl rfl)
theorem dX0_casts_92 : decode cX0_casts 92 = .ok (.goto (-33), 3) := dk_167 255 223 (dk_at dksX0_casts_4 0 rfl rfl)
theorem dX0_casts_95 : decode cX0_casts 95 = .ok (.aload_n 0, 1) := dk_42 (dk_at dksX0_casts_4 3 rfl rfl)
theorem dX0_casts_96 : decode cX0_casts 96 = .ok (.getfield 65, 3) := dk_180 0 65 (dk_at dksX0_casts_4 4 rfl rfl)
theorem dX0_casts_99 : decode cX0_casts 99 = .ok (.getfield 154, 3) := dk_180 0 154 (dk_at dksX0_casts_4 7 rfl rfl)
theorem dX0_casts_102 : decode cX0_casts 102 = .ok (.iload 4, 2) := dk_21 4 (dk_at dksX0_casts_4 10 rfl rfl)
theorem dX0_casts_104 : decode cX0_casts 104 = .ok (.iconst 0, 1) := dk_3 (dk_at dksX0_casts_4 12 rfl rfl)
theorem dX0_casts_105 : decode cX0_casts 105 = .ok (.iastore, 1) := dk_79 (dk_at dksX0_casts_4 13 rfl rfl)
theorem dX0_casts_106 : decode cX0_casts 106 = .ok (.iinc 4 1, 3) := dk_132 4 1 (dk_at dksX0_casts_4 14 rfl rfl)
theorem dX0_casts_109 : decode cX0_casts 109 = .ok (.goto (-59), 3) := dk_167 255 197 (dk_at dksX0_casts_4 17 rfl rfl)
theorem dX0_casts_112 : decode cX0_casts 112 = .ok (.iload_n 3, 1) := dk_29 (dk_at dksX0_casts_4 20 rfl rfl)
theorem dX0_casts_113 : decode cX0_casts 113 = .ok (.ireturn, 1) := dk_172 (dk_at dksX0_casts_4 21 rfl rfl)
abbrev cX0_tour : ByteArray := prog_1_method_20_code
def yX0_tour : MethodName := ⟨RX0, "tour", "(I)I"⟩
def dkwX0_tour_5 : List UInt8 := [132, 5, 1, 167, 255, 193, 29, 172]
abbrev dktX0_tour_5 : List UInt8 := dkwX0_tour_5 ++ []
def dkwX0_tour_4 : List UInt8 := [21, 6, 2, 160, 0, 8, 21, 4, 167, 0, 5, 21, 6, 54, 4, 42, 180, 0, 56, 21, 5, 21, 4, 79]
abbrev dktX0_tour_4 : List UInt8 := dkwX0_tour_4 ++ dktX0_tour_5
def dkwX0_tour_3 : List UInt8 := [46, 7, 160, 0, 8, 16, 31, 167, 0, 15, 21, 4, 44, 180, 0, 164, 21, 5, 46, 184, 0, 167, 54, 6]
abbrev dktX0_tour_3 : List UInt8 := dkwX0_tour_3 ++ dktX0_tour_4
def dkwX0_tour_2 : List UInt8 := [42, 29, 181, 0, 161, 16, 31, 54, 4, 3, 54, 5, 21, 5, 29, 162, 0, 63, 44, 180, 0, 164, 21, 5]
abbrev dktX0_tour_2 : List UInt8 := dkwX0_tour_2 ++ dktX0_tour_3
def dkwX0_tour_1 : List UInt8 := [181, 0, 128, 187, 0, 157, 89, 42, 27, 183, 0, 159, 77, 44, 182, 0, 160, 62, 29, 156, 0, 5, 29, 172]
abbrev dktX0_tour_1 : List UInt8 := dkwX0_tour_1 ++ dktX0_tour_2
def dkwX0_tour_0 : List UInt8 := [27, 4, 16, 80, 184, 0, 16, 153, 0, 11, 27, 42, 180, 0, 128, 164, 0, 5, 2, 172, 42, 3]
abbrev dktX0_tour_0 : List UInt8 := dkwX0_tour_0 ++ dktX0_tour_1
theorem dksX0_tour_0 : cX0_tour.data.toList.drop 0 = dktX0_tour_0 := by decide +kernel
theorem dksX0_tour_1 : cX0_tour.data.toList.drop 22 = dktX0_tour_1 := dk_seg dksX0_tour_0 22 rfl rfl
theorem dksX0_tour_2 : cX0_tour.data.toList.drop 46 = dktX0_tour_2 := dk_seg dksX0_tour_1 24 rfl rfl
theorem dksX0_tour_3 : cX0_tour.data.toList.drop 70 = dktX0_tour_3 := dk_seg dksX0_tour_2 24 rfl rfl
theorem dksX0_tour_4 : cX0_tour.data.toList.drop 94 = dktX0_tour_4 := dk_seg dksX0_tour_3 24 rfl rfl
theorem dksX0_tour_5 : cX0_tour.data.toList.drop 118 = dktX0_tour_5 := dk_seg dksX0_tour_4 24 rfl rfl
theorem dX0_tour_0 : decode cX0_tour 0 = .ok (.iload_n 1, 1) := dk_27 (dk_at dksX0_tour_0 0 rfl rfl)
theorem dX0_tour_1 : decode cX0_tour 1 = .ok (.iconst 1, 1) := dk_4 (dk_at dksX0_tour_0 1 rfl rfl)
theorem dX0_tour_2 : decode cX0_tour 2 = .ok (.bipush 80, 2) := dk_16 80 (dk_at dksX0_tour_0 2 rfl rfl)
theorem dX0_tour_4 : decode cX0_tour 4 = .ok (.invokestatic 16, 3) := dk_184 0 16 (dk_at dksX0_tour_0 4 rfl rfl)
theorem dX0_tour_7 : decode cX0_tour 7 = .ok (.ifCond .eq 11, 3) := dk_153 0 11 (dk_at dksX0_tour_0 7 rfl rfl)
theorem dX0_tour_10 : decode cX0_tour 10 = .ok (.iload_n 1, 1) := dk_27 (dk_at dksX0_tour_0 10 rfl rfl)
theorem dX0_tour_11 : decode cX0_tour 11 = .ok (.aload_n 0, 1) := dk_42 (dk_at dksX0_tour_0 11 rfl rfl)
theorem dX0_tour_12 : decode cX0_tour 12 = .ok (.getfield 128, 3) := dk_180 0 128 (dk_at dksX0_tour_0 12 rfl rfl)
theorem dX0_tour_15 : decode cX0_tour 15 = .ok (.if_icmp .le 5, 3) := dk_164 0 5 (dk_at dksX0_tour_0 15 rfl rfl)
theorem dX0_tour_18 : decode cX0_tour 18 = .ok (.iconst (-1), 1) := dk_2 (dk_at dksX0_tour_0 18 rfl rfl)
theorem dX0_tour_19 : decode cX0_tour 19 = .ok (.ireturn, 1) := dk_172 (dk_at dksX0_tour_0 19 rfl rfl)
theorem dX0_tour_20 : decode cX0_tour 20 = .ok (.aload_n 0, 1) := dk_42 (dk_at dksX0_tour_0 20 rfl rfl)
theorem dX0_tour_21 : decode cX0_tour 21 = .ok (.iconst 0, 1) := dk_3 (dk_at dksX0_tour_0 21 rfl rfl)
theorem dX0_tour_22 : decode cX0_tour 22 = .ok (.putfield 128, 3) := dk_181 0 128 (dk_at dksX0_tour_1 0 rfl rfl)
theorem dX0_tour_25 : decode cX0_tour 25 = .ok (.new 157, 3) := dk_187 0 157 (dk_at dksX0_tour_1 3 rfl rfl)
theorem dX0_tour_28 : decode cX0_tour 28 = .ok (.dup, 1) := dk_89 (dk_at dksX0_tour_1 6 rfl rfl)
theorem dX0_tour_29 : decode cX0_tour 29 = .ok (.aload_n 0, 1) := dk_42 (dk_at dksX0_tour_1 7 rfl rfl)
theorem dX0_tour_30 : decode cX0_tour 30 = .ok (.iload_n 1, 1) := dk_27 (dk_at dksX0_tour_1 8 rfl rfl)
theorem dX0_tour_31 : decode cX0_tour 31 = .ok (.invokespecial 159, 3) := dk_183 0 159 (dk_at dksX0_tour_1 9 rfl rfl)
theorem dX0_tour_34 : decode cX0_tour 34 = .ok (.astore_n 2, 1) := dk_77 (dk_at dksX0_tour_1 12 rfl rfl)
theorem dX0_tour_35 : decode cX0_tour 35 = .ok (.aload_n 2, 1) := dk_44 (dk_at dksX0_tour_1 13 rfl rfl)
theorem dX0_tour_36 : decode cX0_tour 36 = .ok (.invokevirtual 160, 3) := dk_182 0 160 (dk_at dksX0_tour_1 14 rfl rfl)
theorem dX0_tour_39 : decode cX0_tour 39 = .ok (.istore_n 3, 1) := dk_62 (dk_at dksX0_tour_1 17 rfl rfl)
theorem dX0_tour_40 : decode cX0_tour 40 = .ok (.iload_n 3, 1) := dk_29 (dk_at dksX0_tour_1 18 rfl rfl)
theorem dX0_tour_41 : decode cX0_tour 41 = .ok (.ifCond .ge 5, 3) := dk_156 0 5 (dk_at dksX0_tour_1 19 rfl rfl)
theorem dX0_tour_44 : decode cX0_tour 44 = .ok (.iload_n 3, 1) := dk_29 (dk_at dksX0_tour_1 22 rfl rfl)
theorem dX0_tour_45 : decode cX0_tour 45 = .ok (.ireturn, 1) := dk_172 (dk_at dksX0_tour_1 23 rfl rfl)
theorem dX0_tour_46 : decode cX0_tour 46 = .ok (.aload_n 0, 1) := dk_42 (dk_at dksX0_tour_2 0 rfl rfl)
theorem dX0_tour_47 : decode cX0_tour 47 = .ok (.iload_n 3, 1) := dk_29 (dk_at dksX0_tour_2 1 rfl rfl)
theorem dX0_tour_48 : decode cX0_tour 48 = .ok (.putfield 161, 3) := dk_181 0 161 (dk_at dksX0_tour_2 2 rfl rfl)
theorem dX0_tour_51 : decode cX0_tour 51 = .ok (.bipush 31, 2) := dk_16 31 (dk_at dksX0_tour_2 5 rfl rfl)
theorem dX0_tour_53 : decode cX0_tour 53 = .ok (.istore 4, 2) := dk_54 4 (dk_at dksX0_tour_2 7 rfl rfl)
theorem dX0_tour_55 : decode cX0_tour 55 = .ok (.iconst 0, 1) := dk_3 (dk_at dksX0_tour_2 9 rfl rfl)
theorem dX0_tour_56 : decode cX0_tour 56 = .ok (.istore 5, 2) := dk_54 5 (dk_at dksX0_tour_2 10 rfl rfl)
theorem dX0_tour_58 : decode cX0_tour 58 = .ok (.iload 5, 2) := dk_21 5 (dk_at dksX0_tour_2 12 rfl rfl)
theorem dX0_tour_60 : decode cX0_tour 60 = .ok (.iload_n 3, 1) := dk_29 (dk_at dksX0_tour_2 14 rfl rfl)
theorem dX0_tour_61 : decode cX0_tour 61 = .ok (.if_icmp .ge 63, 3) := dk_162 0 63 (dk_at dksX0_tour_2 15 rfl rfl)
theorem dX0_tour_64 : decode cX0_tour 64 = .ok (.aload_n 2, 1) := dk_44 (dk_at dksX0_tour_2 18 rfl rfl)
theorem dX0_tour_65 : decode cX0_tour 65 = .ok (.getfield 164, 3) := dk_180 0 164 (dk_at dksX0_tour_2 19 rfl rfl)
theorem dX0_tour_68 : decode cX0_tour 68 = .ok (.iload 5, 2) := dk_21 5 (dk_at dksX0_tour_2 22 rfl rfl)
theorem dX0_tour_70 : decode cX0_tour 70 = .ok (.iaload, 1) := dk_46 (dk_at dksX0_tour_3 0 rfl rfl)
theorem dX0_tour_71 : decode cX0_tour 71 = .ok (.iconst 4, 1) := dk_7 (dk_at dksX0_tour_3 1 rfl rfl)
theorem dX0_tour_72 : decode cX0_tour 72 = .ok (.if_icmp .ne 8, 3) := dk_160 0 8 (dk_at dksX0_tour_3 2 rfl rfl)
theorem dX0_tour_75 : decode cX0_tour 75 = .ok (.bipush 31, 2) := dk_16 31 (dk_at dksX0_tour_3 5 rfl rfl)
theorem dX0_tour_77 : decode cX0_tour 77 = .ok (.goto 15, 3) := dk_167 0 15 (dk_at dksX0_tour_3 7 rfl rfl)
theorem dX0_tour_80 : decode cX0_tour 80 = .ok (.iload 4, 2) := dk_21 4 (dk_at dksX0_tour_3 10 rfl rfl)
theorem dX0_tour_82 : decode cX0_tour 82 = .ok (.aload_n 2, 1) := dk_44 (dk_at dksX0_tour_3 12 rfl rfl)
theorem dX0_tour_83 : decode cX0_tour 83 = .ok (.getfield 164, 3) := dk_180 0 164 (dk_at dksX0_tour_3 13 rfl rfl)
theorem dX0_tour_86 : decode cX0_tour 86 = .ok (.iload 5, 2) := dk_21 5 (dk_at dksX0_tour_3 16 rfl rfl)
theorem dX0_tour_88 : decode cX0_tour 88 = .ok (.iaload, 1) := dk_46 (dk_at dksX0_tour_3 18 rfl rfl)
theorem dX0_tour_89 : decode cX0_tour 89 = .ok (.invokestatic 167, 3) := dk_184 0 167 (dk_at dksX0_tour_3 19 rfl rfl)
theorem dX0_tour_92 : decode cX0_tour 92 = .ok (.istore 6, 2) := dk_54 6 (dk_at dksX0_tour_3 22 rfl rfl)
theorem dX0_tour_94 : decode cX0_tour 94 = .ok (.iload 6, 2) := dk_21 6 (dk_at dksX0_tour_4 0 rfl rfl)
theorem dX0_tour_96 : decode cX0_tour 96 = .ok (.iconst (-1), 1) := dk_2 (dk_at dksX0_tour_4 2 rfl rfl)
theorem dX0_tour_97 : decode cX0_tour 97 = .ok (.if_icmp .ne 8, 3) := dk_160 0 8 (dk_at dksX0_tour_4 3 rfl rfl)
theorem dX0_tour_100 : decode cX0_tour 100 = .ok (.iload 4, 2) := dk_21 4 (dk_at dksX0_tour_4 6 rfl rfl)
theorem dX0_tour_102 : decode cX0_tour 102 = .ok (.goto 5, 3) := dk_167 0 5 (dk_at dksX0_tour_4 8 rfl rfl)
theorem dX0_tour_105 : decode cX0_tour 105 = .ok (.iload 6, 2) := dk_21 6 (dk_at dksX0_tour_4 11 rfl rfl)
theorem dX0_tour_107 : decode cX0_tour 107 = .ok (.istore 4, 2) := dk_54 4 (dk_at dksX0_tour_4 13 rfl rfl)
theorem dX0_tour_109 : decode cX0_tour 109 = .ok (.aload_n 0, 1) := dk_42 (dk_at dksX0_tour_4 15 rfl rfl)
theorem dX0_tour_110 : decode cX0_tour 110 = .ok (.getfield 56, 3) := dk_180 0 56 (dk_at dksX0_tour_4 16 rfl rfl)
theorem dX0_tour_113 : decode cX0_tour 113 = .ok (.iload 5, 2) := dk_21 5 (dk_at dksX0_tour_4 19 rfl rfl)
theorem dX0_tour_115 : decode cX0_tour 115 = .ok (.iload 4, 2) := dk_21 4 (dk_at dksX0_tour_4 21 rfl rfl)
theorem dX0_tour_117 : decode cX0_tour 117 = .ok (.iastore, 1) := dk_79 (dk_at dksX0_tour_4 23 rfl rfl)
theorem dX0_tour_118 : decode cX0_tour 118 = .ok (.iinc 5 1, 3) := dk_132 5 1 (dk_at dksX0_tour_5 0 rfl rfl)
theorem dX0_tour_121 : decode cX0_tour 121 = .ok (.goto (-63), 3) := dk_167 255 193 (dk_at dksX0_tour_5 3 rfl rfl)
theorem dX0_tour_124 : decode cX0_tour 124 = .ok (.iload_n 3, 1) := dk_29 (dk_at dksX0_tour_5 6 rfl rfl)
theorem dX0_tour_125 : decode cX0_tour 125 = .ok (.ireturn, 1) := dk_172 (dk_at dksX0_tour_5 7 rfl rfl)
abbrev cX0_stepped : ByteArray := prog_1_method_10_code
def yX0_stepped : MethodName := ⟨RX0, "stepped", "(II)I"⟩
def dkwX0_stepped_2 : List UInt8 := [62, 28, 29, 184, 0, 30, 153, 0, 11, 28, 29, 184, 0, 33, 167, 0, 4, 2, 172]
abbrev dktX0_stepped_2 : List UInt8 := dkwX0_stepped_2 ++ []
def dkwX0_stepped_1 : List UInt8 := [26, 184, 0, 24, 27, 5, 160, 0, 7, 2, 167, 0, 13, 27, 6, 160, 0, 7, 4, 167, 0, 4, 3, 96]
abbrev dktX0_stepped_1 : List UInt8 := dkwX0_stepped_1 ++ dktX0_stepped_2
def dkwX0_stepped_0 : List UInt8 := [26, 184, 0, 20, 27, 154, 0, 7, 2, 167, 0, 13, 27, 4, 160, 0, 7, 4, 167, 0, 4, 3, 96, 61]
abbrev dktX0_stepped_0 : List UInt8 := dkwX0_stepped_0 ++ dktX0_stepped_1
theorem dksX0_stepped_0 : cX0_stepped.data.toList.drop 0 = dktX0_stepped_0 := by decide +kernel
theorem dksX0_stepped_1 : cX0_stepped.data.toList.drop 24 = dktX0_stepped_1 := dk_seg dksX0_stepped_0 24 rfl rfl
theorem dksX0_stepped_2 : cX0_stepped.data.toList.drop 48 = dktX0_stepped_2 := dk_seg dksX0_stepped_1 24 rfl rfl
theorem dX0_stepped_0 : decode cX0_stepped 0 = .ok (.iload_n 0, 1) := dk_26 (dk_at dksX0_stepped_0 0 rfl rfl)
theorem dX0_stepped_1 : decode cX0_stepped 1 = .ok (.invokestatic 20, 3) := dk_184 0 20 (dk_at dksX0_stepped_0 1 rfl rfl)
theorem dX0_stepped_4 : decode cX0_stepped 4 = .ok (.iload_n 1, 1) := dk_27 (dk_at dksX0_stepped_0 4 rfl rfl)
theorem dX0_stepped_5 : decode cX0_stepped 5 = .ok (.ifCond .ne 7, 3) := dk_154 0 7 (dk_at dksX0_stepped_0 5 rfl rfl)
theorem dX0_stepped_8 : decode cX0_stepped 8 = .ok (.iconst (-1), 1) := dk_2 (dk_at dksX0_stepped_0 8 rfl rfl)
theorem dX0_stepped_9 : decode cX0_stepped 9 = .ok (.goto 13, 3) := dk_167 0 13 (dk_at dksX0_stepped_0 9 rfl rfl)
theorem dX0_stepped_12 : decode cX0_stepped 12 = .ok (.iload_n 1, 1) := dk_27 (dk_at dksX0_stepped_0 12 rfl rfl)
theorem dX0_stepped_13 : decode cX0_stepped 13 = .ok (.iconst 1, 1) := dk_4 (dk_at dksX0_stepped_0 13 rfl rfl)
theorem dX0_stepped_14 : decode cX0_stepped 14 = .ok (.if_icmp .ne 7, 3) := dk_160 0 7 (dk_at dksX0_stepped_0 14 rfl rfl)
theorem dX0_stepped_17 : decode cX0_stepped 17 = .ok (.iconst 1, 1) := dk_4 (dk_at dksX0_stepped_0 17 rfl rfl)
theorem dX0_stepped_18 : decode cX0_stepped 18 = .ok (.goto 4, 3) := dk_167 0 4 (dk_at dksX0_stepped_0 18 rfl rfl)
theorem dX0_stepped_21 : decode cX0_stepped 21 = .ok (.iconst 0, 1) := dk_3 (dk_at dksX0_stepped_0 21 rfl rfl)
theorem dX0_stepped_22 : decode cX0_stepped 22 = .ok (.iadd, 1) := dk_96 (dk_at dksX0_stepped_0 22 rfl rfl)
theorem dX0_stepped_23 : decode cX0_stepped 23 = .ok (.istore_n 2, 1) := dk_61 (dk_at dksX0_stepped_0 23 rfl rfl)
theorem dX0_stepped_24 : decode cX0_stepped 24 = .ok (.iload_n 0, 1) := dk_26 (dk_at dksX0_stepped_1 0 rfl rfl)
theorem dX0_stepped_25 : decode cX0_stepped 25 = .ok (.invokestatic 24, 3) := dk_184 0 24 (dk_at dksX0_stepped_1 1 rfl rfl)
theorem dX0_stepped_28 : decode cX0_stepped 28 = .ok (.iload_n 1, 1) := dk_27 (dk_at dksX0_stepped_1 4 rfl rfl)
theorem dX0_stepped_29 : decode cX0_stepped 29 = .ok (.iconst 2, 1) := dk_5 (dk_at dksX0_stepped_1 5 rfl rfl)
theorem dX0_stepped_30 : decode cX0_stepped 30 = .ok (.if_icmp .ne 7, 3) := dk_160 0 7 (dk_at dksX0_stepped_1 6 rfl rfl)
theorem dX0_stepped_33 : decode cX0_stepped 33 = .ok (.iconst (-1), 1) := dk_2 (dk_at dksX0_stepped_1 9 rfl rfl)
theorem dX0_stepped_34 : decode cX0_stepped 34 = .ok (.goto 13, 3) := dk_167 0 13 (dk_at dksX0_stepped_1 10 rfl rfl)
theorem dX0_stepped_37 : decode cX0_stepped 37 = .ok (.iload_n 1, 1) := dk_27 (dk_at dksX0_stepped_1 13 rfl rfl)
theorem dX0_stepped_38 : decode cX0_stepped 38 = .ok (.iconst 3, 1) := dk_6 (dk_at dksX0_stepped_1 14 rfl rfl)
theorem dX0_stepped_39 : decode cX0_stepped 39 = .ok (.if_icmp .ne 7, 3) := dk_160 0 7 (dk_at dksX0_stepped_1 15 rfl rfl)
theorem dX0_stepped_42 : decode cX0_stepped 42 = .ok (.iconst 1, 1) := dk_4 (dk_at dksX0_stepped_1 18 rfl rfl)
theorem dX0_stepped_43 : decode cX0_stepped 43 = .ok (.goto 4, 3) := dk_167 0 4 (dk_at dksX0_stepped_1 19 rfl rfl)
theorem dX0_stepped_46 : decode cX0_stepped 46 = .ok (.iconst 0, 1) := dk_3 (dk_at dksX0_stepped_1 22 rfl rfl)
theorem dX0_stepped_47 : decode cX0_stepped 47 = .ok (.iadd, 1) := dk_96 (dk_at dksX0_stepped_1 23 rfl rfl)
theorem dX0_stepped_48 : decode cX0_stepped 48 = .ok (.istore_n 3, 1) := dk_62 (dk_at dksX0_stepped_2 0 rfl rfl)
theorem dX0_stepped_49 : decode cX0_stepped 49 = .ok (.iload_n 2, 1) := dk_28 (dk_at dksX0_stepped_2 1 rfl rfl)
theorem dX0_stepped_50 : decode cX0_stepped 50 = .ok (.iload_n 3, 1) := dk_29 (dk_at dksX0_stepped_2 2 rfl rfl)
theorem dX0_stepped_51 : decode cX0_stepped 51 = .ok (.invokestatic 30, 3) := dk_184 0 30 (dk_at dksX0_stepped_2 3 rfl rfl)
theorem dX0_stepped_54 : decode cX0_stepped 54 = .ok (.ifCond .eq 11, 3) := dk_153 0 11 (dk_at dksX0_stepped_2 6 rfl rfl)
theorem dX0_stepped_57 : decode cX0_stepped 57 = .ok (.iload_n 2, 1) := dk_28 (dk_at dksX0_stepped_2 9 rfl rfl)
theorem dX0_stepped_58 : decode cX0_stepped 58 = .ok (.iload_n 3, 1) := dk_29 (dk_at dksX0_stepped_2 10 rfl rfl)
theorem dX0_stepped_59 : decode cX0_stepped 59 = .ok (.invokestatic 33, 3) := dk_184 0 33 (dk_at dksX0_stepped_2 11 rfl rfl)
theorem dX0_stepped_62 : decode cX0_stepped 62 = .ok (.goto 4, 3) := dk_167 0 4 (dk_at dksX0_stepped_2 14 rfl rfl)
theorem dX0_stepped_65 : decode cX0_stepped 65 = .ok (.iconst (-1), 1) := dk_2 (dk_at dksX0_stepped_2 17 rfl rfl)
theorem dX0_stepped_66 : decode cX0_stepped 66 = .ok (.ireturn, 1) := dk_172 (dk_at dksX0_stepped_2 18 rfl rfl)
abbrev cX0_sideOf : ByteArray := prog_1_method_7_code
def yX0_sideOf : MethodName := ⟨RX0, "sideOf", "(I)I"⟩
def dkwX0_sideOf_0 : List UInt8 := [26, 16, 9, 112, 7, 100, 172]
abbrev dktX0_sideOf_0 : List UInt8 := dkwX0_sideOf_0 ++ []
theorem dksX0_sideOf_0 : cX0_sideOf.data.toList.drop 0 = dktX0_sideOf_0 := by decide +kernel
theorem dX0_sideOf_0 : decode cX0_sideOf 0 = .ok (.iload_n 0, 1) := dk_26 (dk_at dksX0_sideOf_0 0 rfl rfl)
theorem dX0_sideOf_1 : decode cX0_sideOf 1 = .ok (.bipush 9, 2) := dk_16 9 (dk_at dksX0_sideOf_0 1 rfl rfl)
theorem dX0_sideOf_3 : decode cX0_sideOf 3 = .ok (.irem, 1) := dk_112 (dk_at dksX0_sideOf_0 3 rfl rfl)
theorem dX0_sideOf_4 : decode cX0_sideOf 4 = .ok (.iconst 4, 1) := dk_7 (dk_at dksX0_sideOf_0 4 rfl rfl)
theorem dX0_sideOf_5 : decode cX0_sideOf 5 = .ok (.isub, 1) := dk_100 (dk_at dksX0_sideOf_0 5 rfl rfl)
theorem dX0_sideOf_6 : decode cX0_sideOf 6 = .ok (.ireturn, 1) := dk_172 (dk_at dksX0_sideOf_0 6 rfl rfl)
abbrev cX0_aheadOf : ByteArray := prog_1_method_8_code
def yX0_aheadOf : MethodName := ⟨RX0, "aheadOf", "(I)I"⟩
def dkwX0_aheadOf_0 : List UInt8 := [26, 16, 9, 108, 6, 100, 172]
abbrev dktX0_aheadOf_0 : List UInt8 := dkwX0_aheadOf_0 ++ []
theorem dksX0_aheadOf_0 : cX0_aheadOf.data.toList.drop 0 = dktX0_aheadOf_0 := by decide +kernel
theorem dX0_aheadOf_0 : decode cX0_aheadOf 0 = .ok (.iload_n 0, 1) := dk_26 (dk_at dksX0_aheadOf_0 0 rfl rfl)
theorem dX0_aheadOf_1 : decode cX0_aheadOf 1 = .ok (.bipush 9, 2) := dk_16 9 (dk_at dksX0_aheadOf_0 1 rfl rfl)
theorem dX0_aheadOf_3 : decode cX0_aheadOf 3 = .ok (.idiv, 1) := dk_108 (dk_at dksX0_aheadOf_0 3 rfl rfl)
theorem dX0_aheadOf_4 : decode cX0_aheadOf 4 = .ok (.iconst 3, 1) := dk_6 (dk_at dksX0_aheadOf_0 4 rfl rfl)
theorem dX0_aheadOf_5 : decode cX0_aheadOf 5 = .ok (.isub, 1) := dk_100 (dk_at dksX0_aheadOf_0 5 rfl rfl)
theorem dX0_aheadOf_6 : decode cX0_aheadOf 6 = .ok (.ireturn, 1) := dk_172 (dk_at dksX0_aheadOf_0 6 rfl rfl)
abbrev cX0_isGlide : ByteArray := prog_1_method_5_code
def yX0_isGlide : MethodName := ⟨RX0, "isGlide", "(II)Z"⟩
def dkwX0_isGlide_1 : List UInt8 := [3, 172]
abbrev dktX0_isGlide_1 : List UInt8 := dkwX0_isGlide_1 ++ []
def dkwX0_isGlide_0 : List UInt8 := [26, 16, 252, 7, 184, 0, 16, 153, 0, 17, 27, 16, 253, 6, 184, 0, 16, 153, 0, 7, 4, 167, 0, 4]
abbrev dktX0_isGlide_0 : List UInt8 := dkwX0_isGlide_0 ++ dktX0_isGlide_1
theorem dksX0_isGlide_0 : cX0_isGlide.data.toList.drop 0 = dktX0_isGlide_0 := by decide +kernel
theorem dksX0_isGlide_1 : cX0_isGlide.data.toList.drop 24 = dktX0_isGlide_1 := dk_seg dksX0_isGlide_0 24 rfl rfl
theorem dX0_isGlide_0 : decode cX0_isGlide 0 = .ok (.iload_n 0, 1) := dk_26 (dk_at dksX0_isGlide_0 0 rfl rfl)
theorem dX0_isGlide_1 : decode cX0_isGlide 1 = .ok (.bipush (-4), 2) := dk_16 252 (dk_at dksX0_isGlide_0 1 rfl rfl)
theorem dX0_isGlide_3 : decode cX0_isGlide 3 = .ok (.iconst 4, 1) := dk_7 (dk_at dksX0_isGlide_0 3 rfl rfl)
theorem dX0_isGlide_4 : decode cX0_isGlide 4 = .ok (.invokestatic 16, 3) := dk_184 0 16 (dk_at dksX0_isGlide_0 4 rfl rfl)
theorem dX0_isGlide_7 : decode cX0_isGlide 7 = .ok (.ifCond .eq 17, 3) := dk_153 0 17 (dk_at dksX0_isGlide_0 7 rfl rfl)
theorem dX0_isGlide_10 : decode cX0_isGlide 10 = .ok (.iload_n 1, 1) := dk_27 (dk_at dksX0_isGlide_0 10 rfl rfl)
theorem dX0_isGlide_11 : decode cX0_isGlide 11 = .ok (.bipush (-3), 2) := dk_16 253 (dk_at dksX0_isGlide_0 11 rfl rfl)
theorem dX0_isGlide_13 : decode cX0_isGlide 13 = .ok (.iconst 3, 1) := dk_6 (dk_at dksX0_isGlide_0 13 rfl rfl)
theorem dX0_isGlide_14 : decode cX0_isGlide 14 = .ok (.invokestatic 16, 3) := dk_184 0 16 (dk_at dksX0_isGlide_0 14 rfl rfl)
theorem dX0_isGlide_17 : decode cX0_isGlide 17 = .ok (.ifCond .eq 7, 3) := dk_153 0 7 (dk_at dksX0_isGlide_0 17 rfl rfl)
theorem dX0_isGlide_20 : decode cX0_isGlide 20 = .ok (.iconst 1, 1) := dk_4 (dk_at dksX0_isGlide_0 20 rfl rfl)
theorem dX0_isGlide_21 : decode cX0_isGlide 21 = .ok (.goto 4, 3) := dk_167 0 4 (dk_at dksX0_isGlide_0 21 rfl rfl)
theorem dX0_isGlide_24 : decode cX0_isGlide 24 = .ok (.iconst 0, 1) := dk_3 (dk_at dksX0_isGlide_1 0 rfl rfl)
theorem dX0_isGlide_25 : decode cX0_isGlide 25 = .ok (.ireturn, 1) := dk_172 (dk_at dksX0_isGlide_1 1 rfl rfl)
abbrev cX0_glideAt : ByteArray := prog_1_method_6_code
def yX0_glideAt : MethodName := ⟨RX0, "glideAt", "(II)I"⟩
def dkwX0_glideAt_0 : List UInt8 := [16, 9, 27, 6, 96, 104, 26, 96, 7, 96, 172]
abbrev dktX0_glideAt_0 : List UInt8 := dkwX0_glideAt_0 ++ []
theorem dksX0_glideAt_0 : cX0_glideAt.data.toList.drop 0 = dktX0_glideAt_0 := by decide +kernel
theorem dX0_glideAt_0 : decode cX0_glideAt 0 = .ok (.bipush 9, 2) := dk_16 9 (dk_at dksX0_glideAt_0 0 rfl rfl)
theorem dX0_glideAt_2 : decode cX0_glideAt 2 = .ok (.iload_n 1, 1) := dk_27 (dk_at dksX0_glideAt_0 2 rfl rfl)
theorem dX0_glideAt_3 : decode cX0_glideAt 3 = .ok (.iconst 3, 1) := dk_6 (dk_at dksX0_glideAt_0 3 rfl rfl)
theorem dX0_glideAt_4 : decode cX0_glideAt 4 = .ok (.iadd, 1) := dk_96 (dk_at dksX0_glideAt_0 4 rfl rfl)
theorem dX0_glideAt_5 : decode cX0_glideAt 5 = .ok (.imul, 1) := dk_104 (dk_at dksX0_glideAt_0 5 rfl rfl)
theorem dX0_glideAt_6 : decode cX0_glideAt 6 = .ok (.iload_n 0, 1) := dk_26 (dk_at dksX0_glideAt_0 6 rfl rfl)
theorem dX0_glideAt_7 : decode cX0_glideAt 7 = .ok (.iadd, 1) := dk_96 (dk_at dksX0_glideAt_0 7 rfl rfl)
theorem dX0_glideAt_8 : decode cX0_glideAt 8 = .ok (.iconst 4, 1) := dk_7 (dk_at dksX0_glideAt_0 8 rfl rfl)
theorem dX0_glideAt_9 : decode cX0_glideAt 9 = .ok (.iadd, 1) := dk_96 (dk_at dksX0_glideAt_0 9 rfl rfl)
theorem dX0_glideAt_10 : decode cX0_glideAt 10 = .ok (.ireturn, 1) := dk_172 (dk_at dksX0_glideAt_0 10 rfl rfl)
abbrev cX0_glide : ByteArray := prog_1_method_24_code
def yX0_glide : MethodName := ⟨RX0, "glide", "(IIII)I"⟩
def dkwX0_glide_4 : List UInt8 := [172, 42, 21, 5, 182, 0, 189, 172, 2, 172]
abbrev dktX0_glide_4 : List UInt8 := dkwX0_glide_4 ++ []
def dkwX0_glide_3 : List UInt8 := [42, 180, 0, 65, 21, 5, 182, 0, 177, 172, 21, 6, 172, 42, 182, 0, 183, 172, 42, 21, 5, 182, 0, 186]
abbrev dktX0_glide_3 : List UInt8 := dkwX0_glide_3 ++ dktX0_glide_4
def dkwX0_glide_2 : List UInt8 := [170, 0, 0, 0, 0, 0, 67, 0, 0, 0, 0, 0, 0, 0, 4, 0, 0, 0, 35, 0, 0, 0, 45, 0, 0, 0, 48, 0, 0, 0, 53, 0, 0, 0, 60]
abbrev dktX0_glide_2 : List UInt8 := dkwX0_glide_2 ++ dktX0_glide_3
def dkwX0_glide_1 : List UInt8 := [184, 0, 33, 54, 5, 42, 180, 0, 65, 21, 5, 29, 182, 0, 180, 54, 6, 21, 4]
abbrev dktX0_glide_1 : List UInt8 := dkwX0_glide_1 ++ dktX0_glide_2
def dkwX0_glide_0 : List UInt8 := [27, 28, 184, 0, 30, 153, 0, 13, 29, 3, 16, 50, 184, 0, 16, 154, 0, 5, 2, 172, 27, 28]
abbrev dktX0_glide_0 : List UInt8 := dkwX0_glide_0 ++ dktX0_glide_1
theorem dksX0_glide_0 : cX0_glide.data.toList.drop 0 = dktX0_glide_0 := by decide +kernel
theorem dksX0_glide_1 : cX0_glide.data.toList.drop 22 = dktX0_glide_1 := dk_seg dksX0_glide_0 22 rfl rfl
theorem dksX0_glide_2 : cX0_glide.data.toList.drop 41 = dktX0_glide_2 := dk_seg dksX0_glide_1 19 rfl rfl
theorem dksX0_glide_3 : cX0_glide.data.toList.drop 76 = dktX0_glide_3 := dk_seg dksX0_glide_2 35 rfl rfl
theorem dksX0_glide_4 : cX0_glide.data.toList.drop 100 = dktX0_glide_4 := dk_seg dksX0_glide_3 24 rfl rfl
theorem dX0_glide_0 : decode cX0_glide 0 = .ok (.iload_n 1, 1) := dk_27 (dk_at dksX0_glide_0 0 rfl rfl)
theorem dX0_glide_1 : decode cX0_glide 1 = .ok (.iload_n 2, 1) := dk_28 (dk_at dksX0_glide_0 1 rfl rfl)
theorem dX0_glide_2 : decode cX0_glide 2 = .ok (.invokestatic 30, 3) := dk_184 0 30 (dk_at dksX0_glide_0 2 rfl rfl)
theorem dX0_glide_5 : decode cX0_glide 5 = .ok (.ifCond .eq 13, 3) := dk_153 0 13 (dk_at dksX0_glide_0 5 rfl rfl)
theorem dX0_glide_8 : decode cX0_glide 8 = .ok (.iload_n 3, 1) := dk_29 (dk_at dksX0_glide_0 8 rfl rfl)
theorem dX0_glide_9 : decode cX0_glide 9 = .ok (.iconst 0, 1) := dk_3 (dk_at dksX0_glide_0 9 rfl rfl)
theorem dX0_glide_10 : decode cX0_glide 10 = .ok (.bipush 50, 2) := dk_16 50 (dk_at dksX0_glide_0 10 rfl rfl)
theorem dX0_glide_12 : decode cX0_glide 12 = .ok (.invokestatic 16, 3) := dk_184 0 16 (dk_at dksX0_glide_0 12 rfl rfl)
theorem dX0_glide_15 : decode cX0_glide 15 = .ok (.ifCond .ne 5, 3) := dk_154 0 5 (dk_at dksX0_glide_0 15 rfl rfl)
theorem dX0_glide_18 : decode cX0_glide 18 = .ok (.iconst (-1), 1) := dk_2 (dk_at dksX0_glide_0 18 rfl rfl)
theorem dX0_glide_19 : decode cX0_glide 19 = .ok (.ireturn, 1) := dk_172 (dk_at dksX0_glide_0 19 rfl rfl)
theorem dX0_glide_20 : decode cX0_glide 20 = .ok (.iload_n 1, 1) := dk_27 (dk_at dksX0_glide_0 20 rfl rfl)
theorem dX0_glide_21 : decode cX0_glide 21 = .ok (.iload_n 2, 1) := dk_28 (dk_at dksX0_glide_0 21 rfl rfl)
theorem dX0_glide_22 : decode cX0_glide 22 = .ok (.invokestatic 33, 3) := dk_184 0 33 (dk_at dksX0_glide_1 0 rfl rfl)
theorem dX0_glide_25 : decode cX0_glide 25 = .ok (.istore 5, 2) := dk_54 5 (dk_at dksX0_glide_1 3 rfl rfl)
theorem dX0_glide_27 : decode cX0_glide 27 = .ok (.aload_n 0, 1) := dk_42 (dk_at dksX0_glide_1 5 rfl rfl)
theorem dX0_glide_28 : decode cX0_glide 28 = .ok (.getfield 65, 3) := dk_180 0 65 (dk_at dksX0_glide_1 6 rfl rfl)
theorem dX0_glide_31 : decode cX0_glide 31 = .ok (.iload 5, 2) := dk_21 5 (dk_at dksX0_glide_1 9 rfl rfl)
theorem dX0_glide_33 : decode cX0_glide 33 = .ok (.iload_n 3, 1) := dk_29 (dk_at dksX0_glide_1 11 rfl rfl)
theorem dX0_glide_34 : decode cX0_glide 34 = .ok (.invokevirtual 180, 3) := dk_182 0 180 (dk_at dksX0_glide_1 12 rfl rfl)
theorem dX0_glide_37 : decode cX0_glide 37 = .ok (.istore 6, 2) := dk_54 6 (dk_at dksX0_glide_1 15 rfl rfl)
theorem dX0_glide_39 : decode cX0_glide 39 = .ok (.iload 4, 2) := dk_21 4 (dk_at dksX0_glide_1 17 rfl rfl)
theorem dX0_glide_41 : decode cX0_glide 41 = .ok (.tableswitch 67 0 4 #[35, 45, 48, 53, 60], 35) := by decide +kernel
theorem dX0_glide_76 : decode cX0_glide 76 = .ok (.aload_n 0, 1) := dk_42 (dk_at dksX0_glide_3 0 rfl rfl)
theorem dX0_glide_77 : decode cX0_glide 77 = .ok (.getfield 65, 3) := dk_180 0 65 (dk_at dksX0_glide_3 1 rfl rfl)
theorem dX0_glide_80 : decode cX0_glide 80 = .ok (.iload 5, 2) := dk_21 5 (dk_at dksX0_glide_3 4 rfl rfl)
theorem dX0_glide_82 : decode cX0_glide 82 = .ok (.invokevirtual 177, 3) := dk_182 0 177 (dk_at dksX0_glide_3 6 rfl rfl)
theorem dX0_glide_85 : decode cX0_glide 85 = .ok (.ireturn, 1) := dk_172 (dk_at dksX0_glide_3 9 rfl rfl)
theorem dX0_glide_86 : decode cX0_glide 86 = .ok (.iload 6, 2) := dk_21 6 (dk_at dksX0_glide_3 10 rfl rfl)
theorem dX0_glide_88 : decode cX0_glide 88 = .ok (.ireturn, 1) := dk_172 (dk_at dksX0_glide_3 12 rfl rfl)
theorem dX0_glide_89 : decode cX0_glide 89 = .ok (.aload_n 0, 1) := dk_42 (dk_at dksX0_glide_3 13 rfl rfl)
theorem dX0_glide_90 : decode cX0_glide 90 = .ok (.invokevirtual 183, 3) := dk_182 0 183 (dk_at dksX0_glide_3 14 rfl rfl)
theorem dX0_glide_93 : decode cX0_glide 93 = .ok (.ireturn, 1) := dk_172 (dk_at dksX0_glide_3 17 rfl rfl)
theorem dX0_glide_94 : decode cX0_glide 94 = .ok (.aload_n 0, 1) := dk_42 (dk_at dksX0_glide_3 18 rfl rfl)
theorem dX0_glide_95 : decode cX0_glide 95 = .ok (.iload 5, 2) := dk_21 5 (dk_at dksX0_glide_3 19 rfl rfl)
theorem dX0_glide_97 : decode cX0_glide 97 = .ok (.invokevirtual 186, 3) := dk_182 0 186 (dk_at dksX0_glide_3 21 rfl rfl)
theorem dX0_glide_100 : decode cX0_glide 100 = .ok (.ireturn, 1) := dk_172 (dk_at dksX0_glide_4 0 rfl rfl)
theorem dX0_glide_101 : decode cX0_glide 101 = .ok (.aload_n 0, 1) := dk_42 (dk_at dksX0_glide_4 1 rfl rfl)
theorem dX0_glide_102 : decode cX0_glide 102 = .ok (.iload 5, 2) := dk_21 5 (dk_at dksX0_glide_4 2 rfl rfl)
theorem dX0_glide_104 : decode cX0_glide 104 = .ok (.invokevirtual 189, 3) := dk_182 0 189 (dk_at dksX0_glide_4 4 rfl rfl)
theorem dX0_glide_107 : decode cX0_glide 107 = .ok (.ireturn, 1) := dk_172 (dk_at dksX0_glide_4 7 rfl rfl)
theorem dX0_glide_108 : decode cX0_glide 108 = .ok (.iconst (-1), 1) := dk_2 (dk_at dksX0_glide_4 8 rfl rfl)
theorem dX0_glide_109 : decode cX0_glide 109 = .ok (.ireturn, 1) := dk_172 (dk_at dksX0_glide_4 9 rfl rfl)
abbrev cX0_facing : ByteArray := prog_1_method_9_code
def yX0_facing : MethodName := ⟨RX0, "facing", "(II)I"⟩
def dkwX0_facing_0 : List UInt8 := [26, 16, 8, 112, 27, 184, 0, 20, 100, 26, 16, 8, 108, 27, 184, 0, 24, 100, 184, 0, 27, 172]
abbrev dktX0_facing_0 : List UInt8 := dkwX0_facing_0 ++ []
theorem dksX0_facing_0 : cX0_facing.data.toList.drop 0 = dktX0_facing_0 := by decide +kernel
theorem dX0_facing_0 : decode cX0_facing 0 = .ok (.iload_n 0, 1) := dk_26 (dk_at dksX0_facing_0 0 rfl rfl)
theorem dX0_facing_1 : decode cX0_facing 1 = .ok (.bipush 8, 2) := dk_16 8 (dk_at dksX0_facing_0 1 rfl rfl)
theorem dX0_facing_3 : decode cX0_facing 3 = .ok (.irem, 1) := dk_112 (dk_at dksX0_facing_0 3 rfl rfl)
theorem dX0_facing_4 : decode cX0_facing 4 = .ok (.iload_n 1, 1) := dk_27 (dk_at dksX0_facing_0 4 rfl rfl)
theorem dX0_facing_5 : decode cX0_facing 5 = .ok (.invokestatic 20, 3) := dk_184 0 20 (dk_at dksX0_facing_0 5 rfl rfl)
theorem dX0_facing_8 : decode cX0_facing 8 = .ok (.isub, 1) := dk_100 (dk_at dksX0_facing_0 8 rfl rfl)
theorem dX0_facing_9 : decode cX0_facing 9 = .ok (.iload_n 0, 1) := dk_26 (dk_at dksX0_facing_0 9 rfl rfl)
theorem dX0_facing_10 : decode cX0_facing 10 = .ok (.bipush 8, 2) := dk_16 8 (dk_at dksX0_facing_0 10 rfl rfl)
theorem dX0_facing_12 : decode cX0_facing 12 = .ok (.idiv, 1) := dk_108 (dk_at dksX0_facing_0 12 rfl rfl)
theorem dX0_facing_13 : decode cX0_facing 13 = .ok (.iload_n 1, 1) := dk_27 (dk_at dksX0_facing_0 13 rfl rfl)
theorem dX0_facing_14 : decode cX0_facing 14 = .ok (.invokestatic 24, 3) := dk_184 0 24 (dk_at dksX0_facing_0 14 rfl rfl)
theorem dX0_facing_17 : decode cX0_facing 17 = .ok (.isub, 1) := dk_100 (dk_at dksX0_facing_0 17 rfl rfl)
theorem dX0_facing_18 : decode cX0_facing 18 = .ok (.invokestatic 27, 3) := dk_184 0 27 (dk_at dksX0_facing_0 18 rfl rfl)
theorem dX0_facing_21 : decode cX0_facing 21 = .ok (.ireturn, 1) := dk_172 (dk_at dksX0_facing_0 21 rfl rfl)
abbrev cX0_placeAt : ByteArray := prog_1_method_4_code
def yX0_placeAt : MethodName := ⟨RX0, "placeAt", "(II)I"⟩
def dkwX0_placeAt_1 : List UInt8 := [167, 0, 4, 2, 172]
abbrev dktX0_placeAt_1 : List UInt8 := dkwX0_placeAt_1 ++ []
def dkwX0_placeAt_0 : List UInt8 := [26, 16, 8, 184, 0, 12, 153, 0, 21, 27, 16, 6, 184, 0, 12, 153, 0, 12, 16, 8, 27, 104, 26, 96]
abbrev dktX0_placeAt_0 : List UInt8 := dkwX0_placeAt_0 ++ dktX0_placeAt_1
theorem dksX0_placeAt_0 : cX0_placeAt.data.toList.drop 0 = dktX0_placeAt_0 := by decide +kernel
theorem dksX0_placeAt_1 : cX0_placeAt.data.toList.drop 24 = dktX0_placeAt_1 := dk_seg dksX0_placeAt_0 24 rfl rfl
theorem dX0_placeAt_0 : decode cX0_placeAt 0 = .ok (.iload_n 0, 1) := dk_26 (dk_at dksX0_placeAt_0 0 rfl rfl)
theorem dX0_placeAt_1 : decode cX0_placeAt 1 = .ok (.bipush 8, 2) := dk_16 8 (dk_at dksX0_placeAt_0 1 rfl rfl)
theorem dX0_placeAt_3 : decode cX0_placeAt 3 = .ok (.invokestatic 12, 3) := dk_184 0 12 (dk_at dksX0_placeAt_0 3 rfl rfl)
theorem dX0_placeAt_6 : decode cX0_placeAt 6 = .ok (.ifCond .eq 21, 3) := dk_153 0 21 (dk_at dksX0_placeAt_0 6 rfl rfl)
theorem dX0_placeAt_9 : decode cX0_placeAt 9 = .ok (.iload_n 1, 1) := dk_27 (dk_at dksX0_placeAt_0 9 rfl rfl)
theorem dX0_placeAt_10 : decode cX0_placeAt 10 = .ok (.bipush 6, 2) := dk_16 6 (dk_at dksX0_placeAt_0 10 rfl rfl)
theorem dX0_placeAt_12 : decode cX0_placeAt 12 = .ok (.invokestatic 12, 3) := dk_184 0 12 (dk_at dksX0_placeAt_0 12 rfl rfl)
theorem dX0_placeAt_15 : decode cX0_placeAt 15 = .ok (.ifCond .eq 12, 3) := dk_153 0 12 (dk_at dksX0_placeAt_0 15 rfl rfl)
theorem dX0_placeAt_18 : decode cX0_placeAt 18 = .ok (.bipush 8, 2) := dk_16 8 (dk_at dksX0_placeAt_0 18 rfl rfl)
theorem dX0_placeAt_20 : decode cX0_placeAt 20 = .ok (.iload_n 1, 1) := dk_27 (dk_at dksX0_placeAt_0 20 rfl rfl)
theorem dX0_placeAt_21 : decode cX0_placeAt 21 = .ok (.imul, 1) := dk_104 (dk_at dksX0_placeAt_0 21 rfl rfl)
theorem dX0_placeAt_22 : decode cX0_placeAt 22 = .ok (.iload_n 0, 1) := dk_26 (dk_at dksX0_placeAt_0 22 rfl rfl)
theorem dX0_placeAt_23 : decode cX0_placeAt 23 = .ok (.iadd, 1) := dk_96 (dk_at dksX0_placeAt_0 23 rfl rfl)
theorem dX0_placeAt_24 : decode cX0_placeAt 24 = .ok (.goto 4, 3) := dk_167 0 4 (dk_at dksX0_placeAt_1 0 rfl rfl)
theorem dX0_placeAt_27 : decode cX0_placeAt 27 = .ok (.iconst (-1), 1) := dk_2 (dk_at dksX0_placeAt_1 3 rfl rfl)
theorem dX0_placeAt_28 : decode cX0_placeAt 28 = .ok (.ireturn, 1) := dk_172 (dk_at dksX0_placeAt_1 4 rfl rfl)
abbrev cX0_firstMarked : ByteArray := prog_1_method_21_code
def yX0_firstMarked : MethodName := ⟨RX0, "firstMarked", "()I"⟩
def dkwX0_firstMarked_0 : List UInt8 := [3, 60, 42, 180, 0, 53, 27, 51, 154, 0, 9, 132, 1, 1, 167, 255, 244, 27, 172]
abbrev dktX0_firstMarked_0 : List UInt8 := dkwX0_firstMarked_0 ++ []
theorem dksX0_firstMarked_0 : cX0_firstMarked.data.toList.drop 0 = dktX0_firstMarked_0 := by decide +kernel
theorem dX0_firstMarked_0 : decode cX0_firstMarked 0 = .ok (.iconst 0, 1) := dk_3 (dk_at dksX0_firstMarked_0 0 rfl rfl)
theorem dX0_firstMarked_1 : decode cX0_firstMarked 1 = .ok (.istore_n 1, 1) := dk_60 (dk_at dksX0_firstMarked_0 1 rfl rfl)
theorem dX0_firstMarked_2 : decode cX0_firstMarked 2 = .ok (.aload_n 0, 1) := dk_42 (dk_at dksX0_firstMarked_0 2 rfl rfl)
theorem dX0_firstMarked_3 : decode cX0_firstMarked 3 = .ok (.getfield 53, 3) := dk_180 0 53 (dk_at dksX0_firstMarked_0 3 rfl rfl)
theorem dX0_firstMarked_6 : decode cX0_firstMarked 6 = .ok (.iload_n 1, 1) := dk_27 (dk_at dksX0_firstMarked_0 6 rfl rfl)
theorem dX0_firstMarked_7 : decode cX0_firstMarked 7 = .ok (.baload, 1) := dk_51 (dk_at dksX0_firstMarked_0 7 rfl rfl)
theorem dX0_firstMarked_8 : decode cX0_firstMarked 8 = .ok (.ifCond .ne 9, 3) := dk_154 0 9 (dk_at dksX0_firstMarked_0 8 rfl rfl)
theorem dX0_firstMarked_11 : decode cX0_firstMarked 11 = .ok (.iinc 1 1, 3) := dk_132 1 1 (dk_at dksX0_firstMarked_0 11 rfl rfl)
theorem dX0_firstMarked_14 : decode cX0_firstMarked 14 = .ok (.goto (-12), 3) := dk_167 255 244 (dk_at dksX0_firstMarked_0 14 rfl rfl)
theorem dX0_firstMarked_17 : decode cX0_firstMarked 17 = .ok (.iload_n 1, 1) := dk_27 (dk_at dksX0_firstMarked_0 17 rfl rfl)
theorem dX0_firstMarked_18 : decode cX0_firstMarked 18 = .ok (.ireturn, 1) := dk_172 (dk_at dksX0_firstMarked_0 18 rfl rfl)
abbrev cX0_faced : ByteArray := prog_1_method_22_code
def yX0_faced : MethodName := ⟨RX0, "faced", "(I)I"⟩
def dkwX0_faced_1 : List UInt8 := [4, 96, 61, 132, 3, 1, 167, 255, 230, 28, 172]
abbrev dktX0_faced_1 : List UInt8 := dkwX0_faced_1 ++ []
def dkwX0_faced_0 : List UInt8 := [3, 61, 3, 62, 29, 16, 48, 162, 0, 26, 28, 29, 27, 184, 0, 170, 2, 160, 0, 7, 3, 167, 0, 4]
abbrev dktX0_faced_0 : List UInt8 := dkwX0_faced_0 ++ dktX0_faced_1
theorem dksX0_faced_0 : cX0_faced.data.toList.drop 0 = dktX0_faced_0 := by decide +kernel
theorem dksX0_faced_1 : cX0_faced.data.toList.drop 24 = dktX0_faced_1 := dk_seg dksX0_faced_0 24 rfl rfl
theorem dX0_faced_0 : decode cX0_faced 0 = .ok (.iconst 0, 1) := dk_3 (dk_at dksX0_faced_0 0 rfl rfl)
theorem dX0_faced_1 : decode cX0_faced 1 = .ok (.istore_n 2, 1) := dk_61 (dk_at dksX0_faced_0 1 rfl rfl)
theorem dX0_faced_2 : decode cX0_faced 2 = .ok (.iconst 0, 1) := dk_3 (dk_at dksX0_faced_0 2 rfl rfl)
theorem dX0_faced_3 : decode cX0_faced 3 = .ok (.istore_n 3, 1) := dk_62 (dk_at dksX0_faced_0 3 rfl rfl)
theorem dX0_faced_4 : decode cX0_faced 4 = .ok (.iload_n 3, 1) := dk_29 (dk_at dksX0_faced_0 4 rfl rfl)
theorem dX0_faced_5 : decode cX0_faced 5 = .ok (.bipush 48, 2) := dk_16 48 (dk_at dksX0_faced_0 5 rfl rfl)
theorem dX0_faced_7 : decode cX0_faced 7 = .ok (.if_icmp .ge 26, 3) := dk_162 0 26 (dk_at dksX0_faced_0 7 rfl rfl)
theorem dX0_faced_10 : decode cX0_faced 10 = .ok (.iload_n 2, 1) := dk_28 (dk_at dksX0_faced_0 10 rfl rfl)
theorem dX0_faced_11 : decode cX0_faced 11 = .ok (.iload_n 3, 1) := dk_29 (dk_at dksX0_faced_0 11 rfl rfl)
theorem dX0_faced_12 : decode cX0_faced 12 = .ok (.iload_n 1, 1) := dk_27 (dk_at dksX0_faced_0 12 rfl rfl)
theorem dX0_faced_13 : decode cX0_faced 13 = .ok (.invokestatic 170, 3) := dk_184 0 170 (dk_at dksX0_faced_0 13 rfl rfl)
theorem dX0_faced_16 : decode cX0_faced 16 = .ok (.iconst (-1), 1) := dk_2 (dk_at dksX0_faced_0 16 rfl rfl)
theorem dX0_faced_17 : decode cX0_faced 17 = .ok (.if_icmp .ne 7, 3) := dk_160 0 7 (dk_at dksX0_faced_0 17 rfl rfl)
theorem dX0_faced_20 : decode cX0_faced 20 = .ok (.iconst 0, 1) := dk_3 (dk_at dksX0_faced_0 20 rfl rfl)
theorem dX0_faced_21 : decode cX0_faced 21 = .ok (.goto 4, 3) := dk_167 0 4 (dk_at dksX0_faced_0 21 rfl rfl)
theorem dX0_faced_24 : decode cX0_faced 24 = .ok (.iconst 1, 1) := dk_4 (dk_at dksX0_faced_1 0 rfl rfl)
theorem dX0_faced_25 : decode cX0_faced 25 = .ok (.iadd, 1) := dk_96 (dk_at dksX0_faced_1 1 rfl rfl)
theorem dX0_faced_26 : decode cX0_faced 26 = .ok (.istore_n 2, 1) := dk_61 (dk_at dksX0_faced_1 2 rfl rfl)
theorem dX0_faced_27 : decode cX0_faced 27 = .ok (.iinc 3 1, 3) := dk_132 3 1 (dk_at dksX0_faced_1 3 rfl rfl)
theorem dX0_faced_30 : decode cX0_faced 30 = .ok (.goto (-26), 3) := dk_167 255 230 (dk_at dksX0_faced_1 6 rfl rfl)
theorem dX0_faced_33 : decode cX0_faced 33 = .ok (.iload_n 2, 1) := dk_28 (dk_at dksX0_faced_1 9 rfl rfl)
theorem dX0_faced_34 : decode cX0_faced 34 = .ok (.ireturn, 1) := dk_172 (dk_at dksX0_faced_1 10 rfl rfl)
abbrev cX0_widest : ByteArray := prog_1_method_23_code
def yX0_widest : MethodName := ⟨RX0, "widest", "(I)I"⟩
def dkwX0_widest_2 : List UInt8 := [27, 182, 0, 177, 28, 100, 172]
abbrev dktX0_widest_2 : List UInt8 := dkwX0_widest_2 ++ []
def dkwX0_widest_1 : List UInt8 := [28, 42, 180, 0, 65, 29, 27, 182, 0, 174, 184, 0, 3, 61, 132, 3, 1, 167, 255, 220, 42, 180, 0, 65]
abbrev dktX0_widest_1 : List UInt8 := dkwX0_widest_1 ++ dktX0_widest_2
def dkwX0_widest_0 : List UInt8 := [18, 173, 61, 3, 62, 29, 16, 48, 162, 0, 36, 29, 27, 184, 0, 170, 2, 160, 0, 7, 28, 167, 0, 16]
abbrev dktX0_widest_0 : List UInt8 := dkwX0_widest_0 ++ dktX0_widest_1
theorem dksX0_widest_0 : cX0_widest.data.toList.drop 0 = dktX0_widest_0 := by decide +kernel
theorem dksX0_widest_1 : cX0_widest.data.toList.drop 24 = dktX0_widest_1 := dk_seg dksX0_widest_0 24 rfl rfl
theorem dksX0_widest_2 : cX0_widest.data.toList.drop 48 = dktX0_widest_2 := dk_seg dksX0_widest_1 24 rfl rfl
theorem dX0_widest_0 : decode cX0_widest 0 = .ok (.ldc 173, 2) := dk_18 173 (dk_at dksX0_widest_0 0 rfl rfl)
theorem dX0_widest_2 : decode cX0_widest 2 = .ok (.istore_n 2, 1) := dk_61 (dk_at dksX0_widest_0 2 rfl rfl)
theorem dX0_widest_3 : decode cX0_widest 3 = .ok (.iconst 0, 1) := dk_3 (dk_at dksX0_widest_0 3 rfl rfl)
theorem dX0_widest_4 : decode cX0_widest 4 = .ok (.istore_n 3, 1) := dk_62 (dk_at dksX0_widest_0 4 rfl rfl)
theorem dX0_widest_5 : decode cX0_widest 5 = .ok (.iload_n 3, 1) := dk_29 (dk_at dksX0_widest_0 5 rfl rfl)
theorem dX0_widest_6 : decode cX0_widest 6 = .ok (.bipush 48, 2) := dk_16 48 (dk_at dksX0_widest_0 6 rfl rfl)
theorem dX0_widest_8 : decode cX0_widest 8 = .ok (.if_icmp .ge 36, 3) := dk_162 0 36 (dk_at dksX0_widest_0 8 rfl rfl)
theorem dX0_widest_11 : decode cX0_widest 11 = .ok (.iload_n 3, 1) := dk_29 (dk_at dksX0_widest_0 11 rfl rfl)
theorem dX0_widest_12 : decode cX0_widest 12 = .ok (.iload_n 1, 1) := dk_27 (dk_at dksX0_widest_0 12 rfl rfl)
theorem dX0_widest_13 : decode cX0_widest 13 = .ok (.invokestatic 170, 3) := dk_184 0 170 (dk_at dksX0_widest_0 13 rfl rfl)
theorem dX0_widest_16 : decode cX0_widest 16 = .ok (.iconst (-1), 1) := dk_2 (dk_at dksX0_widest_0 16 rfl rfl)
theorem dX0_widest_17 : decode cX0_widest 17 = .ok (.if_icmp .ne 7, 3) := dk_160 0 7 (dk_at dksX0_widest_0 17 rfl rfl)
theorem dX0_widest_20 : decode cX0_widest 20 = .ok (.iload_n 2, 1) := dk_28 (dk_at dksX0_widest_0 20 rfl rfl)
theorem dX0_widest_21 : decode cX0_widest 21 = .ok (.goto 16, 3) := dk_167 0 16 (dk_at dksX0_widest_0 21 rfl rfl)
theorem dX0_widest_24 : decode cX0_widest 24 = .ok (.iload_n 2, 1) := dk_28 (dk_at dksX0_widest_1 0 rfl rfl)
theorem dX0_widest_25 : decode cX0_widest 25 = .ok (.aload_n 0, 1) := dk_42 (dk_at dksX0_widest_1 1 rfl rfl)
theorem dX0_widest_26 : decode cX0_widest 26 = .ok (.getfield 65, 3) := dk_180 0 65 (dk_at dksX0_widest_1 2 rfl rfl)
theorem dX0_widest_29 : decode cX0_widest 29 = .ok (.iload_n 3, 1) := dk_29 (dk_at dksX0_widest_1 5 rfl rfl)
theorem dX0_widest_30 : decode cX0_widest 30 = .ok (.iload_n 1, 1) := dk_27 (dk_at dksX0_widest_1 6 rfl rfl)
theorem dX0_widest_31 : decode cX0_widest 31 = .ok (.invokevirtual 174, 3) := dk_182 0 174 (dk_at dksX0_widest_1 7 rfl rfl)
theorem dX0_widest_34 : decode cX0_widest 34 = .ok (.invokestatic 3, 3) := dk_184 0 3 (dk_at dksX0_widest_1 10 rfl rfl)
theorem dX0_widest_37 : decode cX0_widest 37 = .ok (.istore_n 2, 1) := dk_61 (dk_at dksX0_widest_1 13 rfl rfl)
theorem dX0_widest_38 : decode cX0_widest 38 = .ok (.iinc 3 1, 3) := dk_132 3 1 (dk_at dksX0_widest_1 14 rfl rfl)
theorem dX0_widest_41 : decode cX0_widest 41 = .ok (.goto (-36), 3) := dk_167 255 220 (dk_at dksX0_widest_1 17 rfl rfl)
theorem dX0_widest_44 : decode cX0_widest 44 = .ok (.aload_n 0, 1) := dk_42 (dk_at dksX0_widest_1 20 rfl rfl)
theorem dX0_widest_45 : decode cX0_widest 45 = .ok (.getfield 65, 3) := dk_180 0 65 (dk_at dksX0_widest_1 21 rfl rfl)
theorem dX0_widest_48 : decode cX0_widest 48 = .ok (.iload_n 1, 1) := dk_27 (dk_at dksX0_widest_2 0 rfl rfl)
theorem dX0_widest_49 : decode cX0_widest 49 = .ok (.invokevirtual 177, 3) := dk_182 0 177 (dk_at dksX0_widest_2 1 rfl rfl)
theorem dX0_widest_52 : decode cX0_widest 52 = .ok (.iload_n 2, 1) := dk_28 (dk_at dksX0_widest_2 4 rfl rfl)
theorem dX0_widest_53 : decode cX0_widest 53 = .ok (.isub, 1) := dk_100 (dk_at dksX0_widest_2 5 rfl rfl)
theorem dX0_widest_54 : decode cX0_widest 54 = .ok (.ireturn, 1) := dk_172 (dk_at dksX0_widest_2 6 rfl rfl)
abbrev cX0_best : ByteArray := prog_1_method_25_code
def yX0_best : MethodName := ⟨RX0, "best", "(I)I"⟩
def dkwX0_best_5 : List UInt8 := [167, 0, 12, 42, 180, 0, 65, 29, 3, 182, 0, 180, 172]
abbrev dktX0_best_5 : List UInt8 := dkwX0_best_5 ++ []
def dkwX0_best_4 : List UInt8 := [27, 4, 160, 0, 7, 29, 167, 0, 28, 27, 5, 160, 0, 14, 42, 180, 0, 65, 28, 182, 0, 177]
abbrev dktX0_best_4 : List UInt8 := dkwX0_best_4 ++ dktX0_best_5
def dkwX0_best_3 : List UInt8 := [164, 0, 8, 21, 4, 167, 0, 4, 29, 62, 132, 4, 1, 167, 255, 190, 27, 154, 0, 7, 28, 167, 0, 37]
abbrev dktX0_best_3 : List UInt8 := dkwX0_best_3 ++ dktX0_best_4
def dkwX0_best_2 : List UInt8 := [167, 0, 4, 28, 61, 42, 180, 0, 65, 21, 4, 3, 182, 0, 180, 42, 180, 0, 65, 29, 3, 182, 0, 180]
abbrev dktX0_best_2 : List UInt8 := dkwX0_best_2 ++ dktX0_best_3
def dkwX0_best_1 : List UInt8 := [42, 180, 0, 65, 21, 4, 182, 0, 177, 42, 180, 0, 65, 28, 182, 0, 177, 162, 0, 8, 21, 4]
abbrev dktX0_best_1 : List UInt8 := dkwX0_best_1 ++ dktX0_best_2
def dkwX0_best_0 : List UInt8 := [27, 7, 184, 0, 12, 154, 0, 5, 2, 172, 3, 61, 3, 62, 4, 54, 4, 21, 4, 16, 63, 162, 0, 65]
abbrev dktX0_best_0 : List UInt8 := dkwX0_best_0 ++ dktX0_best_1
theorem dksX0_best_0 : cX0_best.data.toList.drop 0 = dktX0_best_0 := by decide +kernel
theorem dksX0_best_1 : cX0_best.data.toList.drop 24 = dktX0_best_1 := dk_seg dksX0_best_0 24 rfl rfl
theorem dksX0_best_2 : cX0_best.data.toList.drop 46 = dktX0_best_2 := dk_seg dksX0_best_1 22 rfl rfl
theorem dksX0_best_3 : cX0_best.data.toList.drop 70 = dktX0_best_3 := dk_seg dksX0_best_2 24 rfl rfl
theorem dksX0_best_4 : cX0_best.data.toList.drop 94 = dktX0_best_4 := dk_seg dksX0_best_3 24 rfl rfl
theorem dksX0_best_5 : cX0_best.data.toList.drop 116 = dktX0_best_5 := dk_seg dksX0_best_4 22 rfl rfl
theorem dX0_best_0 : decode cX0_best 0 = .ok (.iload_n 1, 1) := dk_27 (dk_at dksX0_best_0 0 rfl rfl)
theorem dX0_best_1 : decode cX0_best 1 = .ok (.iconst 4, 1) := dk_7 (dk_at dksX0_best_0 1 rfl rfl)
theorem dX0_best_2 : decode cX0_best 2 = .ok (.invokestatic 12, 3) := dk_184 0 12 (dk_at dksX0_best_0 2 rfl rfl)
theorem dX0_best_5 : decode cX0_best 5 = .ok (.ifCond .ne 5, 3) := dk_154 0 5 (dk_at dksX0_best_0 5 rfl rfl)
theorem dX0_best_8 : decode cX0_best 8 = .ok (.iconst (-1), 1) := dk_2 (dk_at dksX0_best_0 8 rfl rfl)
theorem dX0_best_9 : decode cX0_best 9 = .ok (.ireturn, 1) := dk_172 (dk_at dksX0_best_0 9 rfl rfl)
theorem dX0_best_10 : decode cX0_best 10 = .ok (.iconst 0, 1) := dk_3 (dk_at dksX0_best_0 10 rfl rfl)
theorem dX0_best_11 : decode cX0_best 11 = .ok (.istore_n 2, 1) := dk_61 (dk_at dksX0_best_0 11 rfl rfl)
theorem dX0_best_12 : decode cX0_best 12 = .ok (.iconst 0, 1) := dk_3 (dk_at dksX0_best_0 12 rfl rfl)
theorem dX0_best_13 : decode cX0_best 13 = .ok (.istore_n 3, 1) := dk_62 (dk_at dksX0_best_0 13 rfl rfl)
theorem dX0_best_14 : decode cX0_best 14 = .ok (.iconst 1, 1) := dk_4 (dk_at dksX0_best_0 14 rfl rfl)
theorem dX0_best_15 : decode cX0_best 15 = .ok (.istore 4, 2) := dk_54 4 (dk_at dksX0_best_0 15 rfl rfl)
theorem dX0_best_17 : decode cX0_best 17 = .ok (.iload 4, 2) := dk_21 4 (dk_at dksX0_best_0 17 rfl rfl)
theorem dX0_best_19 : decode cX0_best 19 = .ok (.bipush 63, 2) := dk_16 63 (dk_at dksX0_best_0 19 rfl rfl)
theorem dX0_best_21 : decode cX0_best 21 = .ok (.if_icmp .ge 65, 3) := dk_162 0 65 (dk_at dksX0_best_0 21 rfl rfl)
theorem dX0_best_24 : decode cX0_best 24 = .ok (.aload_n 0, 1) := dk_42 (dk_at dksX0_best_1 0 rfl rfl)
theorem dX0_best_25 : decode cX0_best 25 = .ok (.getfield 65, 3) := dk_180 0 65 (dk_at dksX0_best_1 1 rfl rfl)
theorem dX0_best_28 : decode cX0_best 28 = .ok (.iload 4, 2) := dk_21 4 (dk_at dksX0_best_1 4 rfl rfl)
theorem dX0_best_30 : decode cX0_best 30 = .ok (.invokevirtual 177, 3) := dk_182 0 177 (dk_at dksX0_best_1 6 rfl rfl)
theorem dX0_best_33 : decode cX0_best 33 = .ok (.aload_n 0, 1) := dk_42 (dk_at dksX0_best_1 9 rfl rfl)
theorem dX0_best_34 : decode cX0_best 34 = .ok (.getfield 65, 3) := dk_180 0 65 (dk_at dksX0_best_1 10 rfl rfl)
theorem dX0_best_37 : decode cX0_best 37 = .ok (.iload_n 2, 1) := dk_28 (dk_at dksX0_best_1 13 rfl rfl)
theorem dX0_best_38 : decode cX0_best 38 = .ok (.invokevirtual 177, 3) := dk_182 0 177 (dk_at dksX0_best_1 14 rfl rfl)
theorem dX0_best_41 : decode cX0_best 41 = .ok (.if_icmp .ge 8, 3) := dk_162 0 8 (dk_at dksX0_best_1 17 rfl rfl)
theorem dX0_best_44 : decode cX0_best 44 = .ok (.iload 4, 2) := dk_21 4 (dk_at dksX0_best_1 20 rfl rfl)
theorem dX0_best_46 : decode cX0_best 46 = .ok (.goto 4, 3) := dk_167 0 4 (dk_at dksX0_best_2 0 rfl rfl)
theorem dX0_best_49 : decode cX0_best 49 = .ok (.iload_n 2, 1) := dk_28 (dk_at dksX0_best_2 3 rfl rfl)
theorem dX0_best_50 : decode cX0_best 50 = .ok (.istore_n 2, 1) := dk_61 (dk_at dksX0_best_2 4 rfl rfl)
theorem dX0_best_51 : decode cX0_best 51 = .ok (.aload_n 0, 1) := dk_42 (dk_at dksX0_best_2 5 rfl rfl)
theorem dX0_best_52 : decode cX0_best 52 = .ok (.getfield 65, 3) := dk_180 0 65 (dk_at dksX0_best_2 6 rfl rfl)
theorem dX0_best_55 : decode cX0_best 55 = .ok (.iload 4, 2) := dk_21 4 (dk_at dksX0_best_2 9 rfl rfl)
theorem dX0_best_57 : decode cX0_best 57 = .ok (.iconst 0, 1) := dk_3 (dk_at dksX0_best_2 11 rfl rfl)
theorem dX0_best_58 : decode cX0_best 58 = .ok (.invokevirtual 180, 3) := dk_182 0 180 (dk_at dksX0_best_2 12 rfl rfl)
theorem dX0_best_61 : decode cX0_best 61 = .ok (.aload_n 0, 1) := dk_42 (dk_at dksX0_best_2 15 rfl rfl)
theorem dX0_best_62 : decode cX0_best 62 = .ok (.getfield 65, 3) := dk_180 0 65 (dk_at dksX0_best_2 16 rfl rfl)
theorem dX0_best_65 : decode cX0_best 65 = .ok (.iload_n 3, 1) := dk_29 (dk_at dksX0_best_2 19 rfl rfl)
theorem dX0_best_66 : decode cX0_best 66 = .ok (.iconst 0, 1) := dk_3 (dk_at dksX0_best_2 20 rfl rfl)
theorem dX0_best_67 : decode cX0_best 67 = .ok (.invokevirtual 180, 3) := dk_182 0 180 (dk_at dksX0_best_2 21 rfl rfl)
theorem dX0_best_70 : decode cX0_best 70 = .ok (.if_icmp .le 8, 3) := dk_164 0 8 (dk_at dksX0_best_3 0 rfl rfl)
theorem dX0_best_73 : decode cX0_best 73 = .ok (.iload 4, 2) := dk_21 4 (dk_at dksX0_best_3 3 rfl rfl)
theorem dX0_best_75 : decode cX0_best 75 = .ok (.goto 4, 3) := dk_167 0 4 (dk_at dksX0_best_3 5 rfl rfl)
theorem dX0_best_78 : decode cX0_best 78 = .ok (.iload_n 3, 1) := dk_29 (dk_at dksX0_best_3 8 rfl rfl)
theorem dX0_best_79 : decode cX0_best 79 = .ok (.istore_n 3, 1) := dk_62 (dk_at dksX0_best_3 9 rfl rfl)
theorem dX0_best_80 : decode cX0_best 80 = .ok (.iinc 4 1, 3) := dk_132 4 1 (dk_at dksX0_best_3 10 rfl rfl)
theorem dX0_best_83 : decode cX0_best 83 = .ok (.goto (-66), 3) := dk_167 255 190 (dk_at dksX0_best_3 13 rfl rfl)
theorem dX0_best_86 : decode cX0_best 86 = .ok (.iload_n 1, 1) := dk_27 (dk_at dksX0_best_3 16 rfl rfl)
theorem dX0_best_87 : decode cX0_best 87 = .ok (.ifCond .ne 7, 3) := dk_154 0 7 (dk_at dksX0_best_3 17 rfl rfl)
theorem dX0_best_90 : decode cX0_best 90 = .ok (.iload_n 2, 1) := dk_28 (dk_at dksX0_best_3 20 rfl rfl)
theorem dX0_best_91 : decode cX0_best 91 = .ok (.goto 37, 3) := dk_167 0 37 (dk_at dksX0_best_3 21 rfl rfl)
theorem dX0_best_94 : decode cX0_best 94 = .ok (.iload_n 1, 1) := dk_27 (dk_at dksX0_best_4 0 rfl rfl)
theorem dX0_best_95 : decode cX0_best 95 = .ok (.iconst 1, 1) := dk_4 (dk_at dksX0_best_4 1 rfl rfl)
theorem dX0_best_96 : decode cX0_best 96 = .ok (.if_icmp .ne 7, 3) := dk_160 0 7 (dk_at dksX0_best_4 2 rfl rfl)
theorem dX0_best_99 : decode cX0_best 99 = .ok (.iload_n 3, 1) := dk_29 (dk_at dksX0_best_4 5 rfl rfl)
theorem dX0_best_100 : decode cX0_best 100 = .ok (.goto 28, 3) := dk_167 0 28 (dk_at dksX0_best_4 6 rfl rfl)
theorem dX0_best_103 : decode cX0_best 103 = .ok (.iload_n 1, 1) := dk_27 (dk_at dksX0_best_4 9 rfl rfl)
theorem dX0_best_104 : decode cX0_best 104 = .ok (.iconst 2, 1) := dk_5 (dk_at dksX0_best_4 10 rfl rfl)
theorem dX0_best_105 : decode cX0_best 105 = .ok (.if_icmp .ne 14, 3) := dk_160 0 14 (dk_at dksX0_best_4 11 rfl rfl)
theorem dX0_best_108 : decode cX0_best 108 = .ok (.aload_n 0, 1) := dk_42 (dk_at dksX0_best_4 14 rfl rfl)
theorem dX0_best_109 : decode cX0_best 109 = .ok (.getfield 65, 3) := dk_180 0 65 (dk_at dksX0_best_4 15 rfl rfl)
theorem dX0_best_112 : decode cX0_best 112 = .ok (.iload_n 2, 1) := dk_28 (dk_at dksX0_best_4 18 rfl rfl)
theorem dX0_best_113 : decode cX0_best 113 = .ok (.invokevirtual 177, 3) := dk_182 0 177 (dk_at dksX0_best_4 19 rfl rfl)
theorem dX0_best_116 : decode cX0_best 116 = .ok (.goto 12, 3) := dk_167 0 12 (dk_at dksX0_best_5 0 rfl rfl)
theorem dX0_best_119 : decode cX0_best 119 = .ok (.aload_n 0, 1) := dk_42 (dk_at dksX0_best_5 3 rfl rfl)
theorem dX0_best_120 : decode cX0_best 120 = .ok (.getfield 65, 3) := dk_180 0 65 (dk_at dksX0_best_5 4 rfl rfl)
theorem dX0_best_123 : decode cX0_best 123 = .ok (.iload_n 3, 1) := dk_29 (dk_at dksX0_best_5 7 rfl rfl)
theorem dX0_best_124 : decode cX0_best 124 = .ok (.iconst 0, 1) := dk_3 (dk_at dksX0_best_5 8 rfl rfl)
theorem dX0_best_125 : decode cX0_best 125 = .ok (.invokevirtual 180, 3) := dk_182 0 180 (dk_at dksX0_best_5 9 rfl rfl)
theorem dX0_best_128 : decode cX0_best 128 = .ok (.ireturn, 1) := dk_172 (dk_at dksX0_best_5 12 rfl rfl)
abbrev cX0_evenest : ByteArray := prog_1_method_27_code
def yX0_evenest : MethodName := ⟨RX0, "evenest", "(I)I"⟩
def dkwX0_evenest_2 : List UInt8 := [61, 132, 3, 1, 167, 255, 220, 27, 154, 0, 7, 28, 167, 0, 8, 42, 28, 182, 0, 192, 172]
abbrev dktX0_evenest_2 : List UInt8 := dkwX0_evenest_2 ++ []
def dkwX0_evenest_1 : List UInt8 := [182, 0, 192, 42, 28, 182, 0, 186, 104, 42, 28, 182, 0, 192, 42, 29, 182, 0, 186, 104, 162, 0, 5, 29]
abbrev dktX0_evenest_1 : List UInt8 := dkwX0_evenest_1 ++ dktX0_evenest_2
def dkwX0_evenest_0 : List UInt8 := [27, 5, 184, 0, 12, 154, 0, 5, 2, 172, 3, 61, 4, 62, 29, 16, 63, 162, 0, 36, 42, 29]
abbrev dktX0_evenest_0 : List UInt8 := dkwX0_evenest_0 ++ dktX0_evenest_1
theorem dksX0_evenest_0 : cX0_evenest.data.toList.drop 0 = dktX0_evenest_0 := by decide +kernel
theorem dksX0_evenest_1 : cX0_evenest.data.toList.drop 22 = dktX0_evenest_1 := dk_seg dksX0_evenest_0 22 rfl rfl
theorem dksX0_evenest_2 : cX0_evenest.data.toList.drop 46 = dktX0_evenest_2 := dk_seg dksX0_evenest_1 24 rfl rfl
theorem dX0_evenest_0 : decode cX0_evenest 0 = .ok (.iload_n 1, 1) := dk_27 (dk_at dksX0_evenest_0 0 rfl rfl)
theorem dX0_evenest_1 : decode cX0_evenest 1 = .ok (.iconst 2, 1) := dk_5 (dk_at dksX0_evenest_0 1 rfl rfl)
theorem dX0_evenest_2 : decode cX0_evenest 2 = .ok (.invokestatic 12, 3) := dk_184 0 12 (dk_at dksX0_evenest_0 2 rfl rfl)
theorem dX0_evenest_5 : decode cX0_evenest 5 = .ok (.ifCond .ne 5, 3) := dk_154 0 5 (dk_at dksX0_evenest_0 5 rfl rfl)
theorem dX0_evenest_8 : decode cX0_evenest 8 = .ok (.iconst (-1), 1) := dk_2 (dk_at dksX0_evenest_0 8 rfl rfl)
theorem dX0_evenest_9 : decode cX0_evenest 9 = .ok (.ireturn, 1) := dk_172 (dk_at dksX0_evenest_0 9 rfl rfl)
theorem dX0_evenest_10 : decode cX0_evenest 10 = .ok (.iconst 0, 1) := dk_3 (dk_at dksX0_evenest_0 10 rfl rfl)
theorem dX0_evenest_11 : decode cX0_evenest 11 = .ok (.istore_n 2, 1) := dk_61 (dk_at dksX0_evenest_0 11 rfl rfl)
theorem dX0_evenest_12 : decode cX0_evenest 12 = .ok (.iconst 1, 1) := dk_4 (dk_at dksX0_evenest_0 12 rfl rfl)
theorem dX0_evenest_13 : decode cX0_evenest 13 = .ok (.istore_n 3, 1) := dk_62 (dk_at dksX0_evenest_0 13 rfl rfl)
theorem dX0_evenest_14 : decode cX0_evenest 14 = .ok (.iload_n 3, 1) := dk_29 (dk_at dksX0_evenest_0 14 rfl rfl)
theorem dX0_evenest_15 : decode cX0_evenest 15 = .ok (.bipush 63, 2) := dk_16 63 (dk_at dksX0_evenest_0 15 rfl rfl)
theorem dX0_evenest_17 : decode cX0_evenest 17 = .ok (.if_icmp .ge 36, 3) := dk_162 0 36 (dk_at dksX0_evenest_0 17 rfl rfl)
theorem dX0_evenest_20 : decode cX0_evenest 20 = .ok (.aload_n 0, 1) := dk_42 (dk_at dksX0_evenest_0 20 rfl rfl)
theorem dX0_evenest_21 : decode cX0_evenest 21 = .ok (.iload_n 3, 1) := dk_29 (dk_at dksX0_evenest_0 21 rfl rfl)
theorem dX0_evenest_22 : decode cX0_evenest 22 = .ok (.invokevirtual 192, 3) := dk_182 0 192 (dk_at dksX0_evenest_1 0 rfl rfl)
theorem dX0_evenest_25 : decode cX0_evenest 25 = .ok (.aload_n 0, 1) := dk_42 (dk_at dksX0_evenest_1 3 rfl rfl)
theorem dX0_evenest_26 : decode cX0_evenest 26 = .ok (.iload_n 2, 1) := dk_28 (dk_at dksX0_evenest_1 4 rfl rfl)
theorem dX0_evenest_27 : decode cX0_evenest 27 = .ok (.invokevirtual 186, 3) := dk_182 0 186 (dk_at dksX0_evenest_1 5 rfl rfl)
theorem dX0_evenest_30 : decode cX0_evenest 30 = .ok (.imul, 1) := dk_104 (dk_at dksX0_evenest_1 8 rfl rfl)
theorem dX0_evenest_31 : decode cX0_evenest 31 = .ok (.aload_n 0, 1) := dk_42 (dk_at dksX0_evenest_1 9 rfl rfl)
theorem dX0_evenest_32 : decode cX0_evenest 32 = .ok (.iload_n 2, 1) := dk_28 (dk_at dksX0_evenest_1 10 rfl rfl)
theorem dX0_evenest_33 : decode cX0_evenest 33 = .ok (.invokevirtual 192, 3) := dk_182 0 192 (dk_at dksX0_evenest_1 11 rfl rfl)
theorem dX0_evenest_36 : decode cX0_evenest 36 = .ok (.aload_n 0, 1) := dk_42 (dk_at dksX0_evenest_1 14 rfl rfl)
theorem dX0_evenest_37 : decode cX0_evenest 37 = .ok (.iload_n 3, 1) := dk_29 (dk_at dksX0_evenest_1 15 rfl rfl)
theorem dX0_evenest_38 : decode cX0_evenest 38 = .ok (.invokevirtual 186, 3) := dk_182 0 186 (dk_at dksX0_evenest_1 16 rfl rfl)
theorem dX0_evenest_41 : decode cX0_evenest 41 = .ok (.imul, 1) := dk_104 (dk_at dksX0_evenest_1 19 rfl rfl)
theorem dX0_evenest_42 : decode cX0_evenest 42 = .ok (.if_icmp .ge 5, 3) := dk_162 0 5 (dk_at dksX0_evenest_1 20 rfl rfl)
theorem dX0_evenest_45 : decode cX0_evenest 45 = .ok (.iload_n 3, 1) := dk_29 (dk_at dksX0_evenest_1 23 rfl rfl)
theorem dX0_evenest_46 : decode cX0_evenest 46 = .ok (.istore_n 2, 1) := dk_61 (dk_at dksX0_evenest_2 0 rfl rfl)
theorem dX0_evenest_47 : decode cX0_evenest 47 = .ok (.iinc 3 1, 3) := dk_132 3 1 (dk_at dksX0_evenest_2 1 rfl rfl)
theorem dX0_evenest_50 : decode cX0_evenest 50 = .ok (.goto (-36), 3) := dk_167 255 220 (dk_at dksX0_evenest_2 4 rfl rfl)
theorem dX0_evenest_53 : decode cX0_evenest 53 = .ok (.iload_n 1, 1) := dk_27 (dk_at dksX0_evenest_2 7 rfl rfl)
theorem dX0_evenest_54 : decode cX0_evenest 54 = .ok (.ifCond .ne 7, 3) := dk_154 0 7 (dk_at dksX0_evenest_2 8 rfl rfl)
theorem dX0_evenest_57 : decode cX0_evenest 57 = .ok (.iload_n 2, 1) := dk_28 (dk_at dksX0_evenest_2 11 rfl rfl)
theorem dX0_evenest_58 : decode cX0_evenest 58 = .ok (.goto 8, 3) := dk_167 0 8 (dk_at dksX0_evenest_2 12 rfl rfl)
theorem dX0_evenest_61 : decode cX0_evenest 61 = .ok (.aload_n 0, 1) := dk_42 (dk_at dksX0_evenest_2 15 rfl rfl)
theorem dX0_evenest_62 : decode cX0_evenest 62 = .ok (.iload_n 2, 1) := dk_28 (dk_at dksX0_evenest_2 16 rfl rfl)
theorem dX0_evenest_63 : decode cX0_evenest 63 = .ok (.invokevirtual 192, 3) := dk_182 0 192 (dk_at dksX0_evenest_2 17 rfl rfl)
theorem dX0_evenest_66 : decode cX0_evenest 66 = .ok (.ireturn, 1) := dk_172 (dk_at dksX0_evenest_2 20 rfl rfl)
abbrev cX0_gapsIn : ByteArray := prog_1_method_26_code
def yX0_gapsIn : MethodName := ⟨RX0, "gapsIn", "(I)I"⟩
def dkwX0_gapsIn_2 : List UInt8 := [96, 62, 132, 4, 1, 167, 255, 217, 29, 172]
abbrev dktX0_gapsIn_2 : List UInt8 := dkwX0_gapsIn_2 ++ []
def dkwX0_gapsIn_1 : List UInt8 := [27, 184, 0, 170, 2, 160, 0, 7, 3, 167, 0, 15, 28, 42, 180, 0, 65, 21, 4, 27, 182, 0, 174, 100]
abbrev dktX0_gapsIn_1 : List UInt8 := dkwX0_gapsIn_1 ++ dktX0_gapsIn_2
def dkwX0_gapsIn_0 : List UInt8 := [42, 180, 0, 65, 27, 182, 0, 177, 61, 3, 62, 3, 54, 4, 21, 4, 16, 48, 162, 0, 38, 29, 21, 4]
abbrev dktX0_gapsIn_0 : List UInt8 := dkwX0_gapsIn_0 ++ dktX0_gapsIn_1
theorem dksX0_gapsIn_0 : cX0_gapsIn.data.toList.drop 0 = dktX0_gapsIn_0 := by decide +kernel
theorem dksX0_gapsIn_1 : cX0_gapsIn.data.toList.drop 24 = dktX0_gapsIn_1 := dk_seg dksX0_gapsIn_0 24 rfl rfl
theorem dksX0_gapsIn_2 : cX0_gapsIn.data.toList.drop 48 = dktX0_gapsIn_2 := dk_seg dksX0_gapsIn_1 24 rfl rfl
theorem dX0_gapsIn_0 : decode cX0_gapsIn 0 = .ok (.aload_n 0, 1) := dk_42 (dk_at dksX0_gapsIn_0 0 rfl rfl)
theorem dX0_gapsIn_1 : decode cX0_gapsIn 1 = .ok (.getfield 65, 3) := dk_180 0 65 (dk_at dksX0_gapsIn_0 1 rfl rfl)
theorem dX0_gapsIn_4 : decode cX0_gapsIn 4 = .ok (.iload_n 1, 1) := dk_27 (dk_at dksX0_gapsIn_0 4 rfl rfl)
theorem dX0_gapsIn_5 : decode cX0_gapsIn 5 = .ok (.invokevirtual 177, 3) := dk_182 0 177 (dk_at dksX0_gapsIn_0 5 rfl rfl)
theorem dX0_gapsIn_8 : decode cX0_gapsIn 8 = .ok (.istore_n 2, 1) := dk_61 (dk_at dksX0_gapsIn_0 8 rfl rfl)
theorem dX0_gapsIn_9 : decode cX0_gapsIn 9 = .ok (.iconst 0, 1) := dk_3 (dk_at dksX0_gapsIn_0 9 rfl rfl)
theorem dX0_gapsIn_10 : decode cX0_gapsIn 10 = .ok (.istore_n 3, 1) := dk_62 (dk_at dksX0_gapsIn_0 10 rfl rfl)
theorem dX0_gapsIn_11 : decode cX0_gapsIn 11 = .ok (.iconst 0, 1) := dk_3 (dk_at dksX0_gapsIn_0 11 rfl rfl)
theorem dX0_gapsIn_12 : decode cX0_gapsIn 12 = .ok (.istore 4, 2) := dk_54 4 (dk_at dksX0_gapsIn_0 12 rfl rfl)
theorem dX0_gapsIn_14 : decode cX0_gapsIn 14 = .ok (.iload 4, 2) := dk_21 4 (dk_at dksX0_gapsIn_0 14 rfl rfl)
theorem dX0_gapsIn_16 : decode cX0_gapsIn 16 = .ok (.bipush 48, 2) := dk_16 48 (dk_at dksX0_gapsIn_0 16 rfl rfl)
theorem dX0_gapsIn_18 : decode cX0_gapsIn 18 = .ok (.if_icmp .ge 38, 3) := dk_162 0 38 (dk_at dksX0_gapsIn_0 18 rfl rfl)
theorem dX0_gapsIn_21 : decode cX0_gapsIn 21 = .ok (.iload_n 3, 1) := dk_29 (dk_at dksX0_gapsIn_0 21 rfl rfl)
theorem dX0_gapsIn_22 : decode cX0_gapsIn 22 = .ok (.iload 4, 2) := dk_21 4 (dk_at dksX0_gapsIn_0 22 rfl rfl)
theorem dX0_gapsIn_24 : decode cX0_gapsIn 24 = .ok (.iload_n 1, 1) := dk_27 (dk_at dksX0_gapsIn_1 0 rfl rfl)
theorem dX0_gapsIn_25 : decode cX0_gapsIn 25 = .ok (.invokestatic 170, 3) := dk_184 0 170 (dk_at dksX0_gapsIn_1 1 rfl rfl)
theorem dX0_gapsIn_28 : decode cX0_gapsIn 28 = .ok (.iconst (-1), 1) := dk_2 (dk_at dksX0_gapsIn_1 4 rfl rfl)
theorem dX0_gapsIn_29 : decode cX0_gapsIn 29 = .ok (.if_icmp .ne 7, 3) := dk_160 0 7 (dk_at dksX0_gapsIn_1 5 rfl rfl)
theorem dX0_gapsIn_32 : decode cX0_gapsIn 32 = .ok (.iconst 0, 1) := dk_3 (dk_at dksX0_gapsIn_1 8 rfl rfl)
theorem dX0_gapsIn_33 : decode cX0_gapsIn 33 = .ok (.goto 15, 3) := dk_167 0 15 (dk_at dksX0_gapsIn_1 9 rfl rfl)
theorem dX0_gapsIn_36 : decode cX0_gapsIn 36 = .ok (.iload_n 2, 1) := dk_28 (dk_at dksX0_gapsIn_1 12 rfl rfl)
theorem dX0_gapsIn_37 : decode cX0_gapsIn 37 = .ok (.aload_n 0, 1) := dk_42 (dk_at dksX0_gapsIn_1 13 rfl rfl)
theorem dX0_gapsIn_38 : decode cX0_gapsIn 38 = .ok (.getfield 65, 3) := dk_180 0 65 (dk_at dksX0_gapsIn_1 14 rfl rfl)
theorem dX0_gapsIn_41 : decode cX0_gapsIn 41 = .ok (.iload 4, 2) := dk_21 4 (dk_at dksX0_gapsIn_1 17 rfl rfl)
theorem dX0_gapsIn_43 : decode cX0_gapsIn 43 = .ok (.iload_n 1, 1) := dk_27 (dk_at dksX0_gapsIn_1 19 rfl rfl)
theorem dX0_gapsIn_44 : decode cX0_gapsIn 44 = .ok (.invokevirtual 174, 3) := dk_182 0 174 (dk_at dksX0_gapsIn_1 20 rfl rfl)
theorem dX0_gapsIn_47 : decode cX0_gapsIn 47 = .ok (.isub, 1) := dk_100 (dk_at dksX0_gapsIn_1 23 rfl rfl)
theorem dX0_gapsIn_48 : decode cX0_gapsIn 48 = .ok (.iadd, 1) := dk_96 (dk_at dksX0_gapsIn_2 0 rfl rfl)
theorem dX0_gapsIn_49 : decode cX0_gapsIn 49 = .ok (.istore_n 3, 1) := dk_62 (dk_at dksX0_gapsIn_2 1 rfl rfl)
theorem dX0_gapsIn_50 : decode cX0_gapsIn 50 = .ok (.iinc 4 1, 3) := dk_132 4 1 (dk_at dksX0_gapsIn_2 2 rfl rfl)
theorem dX0_gapsIn_53 : decode cX0_gapsIn 53 = .ok (.goto (-39), 3) := dk_167 255 217 (dk_at dksX0_gapsIn_2 5 rfl rfl)
theorem dX0_gapsIn_56 : decode cX0_gapsIn 56 = .ok (.iload_n 3, 1) := dk_29 (dk_at dksX0_gapsIn_2 8 rfl rfl)
theorem dX0_gapsIn_57 : decode cX0_gapsIn 57 = .ok (.ireturn, 1) := dk_172 (dk_at dksX0_gapsIn_2 9 rfl rfl)
abbrev cX0_free : ByteArray := prog_1_method_29_code
def yX0_free : MethodName := ⟨RX0, "free", "(I)I"⟩
def dkwX0_free_0 : List UInt8 := [27, 3, 16, 50, 184, 0, 16, 153, 0, 11, 42, 27, 182, 0, 195, 167, 0, 4, 2, 172]
abbrev dktX0_free_0 : List UInt8 := dkwX0_free_0 ++ []
theorem dksX0_free_0 : cX0_free.data.toList.drop 0 = dktX0_free_0 := by decide +kernel
theorem dX0_free_0 : decode cX0_free 0 = .ok (.iload_n 1, 1) := dk_27 (dk_at dksX0_free_0 0 rfl rfl)
theorem dX0_free_1 : decode cX0_free 1 = .ok (.iconst 0, 1) := dk_3 (dk_at dksX0_free_0 1 rfl rfl)
theorem dX0_free_2 : decode cX0_free 2 = .ok (.bipush 50, 2) := dk_16 50 (dk_at dksX0_free_0 2 rfl rfl)
theorem dX0_free_4 : decode cX0_free 4 = .ok (.invokestatic 16, 3) := dk_184 0 16 (dk_at dksX0_free_0 4 rfl rfl)
theorem dX0_free_7 : decode cX0_free 7 = .ok (.ifCond .eq 11, 3) := dk_153 0 11 (dk_at dksX0_free_0 7 rfl rfl)
theorem dX0_free_10 : decode cX0_free 10 = .ok (.aload_n 0, 1) := dk_42 (dk_at dksX0_free_0 10 rfl rfl)
theorem dX0_free_11 : decode cX0_free 11 = .ok (.iload_n 1, 1) := dk_27 (dk_at dksX0_free_0 11 rfl rfl)
theorem dX0_free_12 : decode cX0_free 12 = .ok (.invokevirtual 195, 3) := dk_182 0 195 (dk_at dksX0_free_0 12 rfl rfl)
theorem dX0_free_15 : decode cX0_free 15 = .ok (.goto 4, 3) := dk_167 0 4 (dk_at dksX0_free_0 15 rfl rfl)
theorem dX0_free_18 : decode cX0_free 18 = .ok (.iconst (-1), 1) := dk_2 (dk_at dksX0_free_0 18 rfl rfl)
theorem dX0_free_19 : decode cX0_free 19 = .ok (.ireturn, 1) := dk_172 (dk_at dksX0_free_0 19 rfl rfl)
abbrev cX0_comes : ByteArray := prog_1_method_28_code
def yX0_comes : MethodName := ⟨RX0, "comes", "(I)I"⟩
def dkwX0_comes_7 : List UInt8 := [167, 255, 160, 132, 3, 1, 167, 255, 146, 28, 172]
abbrev dktX0_comes_7 : List UInt8 := dkwX0_comes_7 ++ []
def dkwX0_comes_6 : List UInt8 := [42, 180, 0, 92, 29, 46, 46, 4, 96, 79, 42, 180, 0, 92, 28, 21, 5, 79, 132, 2, 1, 132, 4, 1]
abbrev dktX0_comes_6 : List UInt8 := dkwX0_comes_6 ++ dktX0_comes_7
def dkwX0_comes_5 : List UInt8 := [180, 0, 92, 29, 46, 46, 100, 27, 164, 0, 6, 167, 0, 34, 42, 180, 0, 89, 21, 5, 42, 180, 0, 89]
abbrev dktX0_comes_5 : List UInt8 := dkwX0_comes_5 ++ dktX0_comes_6
def dkwX0_comes_4 : List UInt8 := [180, 0, 89, 21, 5, 46, 2, 160, 0, 60, 42, 180, 0, 86, 21, 5, 46, 42, 180, 0, 86, 42]
abbrev dktX0_comes_4 : List UInt8 := dkwX0_comes_4 ++ dktX0_comes_5
def dkwX0_comes_3 : List UInt8 := [162, 0, 96, 42, 180, 0, 92, 29, 46, 21, 4, 184, 0, 167, 54, 5, 21, 5, 2, 159, 0, 71, 42]
abbrev dktX0_comes_3 : List UInt8 := dkwX0_comes_3 ++ dktX0_comes_4
def dkwX0_comes_2 : List UInt8 := [180, 0, 92, 3, 16, 31, 79, 4, 61, 3, 62, 29, 28, 162, 0, 111, 3, 54, 4, 21, 4, 7]
abbrev dktX0_comes_2 : List UInt8 := dkwX0_comes_2 ++ dktX0_comes_3
def dkwX0_comes_1 : List UInt8 := [180, 0, 89, 28, 28, 16, 31, 160, 0, 7, 3, 167, 0, 4, 2, 79, 132, 2, 1, 167, 255, 216, 42]
abbrev dktX0_comes_1 : List UInt8 := dkwX0_comes_1 ++ dktX0_comes_2
def dkwX0_comes_0 : List UInt8 := [3, 61, 28, 16, 63, 162, 0, 40, 42, 180, 0, 86, 28, 42, 180, 0, 65, 28, 182, 0, 177, 79, 42]
abbrev dktX0_comes_0 : List UInt8 := dkwX0_comes_0 ++ dktX0_comes_1
theorem dksX0_comes_0 : cX0_comes.data.toList.drop 0 = dktX0_comes_0 := by decide +kernel
theorem dksX0_comes_1 : cX0_comes.data.toList.drop 23 = dktX0_comes_1 := dk_seg dksX0_comes_0 23 rfl rfl
theorem dksX0_comes_2 : cX0_comes.data.toList.drop 46 = dktX0_comes_2 := dk_seg dksX0_comes_1 23 rfl rfl
theorem dksX0_comes_3 : cX0_comes.data.toList.drop 68 = dktX0_comes_3 := dk_seg dksX0_comes_2 22 rfl rfl
theorem dksX0_comes_4 : cX0_comes.data.toList.drop 91 = dktX0_comes_4 := dk_seg dksX0_comes_3 23 rfl rfl
theorem dksX0_comes_5 : cX0_comes.data.toList.drop 113 = dktX0_comes_5 := dk_seg dksX0_comes_4 22 rfl rfl
theorem dksX0_comes_6 : cX0_comes.data.toList.drop 137 = dktX0_comes_6 := dk_seg dksX0_comes_5 24 rfl rfl
theorem dksX0_comes_7 : cX0_comes.data.toList.drop 161 = dktX0_comes_7 := dk_seg dksX0_comes_6 24 rfl rfl
theorem dX0_comes_0 : decode cX0_comes 0 = .ok (.iconst 0, 1) := dk_3 (dk_at dksX0_comes_0 0 rfl rfl)
theorem dX0_comes_1 : decode cX0_comes 1 = .ok (.istore_n 2, 1) := dk_61 (dk_at dksX0_comes_0 1 rfl rfl)
theorem dX0_comes_2 : decode cX0_comes 2 = .ok (.iload_n 2, 1) := dk_28 (dk_at dksX0_comes_0 2 rfl rfl)
theorem dX0_comes_3 : decode cX0_comes 3 = .ok (.bipush 63, 2) := dk_16 63 (dk_at dksX0_comes_0 3 rfl rfl)
theorem dX0_comes_5 : decode cX0_comes 5 = .ok (.if_icmp .ge 40, 3) := dk_162 0 40 (dk_at dksX0_comes_0 5 rfl rfl)
theorem dX0_comes_8 : decode cX0_comes 8 = .ok (.aload_n 0, 1) := dk_42 (dk_at dksX0_comes_0 8 rfl rfl)
theorem dX0_comes_9 : decode cX0_comes 9 = .ok (.getfield 86, 3) := dk_180 0 86 (dk_at dksX0_comes_0 9 rfl rfl)
theorem dX0_comes_12 : decode cX0_comes 12 = .ok (.iload_n 2, 1) := dk_28 (dk_at dksX0_comes_0 12 rfl rfl)
theorem dX0_comes_13 : decode cX0_comes 13 = .ok (.aload_n 0, 1) := dk_42 (dk_at dksX0_comes_0 13 rfl rfl)
theorem dX0_comes_14 : decode cX0_comes 14 = .ok (.getfield 65, 3) := dk_180 0 65 (dk_at dksX0_comes_0 14 rfl rfl)
theorem dX0_comes_17 : decode cX0_comes 17 = .ok (.iload_n 2, 1) := dk_28 (dk_at dksX0_comes_0 17 rfl rfl)
theorem dX0_comes_18 : decode cX0_comes 18 = .ok (.invokevirtual 177, 3) := dk_182 0 177 (dk_at dksX0_comes_0 18 rfl rfl)
theorem dX0_comes_21 : decode cX0_comes 21 = .ok (.iastore, 1) := dk_79 (dk_at dksX0_comes_0 21 rfl rfl)
theorem dX0_comes_22 : decode cX0_comes 22 = .ok (.aload_n 0, 1) := dk_42 (dk_at dksX0_comes_0 22 rfl rfl)
theorem dX0_comes_23 : decode cX0_comes 23 = .ok (.getfield 89, 3) := dk_180 0 89 (dk_at dksX0_comes_1 0 rfl rfl)
theorem dX0_comes_26 : decode cX0_comes 26 = .ok (.iload_n 2, 1) := dk_28 (dk_at dksX0_comes_1 3 rfl rfl)
theorem dX0_comes_27 : decode cX0_comes 27 = .ok (.iload_n 2, 1) := dk_28 (dk_at dksX0_comes_1 4 rfl rfl)
theorem dX0_comes_28 : decode cX0_comes 28 = .ok (.bipush 31, 2) := dk_16 31 (dk_at dksX0_comes_1 5 rfl rfl)
theorem dX0_comes_30 : decode cX0_comes 30 = .ok (.if_icmp .ne 7, 3) := dk_160 0 7 (dk_at dksX0_comes_1 7 rfl rfl)
theorem dX0_comes_33 : decode cX0_comes 33 = .ok (.iconst 0, 1) := dk_3 (dk_at dksX0_comes_1 10 rfl rfl)
theorem dX0_comes_34 : decode cX0_comes 34 = .ok (.goto 4, 3) := dk_167 0 4 (dk_at dksX0_comes_1 11 rfl rfl)
theorem dX0_comes_37 : decode cX0_comes 37 = .ok (.iconst (-1), 1) := dk_2 (dk_at dksX0_comes_1 14 rfl rfl)
theorem dX0_comes_38 : decode cX0_comes 38 = .ok (.iastore, 1) := dk_79 (dk_at dksX0_comes_1 15 rfl rfl)
theorem dX0_comes_39 : decode cX0_comes 39 = .ok (.iinc 2 1, 3) := dk_132 2 1 (dk_at dksX0_comes_1 16 rfl rfl)
theorem dX0_comes_42 : decode cX0_comes 42 = .ok (.goto (-40), 3) := dk_167 255 216 (dk_at dksX0_comes_1 19 rfl rfl)
theorem dX0_comes_45 : decode cX0_comes 45 = .ok (.aload_n 0, 1) := dk_42 (dk_at dksX0_comes_1 22 rfl rfl)
theorem dX0_comes_46 : decode cX0_comes 46 = .ok (.getfield 92, 3) := dk_180 0 92 (dk_at dksX0_comes_2 0 rfl rfl)
theorem dX0_comes_49 : decode cX0_comes 49 = .ok (.iconst 0, 1) := dk_3 (dk_at dksX0_comes_2 3 rfl rfl)
theorem dX0_comes_50 : decode cX0_comes 50 = .ok (.bipush 31, 2) := dk_16 31 (dk_at dksX0_comes_2 4 rfl rfl)
theorem dX0_comes_52 : decode cX0_comes 52 = .ok (.iastore, 1) := dk_79 (dk_at dksX0_comes_2 6 rfl rfl)
theorem dX0_comes_53 : decode cX0_comes 53 = .ok (.iconst 1, 1) := dk_4 (dk_at dksX0_comes_2 7 rfl rfl)
theorem dX0_comes_54 : decode cX0_comes 54 = .ok (.istore_n 2, 1) := dk_61 (dk_at dksX0_comes_2 8 rfl rfl)
theorem dX0_comes_55 : decode cX0_comes 55 = .ok (.iconst 0, 1) := dk_3 (dk_at dksX0_comes_2 9 rfl rfl)
theorem dX0_comes_56 : decode cX0_comes 56 = .ok (.istore_n 3, 1) := dk_62 (dk_at dksX0_comes_2 10 rfl rfl)
theorem dX0_comes_57 : decode cX0_comes 57 = .ok (.iload_n 3, 1) := dk_29 (dk_at dksX0_comes_2 11 rfl rfl)
theorem dX0_comes_58 : decode cX0_comes 58 = .ok (.iload_n 2, 1) := dk_28 (dk_at dksX0_comes_2 12 rfl rfl)
theorem dX0_comes_59 : decode cX0_comes 59 = .ok (.if_icmp .ge 111, 3) := dk_162 0 111 (dk_at dksX0_comes_2 13 rfl rfl)
theorem dX0_comes_62 : decode cX0_comes 62 = .ok (.iconst 0, 1) := dk_3 (dk_at dksX0_comes_2 16 rfl rfl)
theorem dX0_comes_63 : decode cX0_comes 63 = .ok (.istore 4, 2) := dk_54 4 (dk_at dksX0_comes_2 17 rfl rfl)
theorem dX0_comes_65 : decode cX0_comes 65 = .ok (.iload 4, 2) := dk_21 4 (dk_at dksX0_comes_2 19 rfl rfl)
theorem dX0_comes_67 : decode cX0_comes 67 = .ok (.iconst 4, 1) := dk_7 (dk_at dksX0_comes_2 21 rfl rfl)
theorem dX0_comes_68 : decode cX0_comes 68 = .ok (.if_icmp .ge 96, 3) := dk_162 0 96 (dk_at dksX0_comes_3 0 rfl rfl)
theorem dX0_comes_71 : decode cX0_comes 71 = .ok (.aload_n 0, 1) := dk_42 (dk_at dksX0_comes_3 3 rfl rfl)
theorem dX0_comes_72 : decode cX0_comes 72 = .ok (.getfield 92, 3) := dk_180 0 92 (dk_at dksX0_comes_3 4 rfl rfl)
theorem dX0_comes_75 : decode cX0_comes 75 = .ok (.iload_n 3, 1) := dk_29 (dk_at dksX0_comes_3 7 rfl rfl)
theorem dX0_comes_76 : decode cX0_comes 76 = .ok (.iaload, 1) := dk_46 (dk_at dksX0_comes_3 8 rfl rfl)
theorem dX0_comes_77 : decode cX0_comes 77 = .ok (.iload 4, 2) := dk_21 4 (dk_at dksX0_comes_3 9 rfl rfl)
theorem dX0_comes_79 : decode cX0_comes 79 = .ok (.invokestatic 167, 3) := dk_184 0 167 (dk_at dksX0_comes_3 11 rfl rfl)
theorem dX0_comes_82 : decode cX0_comes 82 = .ok (.istore 5, 2) := dk_54 5 (dk_at dksX0_comes_3 14 rfl rfl)
theorem dX0_comes_84 : decode cX0_comes 84 = .ok (.iload 5, 2) := dk_21 5 (dk_at dksX0_comes_3 16 rfl rfl)
theorem dX0_comes_86 : decode cX0_comes 86 = .ok (.iconst (-1), 1) := dk_2 (dk_at dksX0_comes_3 18 rfl rfl)
theorem dX0_comes_87 : decode cX0_comes 87 = .ok (.if_icmp .eq 71, 3) := dk_159 0 71 (dk_at dksX0_comes_3 19 rfl rfl)
theorem dX0_comes_90 : decode cX0_comes 90 = .ok (.aload_n 0, 1) := dk_42 (dk_at dksX0_comes_3 22 rfl rfl)
theorem dX0_comes_91 : decode cX0_comes 91 = .ok (.getfield 89, 3) := dk_180 0 89 (dk_at dksX0_comes_4 0 rfl rfl)
theorem dX0_comes_94 : decode cX0_comes 94 = .ok (.iload 5, 2) := dk_21 5 (dk_at dksX0_comes_4 3 rfl rfl)
theorem dX0_comes_96 : decode cX0_comes 96 = .ok (.iaload, 1) := dk_46 (dk_at dksX0_comes_4 5 rfl rfl)
theorem dX0_comes_97 : decode cX0_comes 97 = .ok (.iconst (-1), 1) := dk_2 (dk_at dksX0_comes_4 6 rfl rfl)
theorem dX0_comes_98 : decode cX0_comes 98 = .ok (.if_icmp .ne 60, 3) := dk_160 0 60 (dk_at dksX0_comes_4 7 rfl rfl)
theorem dX0_comes_101 : decode cX0_comes 101 = .ok (.aload_n 0, 1) := dk_42 (dk_at dksX0_comes_4 10 rfl rfl)
theorem dX0_comes_102 : decode cX0_comes 102 = .ok (.getfield 86, 3) := dk_180 0 86 (dk_at dksX0_comes_4 11 rfl rfl)
theorem dX0_comes_105 : decode cX0_comes 105 = .ok (.iload 5, 2) := dk_21 5 (dk_at dksX0_comes_4 14 rfl rfl)
theorem dX0_comes_107 : decode cX0_comes 107 = .ok (.iaload, 1) := dk_46 (dk_at dksX0_comes_4 16 rfl rfl)
theorem dX0_comes_108 : decode cX0_comes 108 = .ok (.aload_n 0, 1) := dk_42 (dk_at dksX0_comes_4 17 rfl rfl)
theorem dX0_comes_109 : decode cX0_comes 109 = .ok (.getfield 86, 3) := dk_180 0 86 (dk_at dksX0_comes_4 18 rfl rfl)
theorem dX0_comes_112 : decode cX0_comes 112 = .ok (.aload_n 0, 1) := dk_42 (dk_at dksX0_comes_4 21 rfl rfl)
theorem dX0_comes_113 : decode cX0_comes 113 = .ok (.getfield 92, 3) := dk_180 0 92 (dk_at dksX0_comes_5 0 rfl rfl)
theorem dX0_comes_116 : decode cX0_comes 116 = .ok (.iload_n 3, 1) := dk_29 (dk_at dksX0_comes_5 3 rfl rfl)
theorem dX0_comes_117 : decode cX0_comes 117 = .ok (.iaload, 1) := dk_46 (dk_at dksX0_comes_5 4 rfl rfl)
theorem dX0_comes_118 : decode cX0_comes 118 = .ok (.iaload, 1) := dk_46 (dk_at dksX0_comes_5 5 rfl rfl)
theorem dX0_comes_119 : decode cX0_comes 119 = .ok (.isub, 1) := dk_100 (dk_at dksX0_comes_5 6 rfl rfl)
theorem dX0_comes_120 : decode cX0_comes 120 = .ok (.iload_n 1, 1) := dk_27 (dk_at dksX0_comes_5 7 rfl rfl)
theorem dX0_comes_121 : decode cX0_comes 121 = .ok (.if_icmp .le 6, 3) := dk_164 0 6 (dk_at dksX0_comes_5 8 rfl rfl)
theorem dX0_comes_124 : decode cX0_comes 124 = .ok (.goto 34, 3) := dk_167 0 34 (dk_at dksX0_comes_5 11 rfl rfl)
theorem dX0_comes_127 : decode cX0_comes 127 = .ok (.aload_n 0, 1) := dk_42 (dk_at dksX0_comes_5 14 rfl rfl)
theorem dX0_comes_128 : decode cX0_comes 128 = .ok (.getfield 89, 3) := dk_180 0 89 (dk_at dksX0_comes_5 15 rfl rfl)
theorem dX0_comes_131 : decode cX0_comes 131 = .ok (.iload 5, 2) := dk_21 5 (dk_at dksX0_comes_5 18 rfl rfl)
theorem dX0_comes_133 : decode cX0_comes 133 = .ok (.aload_n 0, 1) := dk_42 (dk_at dksX0_comes_5 20 rfl rfl)
theorem dX0_comes_134 : decode cX0_comes 134 = .ok (.getfield 89, 3) := dk_180 0 89 (dk_at dksX0_comes_5 21 rfl rfl)
theorem dX0_comes_137 : decode cX0_comes 137 = .ok (.aload_n 0, 1) := dk_42 (dk_at dksX0_comes_6 0 rfl rfl)
theorem dX0_comes_138 : decode cX0_comes 138 = .ok (.getfield 92, 3) := dk_180 0 92 (dk_at dksX0_comes_6 1 rfl rfl)
theorem dX0_comes_141 : decode cX0_comes 141 = .ok (.iload_n 3, 1) := dk_29 (dk_at dksX0_comes_6 4 rfl rfl)
theorem dX0_comes_142 : decode cX0_comes 142 = .ok (.iaload, 1) := dk_46 (dk_at dksX0_comes_6 5 rfl rfl)
theorem dX0_comes_143 : decode cX0_comes 143 = .ok (.iaload, 1) := dk_46 (dk_at dksX0_comes_6 6 rfl rfl)
theorem dX0_comes_144 : decode cX0_comes 144 = .ok (.iconst 1, 1) := dk_4 (dk_at dksX0_comes_6 7 rfl rfl)
theorem dX0_comes_145 : decode cX0_comes 145 = .ok (.iadd, 1) := dk_96 (dk_at dksX0_comes_6 8 rfl rfl)
theorem dX0_comes_146 : decode cX0_comes 146 = .ok (.iastore, 1) := dk_79 (dk_at dksX0_comes_6 9 rfl rfl)
theorem dX0_comes_147 : decode cX0_comes 147 = .ok (.aload_n 0, 1) := dk_42 (dk_at dksX0_comes_6 10 rfl rfl)
theorem dX0_comes_148 : decode cX0_comes 148 = .ok (.getfield 92, 3) := dk_180 0 92 (dk_at dksX0_comes_6 11 rfl rfl)
theorem dX0_comes_151 : decode cX0_comes 151 = .ok (.iload_n 2, 1) := dk_28 (dk_at dksX0_comes_6 14 rfl rfl)
theorem dX0_comes_152 : decode cX0_comes 152 = .ok (.iload 5, 2) := dk_21 5 (dk_at dksX0_comes_6 15 rfl rfl)
theorem dX0_comes_154 : decode cX0_comes 154 = .ok (.iastore, 1) := dk_79 (dk_at dksX0_comes_6 17 rfl rfl)
theorem dX0_comes_155 : decode cX0_comes 155 = .ok (.iinc 2 1, 3) := dk_132 2 1 (dk_at dksX0_comes_6 18 rfl rfl)
theorem dX0_comes_158 : decode cX0_comes 158 = .ok (.iinc 4 1, 3) := dk_132 4 1 (dk_at dksX0_comes_6 21 rfl rfl)
theorem dX0_comes_161 : decode cX0_comes 161 = .ok (.goto (-96), 3) := dk_167 255 160 (dk_at dksX0_comes_7 0 rfl rfl)
theorem dX0_comes_164 : decode cX0_comes 164 = .ok (.iinc 3 1, 3) := dk_132 3 1 (dk_at dksX0_comes_7 3 rfl rfl)
theorem dX0_comes_167 : decode cX0_comes 167 = .ok (.goto (-110), 3) := dk_167 255 146 (dk_at dksX0_comes_7 6 rfl rfl)
theorem dX0_comes_170 : decode cX0_comes 170 = .ok (.iload_n 2, 1) := dk_28 (dk_at dksX0_comes_7 9 rfl rfl)
theorem dX0_comes_171 : decode cX0_comes 171 = .ok (.ireturn, 1) := dk_172 (dk_at dksX0_comes_7 10 rfl rfl)
abbrev cX0_wayTo : ByteArray := prog_1_method_31_code
def yX0_wayTo : MethodName := ⟨RX0, "wayTo", "(IIII)I"⟩
def dkwX0_wayTo_3 : List UInt8 := [167, 0, 13, 42, 180, 0, 89, 27, 28, 184, 0, 33, 46, 172]
abbrev dktX0_wayTo_3 : List UInt8 := dkwX0_wayTo_3 ++ []
def dkwX0_wayTo_2 : List UInt8 := [172, 42, 29, 182, 0, 195, 87, 42, 180, 0, 89, 27, 28, 184, 0, 33, 46, 2, 160, 0, 8, 16, 254]
abbrev dktX0_wayTo_2 : List UInt8 := dkwX0_wayTo_2 ++ dktX0_wayTo_3
def dkwX0_wayTo_1 : List UInt8 := [154, 0, 5, 2, 172, 21, 4, 154, 0, 18, 42, 182, 0, 198, 42, 180, 0, 95, 27, 28, 184, 0, 33, 46]
abbrev dktX0_wayTo_1 : List UInt8 := dkwX0_wayTo_1 ++ dktX0_wayTo_2
def dkwX0_wayTo_0 : List UInt8 := [27, 28, 184, 0, 30, 153, 0, 22, 29, 3, 16, 50, 184, 0, 16, 153, 0, 12, 21, 4, 5, 184, 0, 12]
abbrev dktX0_wayTo_0 : List UInt8 := dkwX0_wayTo_0 ++ dktX0_wayTo_1
theorem dksX0_wayTo_0 : cX0_wayTo.data.toList.drop 0 = dktX0_wayTo_0 := by decide +kernel
theorem dksX0_wayTo_1 : cX0_wayTo.data.toList.drop 24 = dktX0_wayTo_1 := dk_seg dksX0_wayTo_0 24 rfl rfl
theorem dksX0_wayTo_2 : cX0_wayTo.data.toList.drop 48 = dktX0_wayTo_2 := dk_seg dksX0_wayTo_1 24 rfl rfl
theorem dksX0_wayTo_3 : cX0_wayTo.data.toList.drop 71 = dktX0_wayTo_3 := dk_seg dksX0_wayTo_2 23 rfl rfl
theorem dX0_wayTo_0 : decode cX0_wayTo 0 = .ok (.iload_n 1, 1) := dk_27 (dk_at dksX0_wayTo_0 0 rfl rfl)
theorem dX0_wayTo_1 : decode cX0_wayTo 1 = .ok (.iload_n 2, 1) := dk_28 (dk_at dksX0_wayTo_0 1 rfl rfl)
theorem dX0_wayTo_2 : decode cX0_wayTo 2 = .ok (.invokestatic 30, 3) := dk_184 0 30 (dk_at dksX0_wayTo_0 2 rfl rfl)
theorem dX0_wayTo_5 : decode cX0_wayTo 5 = .ok (.ifCond .eq 22, 3) := dk_153 0 22 (dk_at dksX0_wayTo_0 5 rfl rfl)
theorem dX0_wayTo_8 : decode cX0_wayTo 8 = .ok (.iload_n 3, 1) := dk_29 (dk_at dksX0_wayTo_0 8 rfl rfl)
theorem dX0_wayTo_9 : decode cX0_wayTo 9 = .ok (.iconst 0, 1) := dk_3 (dk_at dksX0_wayTo_0 9 rfl rfl)
theorem dX0_wayTo_10 : decode cX0_wayTo 10 = .ok (.bipush 50, 2) := dk_16 50 (dk_at dksX0_wayTo_0 10 rfl rfl)
theorem dX0_wayTo_12 : decode cX0_wayTo 12 = .ok (.invokestatic 16, 3) := dk_184 0 16 (dk_at dksX0_wayTo_0 12 rfl rfl)
theorem dX0_wayTo_15 : decode cX0_wayTo 15 = .ok (.ifCond .eq 12, 3) := dk_153 0 12 (dk_at dksX0_wayTo_0 15 rfl rfl)
theorem dX0_wayTo_18 : decode cX0_wayTo 18 = .ok (.iload 4, 2) := dk_21 4 (dk_at dksX0_wayTo_0 18 rfl rfl)
theorem dX0_wayTo_20 : decode cX0_wayTo 20 = .ok (.iconst 2, 1) := dk_5 (dk_at dksX0_wayTo_0 20 rfl rfl)
theorem dX0_wayTo_21 : decode cX0_wayTo 21 = .ok (.invokestatic 12, 3) := dk_184 0 12 (dk_at dksX0_wayTo_0 21 rfl rfl)
theorem dX0_wayTo_24 : decode cX0_wayTo 24 = .ok (.ifCond .ne 5, 3) := dk_154 0 5 (dk_at dksX0_wayTo_1 0 rfl rfl)
theorem dX0_wayTo_27 : decode cX0_wayTo 27 = .ok (.iconst (-1), 1) := dk_2 (dk_at dksX0_wayTo_1 3 rfl rfl)
theorem dX0_wayTo_28 : decode cX0_wayTo 28 = .ok (.ireturn, 1) := dk_172 (dk_at dksX0_wayTo_1 4 rfl rfl)
theorem dX0_wayTo_29 : decode cX0_wayTo 29 = .ok (.iload 4, 2) := dk_21 4 (dk_at dksX0_wayTo_1 5 rfl rfl)
theorem dX0_wayTo_31 : decode cX0_wayTo 31 = .ok (.ifCond .ne 18, 3) := dk_154 0 18 (dk_at dksX0_wayTo_1 7 rfl rfl)
theorem dX0_wayTo_34 : decode cX0_wayTo 34 = .ok (.aload_n 0, 1) := dk_42 (dk_at dksX0_wayTo_1 10 rfl rfl)
theorem dX0_wayTo_35 : decode cX0_wayTo 35 = .ok (.invokevirtual 198, 3) := dk_182 0 198 (dk_at dksX0_wayTo_1 11 rfl rfl)
theorem dX0_wayTo_38 : decode cX0_wayTo 38 = .ok (.aload_n 0, 1) := dk_42 (dk_at dksX0_wayTo_1 14 rfl rfl)
theorem dX0_wayTo_39 : decode cX0_wayTo 39 = .ok (.getfield 95, 3) := dk_180 0 95 (dk_at dksX0_wayTo_1 15 rfl rfl)
theorem dX0_wayTo_42 : decode cX0_wayTo 42 = .ok (.iload_n 1, 1) := dk_27 (dk_at dksX0_wayTo_1 18 rfl rfl)
theorem dX0_wayTo_43 : decode cX0_wayTo 43 = .ok (.iload_n 2, 1) := dk_28 (dk_at dksX0_wayTo_1 19 rfl rfl)
theorem dX0_wayTo_44 : decode cX0_wayTo 44 = .ok (.invokestatic 33, 3) := dk_184 0 33 (dk_at dksX0_wayTo_1 20 rfl rfl)
theorem dX0_wayTo_47 : decode cX0_wayTo 47 = .ok (.iaload, 1) := dk_46 (dk_at dksX0_wayTo_1 23 rfl rfl)
theorem dX0_wayTo_48 : decode cX0_wayTo 48 = .ok (.ireturn, 1) := dk_172 (dk_at dksX0_wayTo_2 0 rfl rfl)
theorem dX0_wayTo_49 : decode cX0_wayTo 49 = .ok (.aload_n 0, 1) := dk_42 (dk_at dksX0_wayTo_2 1 rfl rfl)
theorem dX0_wayTo_50 : decode cX0_wayTo 50 = .ok (.iload_n 3, 1) := dk_29 (dk_at dksX0_wayTo_2 2 rfl rfl)
theorem dX0_wayTo_51 : decode cX0_wayTo 51 = .ok (.invokevirtual 195, 3) := dk_182 0 195 (dk_at dksX0_wayTo_2 3 rfl rfl)
theorem dX0_wayTo_54 : decode cX0_wayTo 54 = .ok (.pop, 1) := dk_87 (dk_at dksX0_wayTo_2 6 rfl rfl)
theorem dX0_wayTo_55 : decode cX0_wayTo 55 = .ok (.aload_n 0, 1) := dk_42 (dk_at dksX0_wayTo_2 7 rfl rfl)
theorem dX0_wayTo_56 : decode cX0_wayTo 56 = .ok (.getfield 89, 3) := dk_180 0 89 (dk_at dksX0_wayTo_2 8 rfl rfl)
theorem dX0_wayTo_59 : decode cX0_wayTo 59 = .ok (.iload_n 1, 1) := dk_27 (dk_at dksX0_wayTo_2 11 rfl rfl)
theorem dX0_wayTo_60 : decode cX0_wayTo 60 = .ok (.iload_n 2, 1) := dk_28 (dk_at dksX0_wayTo_2 12 rfl rfl)
theorem dX0_wayTo_61 : decode cX0_wayTo 61 = .ok (.invokestatic 33, 3) := dk_184 0 33 (dk_at dksX0_wayTo_2 13 rfl rfl)
theorem dX0_wayTo_64 : decode cX0_wayTo 64 = .ok (.iaload, 1) := dk_46 (dk_at dksX0_wayTo_2 16 rfl rfl)
theorem dX0_wayTo_65 : decode cX0_wayTo 65 = .ok (.iconst (-1), 1) := dk_2 (dk_at dksX0_wayTo_2 17 rfl rfl)
theorem dX0_wayTo_66 : decode cX0_wayTo 66 = .ok (.if_icmp .ne 8, 3) := dk_160 0 8 (dk_at dksX0_wayTo_2 18 rfl rfl)
theorem dX0_wayTo_69 : decode cX0_wayTo 69 = .ok (.bipush (-2), 2) := dk_16 254 (dk_at dksX0_wayTo_2 21 rfl rfl)
theorem dX0_wayTo_71 : decode cX0_wayTo 71 = .ok (.goto 13, 3) := dk_167 0 13 (dk_at dksX0_wayTo_3 0 rfl rfl)
theorem dX0_wayTo_74 : decode cX0_wayTo 74 = .ok (.aload_n 0, 1) := dk_42 (dk_at dksX0_wayTo_3 3 rfl rfl)
theorem dX0_wayTo_75 : decode cX0_wayTo 75 = .ok (.getfield 89, 3) := dk_180 0 89 (dk_at dksX0_wayTo_3 4 rfl rfl)
theorem dX0_wayTo_78 : decode cX0_wayTo 78 = .ok (.iload_n 1, 1) := dk_27 (dk_at dksX0_wayTo_3 7 rfl rfl)
theorem dX0_wayTo_79 : decode cX0_wayTo 79 = .ok (.iload_n 2, 1) := dk_28 (dk_at dksX0_wayTo_3 8 rfl rfl)
theorem dX0_wayTo_80 : decode cX0_wayTo 80 = .ok (.invokestatic 33, 3) := dk_184 0 33 (dk_at dksX0_wayTo_3 9 rfl rfl)
theorem dX0_wayTo_83 : decode cX0_wayTo 83 = .ok (.iaload, 1) := dk_46 (dk_at dksX0_wayTo_3 12 rfl rfl)
theorem dX0_wayTo_84 : decode cX0_wayTo 84 = .ok (.ireturn, 1) := dk_172 (dk_at dksX0_wayTo_3 13 rfl rfl)
abbrev cX0_laysHighest : ByteArray := prog_1_method_30_code
def yX0_laysHighest : MethodName := ⟨RX0, "laysHighest", "()V"⟩
def dkwX0_laysHighest_6 : List UInt8 := [132, 2, 1, 167, 255, 163, 167, 255, 152, 177]
abbrev dktX0_laysHighest_6 : List UInt8 := dkwX0_laysHighest_6 ++ []
def dkwX0_laysHighest_5 : List UInt8 := [46, 42, 180, 0, 65, 21, 4, 182, 0, 177, 184, 0, 9, 79, 4, 60, 132, 3, 1, 167, 255, 177]
abbrev dktX0_laysHighest_5 : List UInt8 := dkwX0_laysHighest_5 ++ dktX0_laysHighest_6
def dkwX0_laysHighest_4 : List UInt8 := [42, 180, 0, 95, 21, 4, 46, 161, 0, 6, 167, 0, 30, 42, 180, 0, 95, 21, 4, 42, 180, 0, 95, 28]
abbrev dktX0_laysHighest_4 : List UInt8 := dkwX0_laysHighest_4 ++ dktX0_laysHighest_5
def dkwX0_laysHighest_3 : List UInt8 := [21, 4, 2, 159, 0, 61, 42, 180, 0, 95, 28, 46, 42, 180, 0, 65, 21, 4, 182, 0, 177, 184, 0, 9]
abbrev dktX0_laysHighest_3 : List UInt8 := dkwX0_laysHighest_3 ++ dktX0_laysHighest_4
def dkwX0_laysHighest_2 : List UInt8 := [60, 3, 61, 28, 16, 63, 162, 0, 93, 3, 62, 29, 7, 162, 0, 80, 28, 29, 184, 0, 167, 54, 4]
abbrev dktX0_laysHighest_2 : List UInt8 := dkwX0_laysHighest_2 ++ dktX0_laysHighest_3
def dkwX0_laysHighest_1 : List UInt8 := [16, 31, 182, 0, 177, 167, 0, 5, 18, 173, 79, 132, 1, 1, 167, 255, 221, 4, 60, 27, 153, 0, 106, 3]
abbrev dktX0_laysHighest_1 : List UInt8 := dkwX0_laysHighest_1 ++ dktX0_laysHighest_2
def dkwX0_laysHighest_0 : List UInt8 := [3, 60, 27, 16, 63, 162, 0, 35, 42, 180, 0, 95, 27, 27, 16, 31, 160, 0, 15, 42, 180, 0, 65]
abbrev dktX0_laysHighest_0 : List UInt8 := dkwX0_laysHighest_0 ++ dktX0_laysHighest_1
theorem dksX0_laysHighest_0 : cX0_laysHighest.data.toList.drop 0 = dktX0_laysHighest_0 := by decide +kernel
theorem dksX0_laysHighest_1 : cX0_laysHighest.data.toList.drop 23 = dktX0_laysHighest_1 := dk_seg dksX0_laysHighest_0 23 rfl rfl
theorem dksX0_laysHighest_2 : cX0_laysHighest.data.toList.drop 47 = dktX0_laysHighest_2 := dk_seg dksX0_laysHighest_1 24 rfl rfl
theorem dksX0_laysHighest_3 : cX0_laysHighest.data.toList.drop 70 = dktX0_laysHighest_3 := dk_seg dksX0_laysHighest_2 23 rfl rfl
theorem dksX0_laysHighest_4 : cX0_laysHighest.data.toList.drop 94 = dktX0_laysHighest_4 := dk_seg dksX0_laysHighest_3 24 rfl rfl
theorem dksX0_laysHighest_5 : cX0_laysHighest.data.toList.drop 118 = dktX0_laysHighest_5 := dk_seg dksX0_laysHighest_4 24 rfl rfl
theorem dksX0_laysHighest_6 : cX0_laysHighest.data.toList.drop 140 = dktX0_laysHighest_6 := dk_seg dksX0_laysHighest_5 22 rfl rfl
theorem dX0_laysHighest_0 : decode cX0_laysHighest 0 = .ok (.iconst 0, 1) := dk_3 (dk_at dksX0_laysHighest_0 0 rfl rfl)
theorem dX0_laysHighest_1 : decode cX0_laysHighest 1 = .ok (.istore_n 1, 1) := dk_60 (dk_at dksX0_laysHighest_0 1 rfl rfl)
theorem dX0_laysHighest_2 : decode cX0_laysHighest 2 = .ok (.iload_n 1, 1) := dk_27 (dk_at dksX0_laysHighest_0 2 rfl rfl)
theorem dX0_laysHighest_3 : decode cX0_laysHighest 3 = .ok (.bipush 63, 2) := dk_16 63 (dk_at dksX0_laysHighest_0 3 rfl rfl)
theorem dX0_laysHighest_5 : decode cX0_laysHighest 5 = .ok (.if_icmp .ge 35, 3) := dk_162 0 35 (dk_at dksX0_laysHighest_0 5 rfl rfl)
theorem dX0_laysHighest_8 : decode cX0_laysHighest 8 = .ok (.aload_n 0, 1) := dk_42 (dk_at dksX0_laysHighest_0 8 rfl rfl)
theorem dX0_laysHighest_9 : decode cX0_laysHighest 9 = .ok (.getfield 95, 3) := dk_180 0 95 (dk_at dksX0_laysHighest_0 9 rfl rfl)
theorem dX0_laysHighest_12 : decode cX0_laysHighest 12 = .ok (.iload_n 1, 1) := dk_27 (dk_at dksX0_laysHighest_0 12 rfl rfl)
theorem dX0_laysHighest_13 : decode cX0_laysHighest 13 = .ok (.iload_n 1, 1) := dk_27 (dk_at dksX0_laysHighest_0 13 rfl rfl)
theorem dX0_laysHighest_14 : decode cX0_laysHighest 14 = .ok (.bipush 31, 2) := dk_16 31 (dk_at dksX0_laysHighest_0 14 rfl rfl)
theorem dX0_laysHighest_16 : decode cX0_laysHighest 16 = .ok (.if_icmp .ne 15, 3) := dk_160 0 15 (dk_at dksX0_laysHighest_0 16 rfl rfl)
theorem dX0_laysHighest_19 : decode cX0_laysHighest 19 = .ok (.aload_n 0, 1) := dk_42 (dk_at dksX0_laysHighest_0 19 rfl rfl)
theorem dX0_laysHighest_20 : decode cX0_laysHighest 20 = .ok (.getfield 65, 3) := dk_180 0 65 (dk_at dksX0_laysHighest_0 20 rfl rfl)
theorem dX0_laysHighest_23 : decode cX0_laysHighest 23 = .ok (.bipush 31, 2) := dk_16 31 (dk_at dksX0_laysHighest_1 0 rfl rfl)
theorem dX0_laysHighest_25 : decode cX0_laysHighest 25 = .ok (.invokevirtual 177, 3) := dk_182 0 177 (dk_at dksX0_laysHighest_1 2 rfl rfl)
theorem dX0_laysHighest_28 : decode cX0_laysHighest 28 = .ok (.goto 5, 3) := dk_167 0 5 (dk_at dksX0_laysHighest_1 5 rfl rfl)
theorem dX0_laysHighest_31 : decode cX0_laysHighest 31 = .ok (.ldc 173, 2) := dk_18 173 (dk_at dksX0_laysHighest_1 8 rfl rfl)
theorem dX0_laysHighest_33 : decode cX0_laysHighest 33 = .ok (.iastore, 1) := dk_79 (dk_at dksX0_laysHighest_1 10 rfl rfl)
theorem dX0_laysHighest_34 : decode cX0_laysHighest 34 = .ok (.iinc 1 1, 3) := dk_132 1 1 (dk_at dksX0_laysHighest_1 11 rfl rfl)
theorem dX0_laysHighest_37 : decode cX0_laysHighest 37 = .ok (.goto (-35), 3) := dk_167 255 221 (dk_at dksX0_laysHighest_1 14 rfl rfl)
theorem dX0_laysHighest_40 : decode cX0_laysHighest 40 = .ok (.iconst 1, 1) := dk_4 (dk_at dksX0_laysHighest_1 17 rfl rfl)
theorem dX0_laysHighest_41 : decode cX0_laysHighest 41 = .ok (.istore_n 1, 1) := dk_60 (dk_at dksX0_laysHighest_1 18 rfl rfl)
theorem dX0_laysHighest_42 : decode cX0_laysHighest 42 = .ok (.iload_n 1, 1) := dk_27 (dk_at dksX0_laysHighest_1 19 rfl rfl)
theorem dX0_laysHighest_43 : decode cX0_laysHighest 43 = .ok (.ifCond .eq 106, 3) := dk_153 0 106 (dk_at dksX0_laysHighest_1 20 rfl rfl)
theorem dX0_laysHighest_46 : decode cX0_laysHighest 46 = .ok (.iconst 0, 1) := dk_3 (dk_at dksX0_laysHighest_1 23 rfl rfl)
theorem dX0_laysHighest_47 : decode cX0_laysHighest 47 = .ok (.istore_n 1, 1) := dk_60 (dk_at dksX0_laysHighest_2 0 rfl rfl)
theorem dX0_laysHighest_48 : decode cX0_laysHighest 48 = .ok (.iconst 0, 1) := dk_3 (dk_at dksX0_laysHighest_2 1 rfl rfl)
theorem dX0_laysHighest_49 : decode cX0_laysHighest 49 = .ok (.istore_n 2, 1) := dk_61 (dk_at dksX0_laysHighest_2 2 rfl rfl)
theorem dX0_laysHighest_50 : decode cX0_laysHighest 50 = .ok (.iload_n 2, 1) := dk_28 (dk_at dksX0_laysHighest_2 3 rfl rfl)
theorem dX0_laysHighest_51 : decode cX0_laysHighest 51 = .ok (.bipush 63, 2) := dk_16 63 (dk_at dksX0_laysHighest_2 4 rfl rfl)
theorem dX0_laysHighest_53 : decode cX0_laysHighest 53 = .ok (.if_icmp .ge 93, 3) := dk_162 0 93 (dk_at dksX0_laysHighest_2 6 rfl rfl)
theorem dX0_laysHighest_56 : decode cX0_laysHighest 56 = .ok (.iconst 0, 1) := dk_3 (dk_at dksX0_laysHighest_2 9 rfl rfl)
theorem dX0_laysHighest_57 : decode cX0_laysHighest 57 = .ok (.istore_n 3, 1) := dk_62 (dk_at dksX0_laysHighest_2 10 rfl rfl)
theorem dX0_laysHighest_58 : decode cX0_laysHighest 58 = .ok (.iload_n 3, 1) := dk_29 (dk_at dksX0_laysHighest_2 11 rfl rfl)
theorem dX0_laysHighest_59 : decode cX0_laysHighest 59 = .ok (.iconst 4, 1) := dk_7 (dk_at dksX0_laysHighest_2 12 rfl rfl)
theorem dX0_laysHighest_60 : decode cX0_laysHighest 60 = .ok (.if_icmp .ge 80, 3) := dk_162 0 80 (dk_at dksX0_laysHighest_2 13 rfl rfl)
theorem dX0_laysHighest_63 : decode cX0_laysHighest 63 = .ok (.iload_n 2, 1) := dk_28 (dk_at dksX0_laysHighest_2 16 rfl rfl)
theorem dX0_laysHighest_64 : decode cX0_laysHighest 64 = .ok (.iload_n 3, 1) := dk_29 (dk_at dksX0_laysHighest_2 17 rfl rfl)
theorem dX0_laysHighest_65 : decode cX0_laysHighest 65 = .ok (.invokestatic 167, 3) := dk_184 0 167 (dk_at dksX0_laysHighest_2 18 rfl rfl)
theorem dX0_laysHighest_68 : decode cX0_laysHighest 68 = .ok (.istore 4, 2) := dk_54 4 (dk_at dksX0_laysHighest_2 21 rfl rfl)
theorem dX0_laysHighest_70 : decode cX0_laysHighest 70 = .ok (.iload 4, 2) := dk_21 4 (dk_at dksX0_laysHighest_3 0 rfl rfl)
theorem dX0_laysHighest_72 : decode cX0_laysHighest 72 = .ok (.iconst (-1), 1) := dk_2 (dk_at dksX0_laysHighest_3 2 rfl rfl)
theorem dX0_laysHighest_73 : decode cX0_laysHighest 73 = .ok (.if_icmp .eq 61, 3) := dk_159 0 61 (dk_at dksX0_laysHighest_3 3 rfl rfl)
theorem dX0_laysHighest_76 : decode cX0_laysHighest 76 = .ok (.aload_n 0, 1) := dk_42 (dk_at dksX0_laysHighest_3 6 rfl rfl)
theorem dX0_laysHighest_77 : decode cX0_laysHighest 77 = .ok (.getfield 95, 3) := dk_180 0 95 (dk_at dksX0_laysHighest_3 7 rfl rfl)
theorem dX0_laysHighest_80 : decode cX0_laysHighest 80 = .ok (.iload_n 2, 1) := dk_28 (dk_at dksX0_laysHighest_3 10 rfl rfl)
theorem dX0_laysHighest_81 : decode cX0_laysHighest 81 = .ok (.iaload, 1) := dk_46 (dk_at dksX0_laysHighest_3 11 rfl rfl)
theorem dX0_laysHighest_82 : decode cX0_laysHighest 82 = .ok (.aload_n 0, 1) := dk_42 (dk_at dksX0_laysHighest_3 12 rfl rfl)
theorem dX0_laysHighest_83 : decode cX0_laysHighest 83 = .ok (.getfield 65, 3) := dk_180 0 65 (dk_at dksX0_laysHighest_3 13 rfl rfl)
theorem dX0_laysHighest_86 : decode cX0_laysHighest 86 = .ok (.iload 4, 2) := dk_21 4 (dk_at dksX0_laysHighest_3 16 rfl rfl)
theorem dX0_laysHighest_88 : decode cX0_laysHighest 88 = .ok (.invokevirtual 177, 3) := dk_182 0 177 (dk_at dksX0_laysHighest_3 18 rfl rfl)
theorem dX0_laysHighest_91 : decode cX0_laysHighest 91 = .ok (.invokestatic 9, 3) := dk_184 0 9 (dk_at dksX0_laysHighest_3 21 rfl rfl)
theorem dX0_laysHighest_94 : decode cX0_laysHighest 94 = .ok (.aload_n 0, 1) := dk_42 (dk_at dksX0_laysHighest_4 0 rfl rfl)
theorem dX0_laysHighest_95 : decode cX0_laysHighest 95 = .ok (.getfield 95, 3) := dk_180 0 95 (dk_at dksX0_laysHighest_4 1 rfl rfl)
theorem dX0_laysHighest_98 : decode cX0_laysHighest 98 = .ok (.iload 4, 2) := dk_21 4 (dk_at dksX0_laysHighest_4 4 rfl rfl)
theorem dX0_laysHighest_100 : decode cX0_laysHighest 100 = .ok (.iaload, 1) := dk_46 (dk_at dksX0_laysHighest_4 6 rfl rfl)
theorem dX0_laysHighest_101 : decode cX0_laysHighest 101 = .ok (.if_icmp .lt 6, 3) := dk_161 0 6 (dk_at dksX0_laysHighest_4 7 rfl rfl)
theorem dX0_laysHighest_104 : decode cX0_laysHighest 104 = .ok (.goto 30, 3) := dk_167 0 30 (dk_at dksX0_laysHighest_4 10 rfl rfl)
theorem dX0_laysHighest_107 : decode cX0_laysHighest 107 = .ok (.aload_n 0, 1) := dk_42 (dk_at dksX0_laysHighest_4 13 rfl rfl)
theorem dX0_laysHighest_108 : decode cX0_laysHighest 108 = .ok (.getfield 95, 3) := dk_180 0 95 (dk_at dksX0_laysHighest_4 14 rfl rfl)
theorem dX0_laysHighest_111 : decode cX0_laysHighest 111 = .ok (.iload 4, 2) := dk_21 4 (dk_at dksX0_laysHighest_4 17 rfl rfl)
theorem dX0_laysHighest_113 : decode cX0_laysHighest 113 = .ok (.aload_n 0, 1) := dk_42 (dk_at dksX0_laysHighest_4 19 rfl rfl)
theorem dX0_laysHighest_114 : decode cX0_laysHighest 114 = .ok (.getfield 95, 3) := dk_180 0 95 (dk_at dksX0_laysHighest_4 20 rfl rfl)
theorem dX0_laysHighest_117 : decode cX0_laysHighest 117 = .ok (.iload_n 2, 1) := dk_28 (dk_at dksX0_laysHighest_4 23 rfl rfl)
theorem dX0_laysHighest_118 : decode cX0_laysHighest 118 = .ok (.iaload, 1) := dk_46 (dk_at dksX0_laysHighest_5 0 rfl rfl)
theorem dX0_laysHighest_119 : decode cX0_laysHighest 119 = .ok (.aload_n 0, 1) := dk_42 (dk_at dksX0_laysHighest_5 1 rfl rfl)
theorem dX0_laysHighest_120 : decode cX0_laysHighest 120 = .ok (.getfield 65, 3) := dk_180 0 65 (dk_at dksX0_laysHighest_5 2 rfl rfl)
theorem dX0_laysHighest_123 : decode cX0_laysHighest 123 = .ok (.iload 4, 2) := dk_21 4 (dk_at dksX0_laysHighest_5 5 rfl rfl)
theorem dX0_laysHighest_125 : decode cX0_laysHighest 125 = .ok (.invokevirtual 177, 3) := dk_182 0 177 (dk_at dksX0_laysHighest_5 7 rfl rfl)
theorem dX0_laysHighest_128 : decode cX0_laysHighest 128 = .ok (.invokestatic 9, 3) := dk_184 0 9 (dk_at dksX0_laysHighest_5 10 rfl rfl)
theorem dX0_laysHighest_131 : decode cX0_laysHighest 131 = .ok (.iastore, 1) := dk_79 (dk_at dksX0_laysHighest_5 13 rfl rfl)
theorem dX0_laysHighest_132 : decode cX0_laysHighest 132 = .ok (.iconst 1, 1) := dk_4 (dk_at dksX0_laysHighest_5 14 rfl rfl)
theorem dX0_laysHighest_133 : decode cX0_laysHighest 133 = .ok (.istore_n 1, 1) := dk_60 (dk_at dksX0_laysHighest_5 15 rfl rfl)
theorem dX0_laysHighest_134 : decode cX0_laysHighest 134 = .ok (.iinc 3 1, 3) := dk_132 3 1 (dk_at dksX0_laysHighest_5 16 rfl rfl)
theorem dX0_laysHighest_137 : decode cX0_laysHighest 137 = .ok (.goto (-79), 3) := dk_167 255 177 (dk_at dksX0_laysHighest_5 19 rfl rfl)
theorem dX0_laysHighest_140 : decode cX0_laysHighest 140 = .ok (.iinc 2 1, 3) := dk_132 2 1 (dk_at dksX0_laysHighest_6 0 rfl rfl)
theorem dX0_laysHighest_143 : decode cX0_laysHighest 143 = .ok (.goto (-93), 3) := dk_167 255 163 (dk_at dksX0_laysHighest_6 3 rfl rfl)
theorem dX0_laysHighest_146 : decode cX0_laysHighest 146 = .ok (.goto (-104), 3) := dk_167 255 152 (dk_at dksX0_laysHighest_6 6 rfl rfl)
theorem dX0_laysHighest_149 : decode cX0_laysHighest 149 = .ok (.return_, 1) := dk_177 (dk_at dksX0_laysHighest_6 9 rfl rfl)
abbrev cX0_toBear : ByteArray := prog_1_method_33_code
def yX0_toBear : MethodName := ⟨RX0, "toBear", "(I)I"⟩
def dkwX0_toBear_3 : List UInt8 := [132, 3, 1, 167, 255, 215, 42, 28, 182, 0, 204, 172]
abbrev dktX0_toBear_3 : List UInt8 := dkwX0_toBear_3 ++ []
def dkwX0_toBear_2 : List UInt8 := [16, 253, 172, 28, 42, 180, 0, 65, 42, 29, 182, 0, 201, 16, 31, 182, 0, 174, 184, 0, 3, 61]
abbrev dktX0_toBear_2 : List UInt8 := dkwX0_toBear_2 ++ dktX0_toBear_3
def dkwX0_toBear_1 : List UInt8 := [181, 0, 128, 18, 173, 61, 3, 62, 29, 27, 162, 0, 42, 42, 29, 182, 0, 201, 184, 0, 121, 154, 0, 6]
abbrev dktX0_toBear_1 : List UInt8 := dkwX0_toBear_1 ++ dktX0_toBear_2
def dkwX0_toBear_0 : List UInt8 := [27, 4, 16, 16, 184, 0, 16, 153, 0, 11, 27, 42, 180, 0, 128, 164, 0, 5, 2, 172, 42, 3]
abbrev dktX0_toBear_0 : List UInt8 := dkwX0_toBear_0 ++ dktX0_toBear_1
theorem dksX0_toBear_0 : cX0_toBear.data.toList.drop 0 = dktX0_toBear_0 := by decide +kernel
theorem dksX0_toBear_1 : cX0_toBear.data.toList.drop 22 = dktX0_toBear_1 := dk_seg dksX0_toBear_0 22 rfl rfl
theorem dksX0_toBear_2 : cX0_toBear.data.toList.drop 46 = dktX0_toBear_2 := dk_seg dksX0_toBear_1 24 rfl rfl
theorem dksX0_toBear_3 : cX0_toBear.data.toList.drop 68 = dktX0_toBear_3 := dk_seg dksX0_toBear_2 22 rfl rfl
theorem dX0_toBear_0 : decode cX0_toBear 0 = .ok (.iload_n 1, 1) := dk_27 (dk_at dksX0_toBear_0 0 rfl rfl)
theorem dX0_toBear_1 : decode cX0_toBear 1 = .ok (.iconst 1, 1) := dk_4 (dk_at dksX0_toBear_0 1 rfl rfl)
theorem dX0_toBear_2 : decode cX0_toBear 2 = .ok (.bipush 16, 2) := dk_16 16 (dk_at dksX0_toBear_0 2 rfl rfl)
theorem dX0_toBear_4 : decode cX0_toBear 4 = .ok (.invokestatic 16, 3) := dk_184 0 16 (dk_at dksX0_toBear_0 4 rfl rfl)
theorem dX0_toBear_7 : decode cX0_toBear 7 = .ok (.ifCond .eq 11, 3) := dk_153 0 11 (dk_at dksX0_toBear_0 7 rfl rfl)
theorem dX0_toBear_10 : decode cX0_toBear 10 = .ok (.iload_n 1, 1) := dk_27 (dk_at dksX0_toBear_0 10 rfl rfl)
theorem dX0_toBear_11 : decode cX0_toBear 11 = .ok (.aload_n 0, 1) := dk_42 (dk_at dksX0_toBear_0 11 rfl rfl)
theorem dX0_toBear_12 : decode cX0_toBear 12 = .ok (.getfield 128, 3) := dk_180 0 128 (dk_at dksX0_toBear_0 12 rfl rfl)
theorem dX0_toBear_15 : decode cX0_toBear 15 = .ok (.if_icmp .le 5, 3) := dk_164 0 5 (dk_at dksX0_toBear_0 15 rfl rfl)
theorem dX0_toBear_18 : decode cX0_toBear 18 = .ok (.iconst (-1), 1) := dk_2 (dk_at dksX0_toBear_0 18 rfl rfl)
theorem dX0_toBear_19 : decode cX0_toBear 19 = .ok (.ireturn, 1) := dk_172 (dk_at dksX0_toBear_0 19 rfl rfl)
theorem dX0_toBear_20 : decode cX0_toBear 20 = .ok (.aload_n 0, 1) := dk_42 (dk_at dksX0_toBear_0 20 rfl rfl)
theorem dX0_toBear_21 : decode cX0_toBear 21 = .ok (.iconst 0, 1) := dk_3 (dk_at dksX0_toBear_0 21 rfl rfl)
theorem dX0_toBear_22 : decode cX0_toBear 22 = .ok (.putfield 128, 3) := dk_181 0 128 (dk_at dksX0_toBear_1 0 rfl rfl)
theorem dX0_toBear_25 : decode cX0_toBear 25 = .ok (.ldc 173, 2) := dk_18 173 (dk_at dksX0_toBear_1 3 rfl rfl)
theorem dX0_toBear_27 : decode cX0_toBear 27 = .ok (.istore_n 2, 1) := dk_61 (dk_at dksX0_toBear_1 5 rfl rfl)
theorem dX0_toBear_28 : decode cX0_toBear 28 = .ok (.iconst 0, 1) := dk_3 (dk_at dksX0_toBear_1 6 rfl rfl)
theorem dX0_toBear_29 : decode cX0_toBear 29 = .ok (.istore_n 3, 1) := dk_62 (dk_at dksX0_toBear_1 7 rfl rfl)
theorem dX0_toBear_30 : decode cX0_toBear 30 = .ok (.iload_n 3, 1) := dk_29 (dk_at dksX0_toBear_1 8 rfl rfl)
theorem dX0_toBear_31 : decode cX0_toBear 31 = .ok (.iload_n 1, 1) := dk_27 (dk_at dksX0_toBear_1 9 rfl rfl)
theorem dX0_toBear_32 : decode cX0_toBear 32 = .ok (.if_icmp .ge 42, 3) := dk_162 0 42 (dk_at dksX0_toBear_1 10 rfl rfl)
theorem dX0_toBear_35 : decode cX0_toBear 35 = .ok (.aload_n 0, 1) := dk_42 (dk_at dksX0_toBear_1 13 rfl rfl)
theorem dX0_toBear_36 : decode cX0_toBear 36 = .ok (.iload_n 3, 1) := dk_29 (dk_at dksX0_toBear_1 14 rfl rfl)
theorem dX0_toBear_37 : decode cX0_toBear 37 = .ok (.invokevirtual 201, 3) := dk_182 0 201 (dk_at dksX0_toBear_1 15 rfl rfl)
theorem dX0_toBear_40 : decode cX0_toBear 40 = .ok (.invokestatic 121, 3) := dk_184 0 121 (dk_at dksX0_toBear_1 18 rfl rfl)
theorem dX0_toBear_43 : decode cX0_toBear 43 = .ok (.ifCond .ne 6, 3) := dk_154 0 6 (dk_at dksX0_toBear_1 21 rfl rfl)
theorem dX0_toBear_46 : decode cX0_toBear 46 = .ok (.bipush (-3), 2) := dk_16 253 (dk_at dksX0_toBear_2 0 rfl rfl)
theorem dX0_toBear_48 : decode cX0_toBear 48 = .ok (.ireturn, 1) := dk_172 (dk_at dksX0_toBear_2 2 rfl rfl)
theorem dX0_toBear_49 : decode cX0_toBear 49 = .ok (.iload_n 2, 1) := dk_28 (dk_at dksX0_toBear_2 3 rfl rfl)
theorem dX0_toBear_50 : decode cX0_toBear 50 = .ok (.aload_n 0, 1) := dk_42 (dk_at dksX0_toBear_2 4 rfl rfl)
theorem dX0_toBear_51 : decode cX0_toBear 51 = .ok (.getfield 65, 3) := dk_180 0 65 (dk_at dksX0_toBear_2 5 rfl rfl)
theorem dX0_toBear_54 : decode cX0_toBear 54 = .ok (.aload_n 0, 1) := dk_42 (dk_at dksX0_toBear_2 8 rfl rfl)
theorem dX0_toBear_55 : decode cX0_toBear 55 = .ok (.iload_n 3, 1) := dk_29 (dk_at dksX0_toBear_2 9 rfl rfl)
theorem dX0_toBear_56 : decode cX0_toBear 56 = .ok (.invokevirtual 201, 3) := dk_182 0 201 (dk_at dksX0_toBear_2 10 rfl rfl)
theorem dX0_toBear_59 : decode cX0_toBear 59 = .ok (.bipush 31, 2) := dk_16 31 (dk_at dksX0_toBear_2 13 rfl rfl)
theorem dX0_toBear_61 : decode cX0_toBear 61 = .ok (.invokevirtual 174, 3) := dk_182 0 174 (dk_at dksX0_toBear_2 15 rfl rfl)
theorem dX0_toBear_64 : decode cX0_toBear 64 = .ok (.invokestatic 3, 3) := dk_184 0 3 (dk_at dksX0_toBear_2 18 rfl rfl)
theorem dX0_toBear_67 : decode cX0_toBear 67 = .ok (.istore_n 2, 1) := dk_61 (dk_at dksX0_toBear_2 21 rfl rfl)
theorem dX0_toBear_68 : decode cX0_toBear 68 = .ok (.iinc 3 1, 3) := dk_132 3 1 (dk_at dksX0_toBear_3 0 rfl rfl)
theorem dX0_toBear_71 : decode cX0_toBear 71 = .ok (.goto (-41), 3) := dk_167 255 215 (dk_at dksX0_toBear_3 3 rfl rfl)
theorem dX0_toBear_74 : decode cX0_toBear 74 = .ok (.aload_n 0, 1) := dk_42 (dk_at dksX0_toBear_3 6 rfl rfl)
theorem dX0_toBear_75 : decode cX0_toBear 75 = .ok (.iload_n 2, 1) := dk_28 (dk_at dksX0_toBear_3 7 rfl rfl)
theorem dX0_toBear_76 : decode cX0_toBear 76 = .ok (.invokevirtual 204, 3) := dk_182 0 204 (dk_at dksX0_toBear_3 8 rfl rfl)
theorem dX0_toBear_79 : decode cX0_toBear 79 = .ok (.ireturn, 1) := dk_172 (dk_at dksX0_toBear_3 11 rfl rfl)
abbrev cX0_fed : ByteArray := prog_1_method_32_code
def yX0_fed : MethodName := ⟨RX0, "fed", "(I)I"⟩
def dkwX0_fed_0 : List UInt8 := [42, 180, 0, 75, 27, 51, 17, 0, 255, 126, 172]
abbrev dktX0_fed_0 : List UInt8 := dkwX0_fed_0 ++ []
theorem dksX0_fed_0 : cX0_fed.data.toList.drop 0 = dktX0_fed_0 := by decide +kernel
theorem dX0_fed_0 : decode cX0_fed 0 = .ok (.aload_n 0, 1) := dk_42 (dk_at dksX0_fed_0 0 rfl rfl)
theorem dX0_fed_1 : decode cX0_fed 1 = .ok (.getfield 75, 3) := dk_180 0 75 (dk_at dksX0_fed_0 1 rfl rfl)
theorem dX0_fed_4 : decode cX0_fed 4 = .ok (.iload_n 1, 1) := dk_27 (dk_at dksX0_fed_0 4 rfl rfl)
theorem dX0_fed_5 : decode cX0_fed 5 = .ok (.baload, 1) := dk_51 (dk_at dksX0_fed_0 5 rfl rfl)
theorem dX0_fed_6 : decode cX0_fed 6 = .ok (.sipush 255, 3) := dk_17 0 255 (dk_at dksX0_fed_0 6 rfl rfl)
theorem dX0_fed_9 : decode cX0_fed 9 = .ok (.iand, 1) := dk_126 (dk_at dksX0_fed_0 9 rfl rfl)
theorem dX0_fed_10 : decode cX0_fed 10 = .ok (.ireturn, 1) := dk_172 (dk_at dksX0_fed_0 10 rfl rfl)
abbrev cX0_strokesTo : ByteArray := prog_1_method_34_code
def yX0_strokesTo : MethodName := ⟨RX0, "strokesTo", "(I)I"⟩
def dkwX0_strokesTo_2 : List UInt8 := [61, 132, 3, 1, 167, 255, 208, 28, 172]
abbrev dktX0_strokesTo_2 : List UInt8 := dkwX0_strokesTo_2 ++ []
def dkwX0_strokesTo_1 : List UInt8 := [21, 4, 157, 0, 6, 167, 0, 20, 42, 180, 0, 49, 29, 51, 153, 0, 6, 16, 254, 172, 28, 21, 4, 96]
abbrev dktX0_strokesTo_1 : List UInt8 := dkwX0_strokesTo_1 ++ dktX0_strokesTo_2
def dkwX0_strokesTo_0 : List UInt8 := [3, 61, 3, 62, 29, 16, 48, 162, 0, 48, 42, 180, 0, 65, 29, 16, 31, 182, 0, 174, 27, 100, 54, 4]
abbrev dktX0_strokesTo_0 : List UInt8 := dkwX0_strokesTo_0 ++ dktX0_strokesTo_1
theorem dksX0_strokesTo_0 : cX0_strokesTo.data.toList.drop 0 = dktX0_strokesTo_0 := by decide +kernel
theorem dksX0_strokesTo_1 : cX0_strokesTo.data.toList.drop 24 = dktX0_strokesTo_1 := dk_seg dksX0_strokesTo_0 24 rfl rfl
theorem dksX0_strokesTo_2 : cX0_strokesTo.data.toList.drop 48 = dktX0_strokesTo_2 := dk_seg dksX0_strokesTo_1 24 rfl rfl
theorem dX0_strokesTo_0 : decode cX0_strokesTo 0 = .ok (.iconst 0, 1) := dk_3 (dk_at dksX0_strokesTo_0 0 rfl rfl)
theorem dX0_strokesTo_1 : decode cX0_strokesTo 1 = .ok (.istore_n 2, 1) := dk_61 (dk_at dksX0_strokesTo_0 1 rfl rfl)
theorem dX0_strokesTo_2 : decode cX0_strokesTo 2 = .ok (.iconst 0, 1) := dk_3 (dk_at dksX0_strokesTo_0 2 rfl rfl)
theorem dX0_strokesTo_3 : decode cX0_strokesTo 3 = .ok (.istore_n 3, 1) := dk_62 (dk_at dksX0_strokesTo_0 3 rfl rfl)
theorem dX0_strokesTo_4 : decode cX0_strokesTo 4 = .ok (.iload_n 3, 1) := dk_29 (dk_at dksX0_strokesTo_0 4 rfl rfl)
theorem dX0_strokesTo_5 : decode cX0_strokesTo 5 = .ok (.bipush 48, 2) := dk_16 48 (dk_at dksX0_strokesTo_0 5 rfl rfl)
theorem dX0_strokesTo_7 : decode cX0_strokesTo 7 = .ok (.if_icmp .ge 48, 3) := dk_162 0 48 (dk_at dksX0_strokesTo_0 7 rfl rfl)
theorem dX0_strokesTo_10 : decode cX0_strokesTo 10 = .ok (.aload_n 0, 1) := dk_42 (dk_at dksX0_strokesTo_0 10 rfl rfl)
theorem dX0_strokesTo_11 : decode cX0_strokesTo 11 = .ok (.getfield 65, 3) := dk_180 0 65 (dk_at dksX0_strokesTo_0 11 rfl rfl)
theorem dX0_strokesTo_14 : decode cX0_strokesTo 14 = .ok (.iload_n 3, 1) := dk_29 (dk_at dksX0_strokesTo_0 14 rfl rfl)
theorem dX0_strokesTo_15 : decode cX0_strokesTo 15 = .ok (.bipush 31, 2) := dk_16 31 (dk_at dksX0_strokesTo_0 15 rfl rfl)
theorem dX0_strokesTo_17 : decode cX0_strokesTo 17 = .ok (.invokevirtual 174, 3) := dk_182 0 174 (dk_at dksX0_strokesTo_0 17 rfl rfl)
theorem dX0_strokesTo_20 : decode cX0_strokesTo 20 = .ok (.iload_n 1, 1) := dk_27 (dk_at dksX0_strokesTo_0 20 rfl rfl)
theorem dX0_strokesTo_21 : decode cX0_strokesTo 21 = .ok (.isub, 1) := dk_100 (dk_at dksX0_strokesTo_0 21 rfl rfl)
theorem dX0_strokesTo_22 : decode cX0_strokesTo 22 = .ok (.istore 4, 2) := dk_54 4 (dk_at dksX0_strokesTo_0 22 rfl rfl)
theorem dX0_strokesTo_24 : decode cX0_strokesTo 24 = .ok (.iload 4, 2) := dk_21 4 (dk_at dksX0_strokesTo_1 0 rfl rfl)
theorem dX0_strokesTo_26 : decode cX0_strokesTo 26 = .ok (.ifCond .gt 6, 3) := dk_157 0 6 (dk_at dksX0_strokesTo_1 2 rfl rfl)
theorem dX0_strokesTo_29 : decode cX0_strokesTo 29 = .ok (.goto 20, 3) := dk_167 0 20 (dk_at dksX0_strokesTo_1 5 rfl rfl)
theorem dX0_strokesTo_32 : decode cX0_strokesTo 32 = .ok (.aload_n 0, 1) := dk_42 (dk_at dksX0_strokesTo_1 8 rfl rfl)
theorem dX0_strokesTo_33 : decode cX0_strokesTo 33 = .ok (.getfield 49, 3) := dk_180 0 49 (dk_at dksX0_strokesTo_1 9 rfl rfl)
theorem dX0_strokesTo_36 : decode cX0_strokesTo 36 = .ok (.iload_n 3, 1) := dk_29 (dk_at dksX0_strokesTo_1 12 rfl rfl)
theorem dX0_strokesTo_37 : decode cX0_strokesTo 37 = .ok (.baload, 1) := dk_51 (dk_at dksX0_strokesTo_1 13 rfl rfl)
theorem dX0_strokesTo_38 : decode cX0_strokesTo 38 = .ok (.ifCond .eq 6, 3) := dk_153 0 6 (dk_at dksX0_strokesTo_1 14 rfl rfl)
theorem dX0_strokesTo_41 : decode cX0_strokesTo 41 = .ok (.bipush (-2), 2) := dk_16 254 (dk_at dksX0_strokesTo_1 17 rfl rfl)
theorem dX0_strokesTo_43 : decode cX0_strokesTo 43 = .ok (.ireturn, 1) := dk_172 (dk_at dksX0_strokesTo_1 19 rfl rfl)
theorem dX0_strokesTo_44 : decode cX0_strokesTo 44 = .ok (.iload_n 2, 1) := dk_28 (dk_at dksX0_strokesTo_1 20 rfl rfl)
theorem dX0_strokesTo_45 : decode cX0_strokesTo 45 = .ok (.iload 4, 2) := dk_21 4 (dk_at dksX0_strokesTo_1 21 rfl rfl)
theorem dX0_strokesTo_47 : decode cX0_strokesTo 47 = .ok (.iadd, 1) := dk_96 (dk_at dksX0_strokesTo_1 23 rfl rfl)
theorem dX0_strokesTo_48 : decode cX0_strokesTo 48 = .ok (.istore_n 2, 1) := dk_61 (dk_at dksX0_strokesTo_2 0 rfl rfl)
theorem dX0_strokesTo_49 : decode cX0_strokesTo 49 = .ok (.iinc 3 1, 3) := dk_132 3 1 (dk_at dksX0_strokesTo_2 1 rfl rfl)
theorem dX0_strokesTo_52 : decode cX0_strokesTo 52 = .ok (.goto (-48), 3) := dk_167 255 208 (dk_at dksX0_strokesTo_2 4 rfl rfl)
theorem dX0_strokesTo_55 : decode cX0_strokesTo 55 = .ok (.iload_n 2, 1) := dk_28 (dk_at dksX0_strokesTo_2 7 rfl rfl)
theorem dX0_strokesTo_56 : decode cX0_strokesTo 56 = .ok (.ireturn, 1) := dk_172 (dk_at dksX0_strokesTo_2 8 rfl rfl)
abbrev cX0_toLower : ByteArray := prog_1_method_35_code
def yX0_toLower : MethodName := ⟨RX0, "toLower", "(I)I"⟩
def dkwX0_toLower_0 : List UInt8 := [27, 3, 16, 50, 184, 0, 16, 153, 0, 11, 42, 27, 182, 0, 204, 167, 0, 4, 2, 172]
abbrev dktX0_toLower_0 : List UInt8 := dkwX0_toLower_0 ++ []
theorem dksX0_toLower_0 : cX0_toLower.data.toList.drop 0 = dktX0_toLower_0 := by decide +kernel
theorem dX0_toLower_0 : decode cX0_toLower 0 = .ok (.iload_n 1, 1) := dk_27 (dk_at dksX0_toLower_0 0 rfl rfl)
theorem dX0_toLower_1 : decode cX0_toLower 1 = .ok (.iconst 0, 1) := dk_3 (dk_at dksX0_toLower_0 1 rfl rfl)
theorem dX0_toLower_2 : decode cX0_toLower 2 = .ok (.bipush 50, 2) := dk_16 50 (dk_at dksX0_toLower_0 2 rfl rfl)
theorem dX0_toLower_4 : decode cX0_toLower 4 = .ok (.invokestatic 16, 3) := dk_184 0 16 (dk_at dksX0_toLower_0 4 rfl rfl)
theorem dX0_toLower_7 : decode cX0_toLower 7 = .ok (.ifCond .eq 11, 3) := dk_153 0 11 (dk_at dksX0_toLower_0 7 rfl rfl)
theorem dX0_toLower_10 : decode cX0_toLower 10 = .ok (.aload_n 0, 1) := dk_42 (dk_at dksX0_toLower_0 10 rfl rfl)
theorem dX0_toLower_11 : decode cX0_toLower 11 = .ok (.iload_n 1, 1) := dk_27 (dk_at dksX0_toLower_0 11 rfl rfl)
theorem dX0_toLower_12 : decode cX0_toLower 12 = .ok (.invokevirtual 204, 3) := dk_182 0 204 (dk_at dksX0_toLower_0 12 rfl rfl)
theorem dX0_toLower_15 : decode cX0_toLower 15 = .ok (.goto 4, 3) := dk_167 0 4 (dk_at dksX0_toLower_0 15 rfl rfl)
theorem dX0_toLower_18 : decode cX0_toLower 18 = .ok (.iconst (-1), 1) := dk_2 (dk_at dksX0_toLower_0 18 rfl rfl)
theorem dX0_toLower_19 : decode cX0_toLower 19 = .ok (.ireturn, 1) := dk_172 (dk_at dksX0_toLower_0 19 rfl rfl)
abbrev cX0_anywhere : ByteArray := prog_1_method_37_code
def yX0_anywhere : MethodName := ⟨RX0, "anywhere", "(I)I"⟩
def dkwX0_anywhere_2 : List UInt8 := [132, 3, 1, 167, 255, 223, 28, 172]
abbrev dktX0_anywhere_2 : List UInt8 := dkwX0_anywhere_2 ++ []
def dkwX0_anywhere_1 : List UInt8 := [163, 0, 29, 28, 42, 4, 29, 182, 0, 207, 42, 3, 27, 29, 100, 182, 0, 207, 96, 184, 0, 3, 61]
abbrev dktX0_anywhere_1 : List UInt8 := dkwX0_anywhere_1 ++ dktX0_anywhere_2
def dkwX0_anywhere_0 : List UInt8 := [27, 3, 16, 50, 184, 0, 16, 154, 0, 5, 2, 172, 18, 173, 61, 3, 62, 29, 27, 16, 25, 184, 0, 3]
abbrev dktX0_anywhere_0 : List UInt8 := dkwX0_anywhere_0 ++ dktX0_anywhere_1
theorem dksX0_anywhere_0 : cX0_anywhere.data.toList.drop 0 = dktX0_anywhere_0 := by decide +kernel
theorem dksX0_anywhere_1 : cX0_anywhere.data.toList.drop 24 = dktX0_anywhere_1 := dk_seg dksX0_anywhere_0 24 rfl rfl
theorem dksX0_anywhere_2 : cX0_anywhere.data.toList.drop 47 = dktX0_anywhere_2 := dk_seg dksX0_anywhere_1 23 rfl rfl
theorem dX0_anywhere_0 : decode cX0_anywhere 0 = .ok (.iload_n 1, 1) := dk_27 (dk_at dksX0_anywhere_0 0 rfl rfl)
theorem dX0_anywhere_1 : decode cX0_anywhere 1 = .ok (.iconst 0, 1) := dk_3 (dk_at dksX0_anywhere_0 1 rfl rfl)
theorem dX0_anywhere_2 : decode cX0_anywhere 2 = .ok (.bipush 50, 2) := dk_16 50 (dk_at dksX0_anywhere_0 2 rfl rfl)
theorem dX0_anywhere_4 : decode cX0_anywhere 4 = .ok (.invokestatic 16, 3) := dk_184 0 16 (dk_at dksX0_anywhere_0 4 rfl rfl)
theorem dX0_anywhere_7 : decode cX0_anywhere 7 = .ok (.ifCond .ne 5, 3) := dk_154 0 5 (dk_at dksX0_anywhere_0 7 rfl rfl)
theorem dX0_anywhere_10 : decode cX0_anywhere 10 = .ok (.iconst (-1), 1) := dk_2 (dk_at dksX0_anywhere_0 10 rfl rfl)
theorem dX0_anywhere_11 : decode cX0_anywhere 11 = .ok (.ireturn, 1) := dk_172 (dk_at dksX0_anywhere_0 11 rfl rfl)
theorem dX0_anywhere_12 : decode cX0_anywhere 12 = .ok (.ldc 173, 2) := dk_18 173 (dk_at dksX0_anywhere_0 12 rfl rfl)
theorem dX0_anywhere_14 : decode cX0_anywhere 14 = .ok (.istore_n 2, 1) := dk_61 (dk_at dksX0_anywhere_0 14 rfl rfl)
theorem dX0_anywhere_15 : decode cX0_anywhere 15 = .ok (.iconst 0, 1) := dk_3 (dk_at dksX0_anywhere_0 15 rfl rfl)
theorem dX0_anywhere_16 : decode cX0_anywhere 16 = .ok (.istore_n 3, 1) := dk_62 (dk_at dksX0_anywhere_0 16 rfl rfl)
theorem dX0_anywhere_17 : decode cX0_anywhere 17 = .ok (.iload_n 3, 1) := dk_29 (dk_at dksX0_anywhere_0 17 rfl rfl)
theorem dX0_anywhere_18 : decode cX0_anywhere 18 = .ok (.iload_n 1, 1) := dk_27 (dk_at dksX0_anywhere_0 18 rfl rfl)
theorem dX0_anywhere_19 : decode cX0_anywhere 19 = .ok (.bipush 25, 2) := dk_16 25 (dk_at dksX0_anywhere_0 19 rfl rfl)
theorem dX0_anywhere_21 : decode cX0_anywhere 21 = .ok (.invokestatic 3, 3) := dk_184 0 3 (dk_at dksX0_anywhere_0 21 rfl rfl)
theorem dX0_anywhere_24 : decode cX0_anywhere 24 = .ok (.if_icmp .gt 29, 3) := dk_163 0 29 (dk_at dksX0_anywhere_1 0 rfl rfl)
theorem dX0_anywhere_27 : decode cX0_anywhere 27 = .ok (.iload_n 2, 1) := dk_28 (dk_at dksX0_anywhere_1 3 rfl rfl)
theorem dX0_anywhere_28 : decode cX0_anywhere 28 = .ok (.aload_n 0, 1) := dk_42 (dk_at dksX0_anywhere_1 4 rfl rfl)
theorem dX0_anywhere_29 : decode cX0_anywhere 29 = .ok (.iconst 1, 1) := dk_4 (dk_at dksX0_anywhere_1 5 rfl rfl)
theorem dX0_anywhere_30 : decode cX0_anywhere 30 = .ok (.iload_n 3, 1) := dk_29 (dk_at dksX0_anywhere_1 6 rfl rfl)
theorem dX0_anywhere_31 : decode cX0_anywhere 31 = .ok (.invokevirtual 207, 3) := dk_182 0 207 (dk_at dksX0_anywhere_1 7 rfl rfl)
theorem dX0_anywhere_34 : decode cX0_anywhere 34 = .ok (.aload_n 0, 1) := dk_42 (dk_at dksX0_anywhere_1 10 rfl rfl)
theorem dX0_anywhere_35 : decode cX0_anywhere 35 = .ok (.iconst 0, 1) := dk_3 (dk_at dksX0_anywhere_1 11 rfl rfl)
theorem dX0_anywhere_36 : decode cX0_anywhere 36 = .ok (.iload_n 1, 1) := dk_27 (dk_at dksX0_anywhere_1 12 rfl rfl)
theorem dX0_anywhere_37 : decode cX0_anywhere 37 = .ok (.iload_n 3, 1) := dk_29 (dk_at dksX0_anywhere_1 13 rfl rfl)
theorem dX0_anywhere_38 : decode cX0_anywhere 38 = .ok (.isub, 1) := dk_100 (dk_at dksX0_anywhere_1 14 rfl rfl)
theorem dX0_anywhere_39 : decode cX0_anywhere 39 = .ok (.invokevirtual 207, 3) := dk_182 0 207 (dk_at dksX0_anywhere_1 15 rfl rfl)
theorem dX0_anywhere_42 : decode cX0_anywhere 42 = .ok (.iadd, 1) := dk_96 (dk_at dksX0_anywhere_1 18 rfl rfl)
theorem dX0_anywhere_43 : decode cX0_anywhere 43 = .ok (.invokestatic 3, 3) := dk_184 0 3 (dk_at dksX0_anywhere_1 19 rfl rfl)
theorem dX0_anywhere_46 : decode cX0_anywhere 46 = .ok (.istore_n 2, 1) := dk_61 (dk_at dksX0_anywhere_1 22 rfl rfl)
theorem dX0_anywhere_47 : decode cX0_anywhere 47 = .ok (.iinc 3 1, 3) := dk_132 3 1 (dk_at dksX0_anywhere_2 0 rfl rfl)
theorem dX0_anywhere_50 : decode cX0_anywhere 50 = .ok (.goto (-33), 3) := dk_167 255 223 (dk_at dksX0_anywhere_2 3 rfl rfl)
theorem dX0_anywhere_53 : decode cX0_anywhere 53 = .ok (.iload_n 2, 1) := dk_28 (dk_at dksX0_anywhere_2 6 rfl rfl)
theorem dX0_anywhere_54 : decode cX0_anywhere 54 = .ok (.ireturn, 1) := dk_172 (dk_at dksX0_anywhere_2 7 rfl rfl)
abbrev cX0_overOf : ByteArray := prog_1_method_36_code
def yX0_overOf : MethodName := ⟨RX0, "overOf", "(II)I"⟩
def dkwX0_overOf_2 : List UInt8 := [132, 6, 1, 167, 255, 228, 29, 172]
abbrev dktX0_overOf_2 : List UInt8 := dkwX0_overOf_2 ++ []
def dkwX0_overOf_1 : List UInt8 := [21, 5, 162, 0, 27, 25, 4, 21, 6, 46, 54, 7, 29, 3, 21, 7, 28, 100, 184, 0, 9, 96, 62]
abbrev dktX0_overOf_1 : List UInt8 := dkwX0_overOf_1 ++ dktX0_overOf_2
def dkwX0_overOf_0 : List UInt8 := [3, 62, 42, 180, 0, 65, 180, 0, 124, 27, 50, 58, 4, 25, 4, 190, 54, 5, 3, 54, 6, 21, 6]
abbrev dktX0_overOf_0 : List UInt8 := dkwX0_overOf_0 ++ dktX0_overOf_1
theorem dksX0_overOf_0 : cX0_overOf.data.toList.drop 0 = dktX0_overOf_0 := by decide +kernel
theorem dksX0_overOf_1 : cX0_overOf.data.toList.drop 23 = dktX0_overOf_1 := dk_seg dksX0_overOf_0 23 rfl rfl
theorem dksX0_overOf_2 : cX0_overOf.data.toList.drop 46 = dktX0_overOf_2 := dk_seg dksX0_overOf_1 23 rfl rfl
theorem dX0_overOf_0 : decode cX0_overOf 0 = .ok (.iconst 0, 1) := dk_3 (dk_at dksX0_overOf_0 0 rfl rfl)
theorem dX0_overOf_1 : decode cX0_overOf 1 = .ok (.istore_n 3, 1) := dk_62 (dk_at dksX0_overOf_0 1 rfl rfl)
theorem dX0_overOf_2 : decode cX0_overOf 2 = .ok (.aload_n 0, 1) := dk_42 (dk_at dksX0_overOf_0 2 rfl rfl)
theorem dX0_overOf_3 : decode cX0_overOf 3 = .ok (.getfield 65, 3) := dk_180 0 65 (dk_at dksX0_overOf_0 3 rfl rfl)
theorem dX0_overOf_6 : decode cX0_overOf 6 = .ok (.getfield 124, 3) := dk_180 0 124 (dk_at dksX0_overOf_0 6 rfl rfl)
theorem dX0_overOf_9 : decode cX0_overOf 9 = .ok (.iload_n 1, 1) := dk_27 (dk_at dksX0_overOf_0 9 rfl rfl)
theorem dX0_overOf_10 : decode cX0_overOf 10 = .ok (.aaload, 1) := dk_50 (dk_at dksX0_overOf_0 10 rfl rfl)
theorem dX0_overOf_11 : decode cX0_overOf 11 = .ok (.astore 4, 2) := dk_58 4 (dk_at dksX0_overOf_0 11 rfl rfl)
theorem dX0_overOf_13 : decode cX0_overOf 13 = .ok (.aload 4, 2) := dk_25 4 (dk_at dksX0_overOf_0 13 rfl rfl)
theorem dX0_overOf_15 : decode cX0_overOf 15 = .ok (.arraylength, 1) := dk_190 (dk_at dksX0_overOf_0 15 rfl rfl)
theorem dX0_overOf_16 : decode cX0_overOf 16 = .ok (.istore 5, 2) := dk_54 5 (dk_at dksX0_overOf_0 16 rfl rfl)
theorem dX0_overOf_18 : decode cX0_overOf 18 = .ok (.iconst 0, 1) := dk_3 (dk_at dksX0_overOf_0 18 rfl rfl)
theorem dX0_overOf_19 : decode cX0_overOf 19 = .ok (.istore 6, 2) := dk_54 6 (dk_at dksX0_overOf_0 19 rfl rfl)
theorem dX0_overOf_21 : decode cX0_overOf 21 = .ok (.iload 6, 2) := dk_21 6 (dk_at dksX0_overOf_0 21 rfl rfl)
theorem dX0_overOf_23 : decode cX0_overOf 23 = .ok (.iload 5, 2) := dk_21 5 (dk_at dksX0_overOf_1 0 rfl rfl)
theorem dX0_overOf_25 : decode cX0_overOf 25 = .ok (.if_icmp .ge 27, 3) := dk_162 0 27 (dk_at dksX0_overOf_1 2 rfl rfl)
theorem dX0_overOf_28 : decode cX0_overOf 28 = .ok (.aload 4, 2) := dk_25 4 (dk_at dksX0_overOf_1 5 rfl rfl)
theorem dX0_overOf_30 : decode cX0_overOf 30 = .ok (.iload 6, 2) := dk_21 6 (dk_at dksX0_overOf_1 7 rfl rfl)
theorem dX0_overOf_32 : decode cX0_overOf 32 = .ok (.iaload, 1) := dk_46 (dk_at dksX0_overOf_1 9 rfl rfl)
theorem dX0_overOf_33 : decode cX0_overOf 33 = .ok (.istore 7, 2) := dk_54 7 (dk_at dksX0_overOf_1 10 rfl rfl)
theorem dX0_overOf_35 : decode cX0_overOf 35 = .ok (.iload_n 3, 1) := dk_29 (dk_at dksX0_overOf_1 12 rfl rfl)
theorem dX0_overOf_36 : decode cX0_overOf 36 = .ok (.iconst 0, 1) := dk_3 (dk_at dksX0_overOf_1 13 rfl rfl)
theorem dX0_overOf_37 : decode cX0_overOf 37 = .ok (.iload 7, 2) := dk_21 7 (dk_at dksX0_overOf_1 14 rfl rfl)
theorem dX0_overOf_39 : decode cX0_overOf 39 = .ok (.iload_n 2, 1) := dk_28 (dk_at dksX0_overOf_1 16 rfl rfl)
theorem dX0_overOf_40 : decode cX0_overOf 40 = .ok (.isub, 1) := dk_100 (dk_at dksX0_overOf_1 17 rfl rfl)
theorem dX0_overOf_41 : decode cX0_overOf 41 = .ok (.invokestatic 9, 3) := dk_184 0 9 (dk_at dksX0_overOf_1 18 rfl rfl)
theorem dX0_overOf_44 : decode cX0_overOf 44 = .ok (.iadd, 1) := dk_96 (dk_at dksX0_overOf_1 21 rfl rfl)
theorem dX0_overOf_45 : decode cX0_overOf 45 = .ok (.istore_n 3, 1) := dk_62 (dk_at dksX0_overOf_1 22 rfl rfl)
theorem dX0_overOf_46 : decode cX0_overOf 46 = .ok (.iinc 6 1, 3) := dk_132 6 1 (dk_at dksX0_overOf_2 0 rfl rfl)
theorem dX0_overOf_49 : decode cX0_overOf 49 = .ok (.goto (-28), 3) := dk_167 255 228 (dk_at dksX0_overOf_2 3 rfl rfl)
theorem dX0_overOf_52 : decode cX0_overOf 52 = .ok (.iload_n 3, 1) := dk_29 (dk_at dksX0_overOf_2 6 rfl rfl)
theorem dX0_overOf_53 : decode cX0_overOf 53 = .ok (.ireturn, 1) := dk_172 (dk_at dksX0_overOf_2 7 rfl rfl)
abbrev cX0_grind : ByteArray := prog_1_method_38_code
def yX0_grind : MethodName := ⟨RX0, "grind", "(I)I"⟩
def dkwX0_grind_4 : List UInt8 := [132, 3, 1, 167, 255, 191, 28, 172]
abbrev dktX0_grind_4 : List UInt8 := dkwX0_grind_4 ++ []
def dkwX0_grind_3 : List UInt8 := [180, 0, 124, 3, 50, 29, 46, 161, 0, 7, 4, 167, 0, 4, 3, 29, 4, 182, 0, 210, 167, 255, 203]
abbrev dktX0_grind_3 : List UInt8 := dkwX0_grind_3 ++ dktX0_grind_4
def dkwX0_grind_2 : List UInt8 := [164, 0, 45, 42, 180, 0, 65, 42, 180, 0, 65, 180, 0, 124, 4, 50, 29, 46, 42, 180, 0, 65]
abbrev dktX0_grind_2 : List UInt8 := dkwX0_grind_2 ++ dktX0_grind_3
def dkwX0_grind_1 : List UInt8 := [16, 254, 172, 3, 62, 29, 16, 48, 162, 0, 65, 42, 180, 0, 65, 29, 16, 31, 182, 0, 174, 27]
abbrev dktX0_grind_1 : List UInt8 := dkwX0_grind_1 ++ dktX0_grind_2
def dkwX0_grind_0 : List UInt8 := [27, 3, 16, 50, 184, 0, 16, 154, 0, 5, 2, 172, 42, 27, 182, 0, 204, 61, 28, 16, 254, 160, 0, 6]
abbrev dktX0_grind_0 : List UInt8 := dkwX0_grind_0 ++ dktX0_grind_1
theorem dksX0_grind_0 : cX0_grind.data.toList.drop 0 = dktX0_grind_0 := by decide +kernel
theorem dksX0_grind_1 : cX0_grind.data.toList.drop 24 = dktX0_grind_1 := dk_seg dksX0_grind_0 24 rfl rfl
theorem dksX0_grind_2 : cX0_grind.data.toList.drop 46 = dktX0_grind_2 := dk_seg dksX0_grind_1 22 rfl rfl
theorem dksX0_grind_3 : cX0_grind.data.toList.drop 68 = dktX0_grind_3 := dk_seg dksX0_grind_2 22 rfl rfl
theorem dksX0_grind_4 : cX0_grind.data.toList.drop 91 = dktX0_grind_4 := dk_seg dksX0_grind_3 23 rfl rfl
theorem dX0_grind_0 : decode cX0_grind 0 = .ok (.iload_n 1, 1) := dk_27 (dk_at dksX0_grind_0 0 rfl rfl)
theorem dX0_grind_1 : decode cX0_grind 1 = .ok (.iconst 0, 1) := dk_3 (dk_at dksX0_grind_0 1 rfl rfl)
theorem dX0_grind_2 : decode cX0_grind 2 = .ok (.bipush 50, 2) := dk_16 50 (dk_at dksX0_grind_0 2 rfl rfl)
theorem dX0_grind_4 : decode cX0_grind 4 = .ok (.invokestatic 16, 3) := dk_184 0 16 (dk_at dksX0_grind_0 4 rfl rfl)
theorem dX0_grind_7 : decode cX0_grind 7 = .ok (.ifCond .ne 5, 3) := dk_154 0 5 (dk_at dksX0_grind_0 7 rfl rfl)
theorem dX0_grind_10 : decode cX0_grind 10 = .ok (.iconst (-1), 1) := dk_2 (dk_at dksX0_grind_0 10 rfl rfl)
theorem dX0_grind_11 : decode cX0_grind 11 = .ok (.ireturn, 1) := dk_172 (dk_at dksX0_grind_0 11 rfl rfl)
theorem dX0_grind_12 : decode cX0_grind 12 = .ok (.aload_n 0, 1) := dk_42 (dk_at dksX0_grind_0 12 rfl rfl)
theorem dX0_grind_13 : decode cX0_grind 13 = .ok (.iload_n 1, 1) := dk_27 (dk_at dksX0_grind_0 13 rfl rfl)
theorem dX0_grind_14 : decode cX0_grind 14 = .ok (.invokevirtual 204, 3) := dk_182 0 204 (dk_at dksX0_grind_0 14 rfl rfl)
theorem dX0_grind_17 : decode cX0_grind 17 = .ok (.istore_n 2, 1) := dk_61 (dk_at dksX0_grind_0 17 rfl rfl)
theorem dX0_grind_18 : decode cX0_grind 18 = .ok (.iload_n 2, 1) := dk_28 (dk_at dksX0_grind_0 18 rfl rfl)
theorem dX0_grind_19 : decode cX0_grind 19 = .ok (.bipush (-2), 2) := dk_16 254 (dk_at dksX0_grind_0 19 rfl rfl)
theorem dX0_grind_21 : decode cX0_grind 21 = .ok (.if_icmp .ne 6, 3) := dk_160 0 6 (dk_at dksX0_grind_0 21 rfl rfl)
theorem dX0_grind_24 : decode cX0_grind 24 = .ok (.bipush (-2), 2) := dk_16 254 (dk_at dksX0_grind_1 0 rfl rfl)
theorem dX0_grind_26 : decode cX0_grind 26 = .ok (.ireturn, 1) := dk_172 (dk_at dksX0_grind_1 2 rfl rfl)
theorem dX0_grind_27 : decode cX0_grind 27 = .ok (.iconst 0, 1) := dk_3 (dk_at dksX0_grind_1 3 rfl rfl)
theorem dX0_grind_28 : decode cX0_grind 28 = .ok (.istore_n 3, 1) := dk_62 (dk_at dksX0_grind_1 4 rfl rfl)
theorem dX0_grind_29 : decode cX0_grind 29 = .ok (.iload_n 3, 1) := dk_29 (dk_at dksX0_grind_1 5 rfl rfl)
theorem dX0_grind_30 : decode cX0_grind 30 = .ok (.bipush 48, 2) := dk_16 48 (dk_at dksX0_grind_1 6 rfl rfl)
theorem dX0_grind_32 : decode cX0_grind 32 = .ok (.if_icmp .ge 65, 3) := dk_162 0 65 (dk_at dksX0_grind_1 8 rfl rfl)
theorem dX0_grind_35 : decode cX0_grind 35 = .ok (.aload_n 0, 1) := dk_42 (dk_at dksX0_grind_1 11 rfl rfl)
theorem dX0_grind_36 : decode cX0_grind 36 = .ok (.getfield 65, 3) := dk_180 0 65 (dk_at dksX0_grind_1 12 rfl rfl)
theorem dX0_grind_39 : decode cX0_grind 39 = .ok (.iload_n 3, 1) := dk_29 (dk_at dksX0_grind_1 15 rfl rfl)
theorem dX0_grind_40 : decode cX0_grind 40 = .ok (.bipush 31, 2) := dk_16 31 (dk_at dksX0_grind_1 16 rfl rfl)
theorem dX0_grind_42 : decode cX0_grind 42 = .ok (.invokevirtual 174, 3) := dk_182 0 174 (dk_at dksX0_grind_1 18 rfl rfl)
theorem dX0_grind_45 : decode cX0_grind 45 = .ok (.iload_n 1, 1) := dk_27 (dk_at dksX0_grind_1 21 rfl rfl)
theorem dX0_grind_46 : decode cX0_grind 46 = .ok (.if_icmp .le 45, 3) := dk_164 0 45 (dk_at dksX0_grind_2 0 rfl rfl)
theorem dX0_grind_49 : decode cX0_grind 49 = .ok (.aload_n 0, 1) := dk_42 (dk_at dksX0_grind_2 3 rfl rfl)
theorem dX0_grind_50 : decode cX0_grind 50 = .ok (.getfield 65, 3) := dk_180 0 65 (dk_at dksX0_grind_2 4 rfl rfl)
theorem dX0_grind_53 : decode cX0_grind 53 = .ok (.aload_n 0, 1) := dk_42 (dk_at dksX0_grind_2 7 rfl rfl)
theorem dX0_grind_54 : decode cX0_grind 54 = .ok (.getfield 65, 3) := dk_180 0 65 (dk_at dksX0_grind_2 8 rfl rfl)
theorem dX0_grind_57 : decode cX0_grind 57 = .ok (.getfield 124, 3) := dk_180 0 124 (dk_at dksX0_grind_2 11 rfl rfl)
theorem dX0_grind_60 : decode cX0_grind 60 = .ok (.iconst 1, 1) := dk_4 (dk_at dksX0_grind_2 14 rfl rfl)
theorem dX0_grind_61 : decode cX0_grind 61 = .ok (.aaload, 1) := dk_50 (dk_at dksX0_grind_2 15 rfl rfl)
theorem dX0_grind_62 : decode cX0_grind 62 = .ok (.iload_n 3, 1) := dk_29 (dk_at dksX0_grind_2 16 rfl rfl)
theorem dX0_grind_63 : decode cX0_grind 63 = .ok (.iaload, 1) := dk_46 (dk_at dksX0_grind_2 17 rfl rfl)
theorem dX0_grind_64 : decode cX0_grind 64 = .ok (.aload_n 0, 1) := dk_42 (dk_at dksX0_grind_2 18 rfl rfl)
theorem dX0_grind_65 : decode cX0_grind 65 = .ok (.getfield 65, 3) := dk_180 0 65 (dk_at dksX0_grind_2 19 rfl rfl)
theorem dX0_grind_68 : decode cX0_grind 68 = .ok (.getfield 124, 3) := dk_180 0 124 (dk_at dksX0_grind_3 0 rfl rfl)
theorem dX0_grind_71 : decode cX0_grind 71 = .ok (.iconst 0, 1) := dk_3 (dk_at dksX0_grind_3 3 rfl rfl)
theorem dX0_grind_72 : decode cX0_grind 72 = .ok (.aaload, 1) := dk_50 (dk_at dksX0_grind_3 4 rfl rfl)
theorem dX0_grind_73 : decode cX0_grind 73 = .ok (.iload_n 3, 1) := dk_29 (dk_at dksX0_grind_3 5 rfl rfl)
theorem dX0_grind_74 : decode cX0_grind 74 = .ok (.iaload, 1) := dk_46 (dk_at dksX0_grind_3 6 rfl rfl)
theorem dX0_grind_75 : decode cX0_grind 75 = .ok (.if_icmp .lt 7, 3) := dk_161 0 7 (dk_at dksX0_grind_3 7 rfl rfl)
theorem dX0_grind_78 : decode cX0_grind 78 = .ok (.iconst 1, 1) := dk_4 (dk_at dksX0_grind_3 10 rfl rfl)
theorem dX0_grind_79 : decode cX0_grind 79 = .ok (.goto 4, 3) := dk_167 0 4 (dk_at dksX0_grind_3 11 rfl rfl)
theorem dX0_grind_82 : decode cX0_grind 82 = .ok (.iconst 0, 1) := dk_3 (dk_at dksX0_grind_3 14 rfl rfl)
theorem dX0_grind_83 : decode cX0_grind 83 = .ok (.iload_n 3, 1) := dk_29 (dk_at dksX0_grind_3 15 rfl rfl)
theorem dX0_grind_84 : decode cX0_grind 84 = .ok (.iconst 1, 1) := dk_4 (dk_at dksX0_grind_3 16 rfl rfl)
theorem dX0_grind_85 : decode cX0_grind 85 = .ok (.invokevirtual 210, 3) := dk_182 0 210 (dk_at dksX0_grind_3 17 rfl rfl)
theorem dX0_grind_88 : decode cX0_grind 88 = .ok (.goto (-53), 3) := dk_167 255 203 (dk_at dksX0_grind_3 20 rfl rfl)
theorem dX0_grind_91 : decode cX0_grind 91 = .ok (.iinc 3 1, 3) := dk_132 3 1 (dk_at dksX0_grind_4 0 rfl rfl)
theorem dX0_grind_94 : decode cX0_grind 94 = .ok (.goto (-65), 3) := dk_167 255 191 (dk_at dksX0_grind_4 3 rfl rfl)
theorem dX0_grind_97 : decode cX0_grind 97 = .ok (.iload_n 2, 1) := dk_28 (dk_at dksX0_grind_4 6 rfl rfl)
theorem dX0_grind_98 : decode cX0_grind 98 = .ok (.ireturn, 1) := dk_172 (dk_at dksX0_grind_4 7 rfl rfl)
abbrev cX0_rocks : ByteArray := prog_1_method_40_code
def yX0_rocks : MethodName := ⟨RX0, "rocks", "()I"⟩
def dkwX0_rocks_1 : List UInt8 := [51, 153, 0, 13, 42, 27, 182, 0, 214, 153, 0, 5, 4, 172, 132, 1, 1, 167, 255, 228, 3, 172]
abbrev dktX0_rocks_1 : List UInt8 := dkwX0_rocks_1 ++ []
def dkwX0_rocks_0 : List UInt8 := [42, 180, 0, 65, 16, 31, 3, 182, 0, 180, 87, 3, 60, 27, 16, 48, 162, 0, 28, 42, 180, 0, 53, 27]
abbrev dktX0_rocks_0 : List UInt8 := dkwX0_rocks_0 ++ dktX0_rocks_1
theorem dksX0_rocks_0 : cX0_rocks.data.toList.drop 0 = dktX0_rocks_0 := by decide +kernel
theorem dksX0_rocks_1 : cX0_rocks.data.toList.drop 24 = dktX0_rocks_1 := dk_seg dksX0_rocks_0 24 rfl rfl
theorem dX0_rocks_0 : decode cX0_rocks 0 = .ok (.aload_n 0, 1) := dk_42 (dk_at dksX0_rocks_0 0 rfl rfl)
theorem dX0_rocks_1 : decode cX0_rocks 1 = .ok (.getfield 65, 3) := dk_180 0 65 (dk_at dksX0_rocks_0 1 rfl rfl)
theorem dX0_rocks_4 : decode cX0_rocks 4 = .ok (.bipush 31, 2) := dk_16 31 (dk_at dksX0_rocks_0 4 rfl rfl)
theorem dX0_rocks_6 : decode cX0_rocks 6 = .ok (.iconst 0, 1) := dk_3 (dk_at dksX0_rocks_0 6 rfl rfl)
theorem dX0_rocks_7 : decode cX0_rocks 7 = .ok (.invokevirtual 180, 3) := dk_182 0 180 (dk_at dksX0_rocks_0 7 rfl rfl)
theorem dX0_rocks_10 : decode cX0_rocks 10 = .ok (.pop, 1) := dk_87 (dk_at dksX0_rocks_0 10 rfl rfl)
theorem dX0_rocks_11 : decode cX0_rocks 11 = .ok (.iconst 0, 1) := dk_3 (dk_at dksX0_rocks_0 11 rfl rfl)
theorem dX0_rocks_12 : decode cX0_rocks 12 = .ok (.istore_n 1, 1) := dk_60 (dk_at dksX0_rocks_0 12 rfl rfl)
theorem dX0_rocks_13 : decode cX0_rocks 13 = .ok (.iload_n 1, 1) := dk_27 (dk_at dksX0_rocks_0 13 rfl rfl)
theorem dX0_rocks_14 : decode cX0_rocks 14 = .ok (.bipush 48, 2) := dk_16 48 (dk_at dksX0_rocks_0 14 rfl rfl)
theorem dX0_rocks_16 : decode cX0_rocks 16 = .ok (.if_icmp .ge 28, 3) := dk_162 0 28 (dk_at dksX0_rocks_0 16 rfl rfl)
theorem dX0_rocks_19 : decode cX0_rocks 19 = .ok (.aload_n 0, 1) := dk_42 (dk_at dksX0_rocks_0 19 rfl rfl)
theorem dX0_rocks_20 : decode cX0_rocks 20 = .ok (.getfield 53, 3) := dk_180 0 53 (dk_at dksX0_rocks_0 20 rfl rfl)
theorem dX0_rocks_23 : decode cX0_rocks 23 = .ok (.iload_n 1, 1) := dk_27 (dk_at dksX0_rocks_0 23 rfl rfl)
theorem dX0_rocks_24 : decode cX0_rocks 24 = .ok (.baload, 1) := dk_51 (dk_at dksX0_rocks_1 0 rfl rfl)
theorem dX0_rocks_25 : decode cX0_rocks 25 = .ok (.ifCond .eq 13, 3) := dk_153 0 13 (dk_at dksX0_rocks_1 1 rfl rfl)
theorem dX0_rocks_28 : decode cX0_rocks 28 = .ok (.aload_n 0, 1) := dk_42 (dk_at dksX0_rocks_1 4 rfl rfl)
theorem dX0_rocks_29 : decode cX0_rocks 29 = .ok (.iload_n 1, 1) := dk_27 (dk_at dksX0_rocks_1 5 rfl rfl)
theorem dX0_rocks_30 : decode cX0_rocks 30 = .ok (.invokevirtual 214, 3) := dk_182 0 214 (dk_at dksX0_rocks_1 6 rfl rfl)
theorem dX0_rocks_33 : decode cX0_rocks 33 = .ok (.ifCond .eq 5, 3) := dk_153 0 5 (dk_at dksX0_rocks_1 9 rfl rfl)
theorem dX0_rocks_36 : decode cX0_rocks 36 = .ok (.iconst 1, 1) := dk_4 (dk_at dksX0_rocks_1 12 rfl rfl)
theorem dX0_rocks_37 : decode cX0_rocks 37 = .ok (.ireturn, 1) := dk_172 (dk_at dksX0_rocks_1 13 rfl rfl)
theorem dX0_rocks_38 : decode cX0_rocks 38 = .ok (.iinc 1 1, 3) := dk_132 1 1 (dk_at dksX0_rocks_1 14 rfl rfl)
theorem dX0_rocks_41 : decode cX0_rocks 41 = .ok (.goto (-28), 3) := dk_167 255 228 (dk_at dksX0_rocks_1 17 rfl rfl)
theorem dX0_rocks_44 : decode cX0_rocks 44 = .ok (.iconst 0, 1) := dk_3 (dk_at dksX0_rocks_1 20 rfl rfl)
theorem dX0_rocks_45 : decode cX0_rocks 45 = .ok (.ireturn, 1) := dk_172 (dk_at dksX0_rocks_1 21 rfl rfl)
abbrev cX0_isOneSided : ByteArray := prog_1_method_39_code
def yX0_isOneSided : MethodName := ⟨RX0, "isOneSided", "(I)Z"⟩
def dkwX0_isOneSided_4 : List UInt8 := [157, 0, 5, 3, 172, 132, 4, 1, 167, 255, 175, 4, 172]
abbrev dktX0_isOneSided_4 : List UInt8 := dkwX0_isOneSided_4 ++ []
def dkwX0_isOneSided_3 : List UInt8 := [104, 100, 54, 7, 21, 7, 155, 0, 20, 21, 7, 154, 0, 17, 28, 21, 5, 104, 29, 21, 6, 104, 96]
abbrev dktX0_isOneSided_3 : List UInt8 := dkwX0_isOneSided_3 ++ dktX0_isOneSided_4
def dkwX0_isOneSided_2 : List UInt8 := [104, 16, 7, 100, 54, 5, 5, 21, 4, 16, 8, 108, 104, 8, 100, 54, 6, 28, 21, 6, 104, 29, 21, 5]
abbrev dktX0_isOneSided_2 : List UInt8 := dkwX0_isOneSided_2 ++ dktX0_isOneSided_3
def dkwX0_isOneSided_1 : List UInt8 := [16, 48, 162, 0, 80, 42, 180, 0, 53, 21, 4, 51, 154, 0, 6, 167, 0, 61, 5, 21, 4, 16, 8, 112]
abbrev dktX0_isOneSided_1 : List UInt8 := dkwX0_isOneSided_1 ++ dktX0_isOneSided_2
def dkwX0_isOneSided_0 : List UInt8 := [5, 27, 16, 8, 112, 104, 16, 7, 100, 61, 5, 27, 16, 8, 108, 104, 8, 100, 62, 3, 54, 4, 21, 4]
abbrev dktX0_isOneSided_0 : List UInt8 := dkwX0_isOneSided_0 ++ dktX0_isOneSided_1
theorem dksX0_isOneSided_0 : cX0_isOneSided.data.toList.drop 0 = dktX0_isOneSided_0 := by decide +kernel
theorem dksX0_isOneSided_1 : cX0_isOneSided.data.toList.drop 24 = dktX0_isOneSided_1 := dk_seg dksX0_isOneSided_0 24 rfl rfl
theorem dksX0_isOneSided_2 : cX0_isOneSided.data.toList.drop 48 = dktX0_isOneSided_2 := dk_seg dksX0_isOneSided_1 24 rfl rfl
theorem dksX0_isOneSided_3 : cX0_isOneSided.data.toList.drop 72 = dktX0_isOneSided_3 := dk_seg dksX0_isOneSided_2 24 rfl rfl
theorem dksX0_isOneSided_4 : cX0_isOneSided.data.toList.drop 95 = dktX0_isOneSided_4 := dk_seg dksX0_isOneSided_3 23 rfl rfl
theorem dX0_isOneSided_0 : decode cX0_isOneSided 0 = .ok (.iconst 2, 1) := dk_5 (dk_at dksX0_isOneSided_0 0 rfl rfl)
theorem dX0_isOneSided_1 : decode cX0_isOneSided 1 = .ok (.iload_n 1, 1) := dk_27 (dk_at dksX0_isOneSided_0 1 rfl rfl)
theorem dX0_isOneSided_2 : decode cX0_isOneSided 2 = .ok (.bipush 8, 2) := dk_16 8 (dk_at dksX0_isOneSided_0 2 rfl rfl)
theorem dX0_isOneSided_4 : decode cX0_isOneSided 4 = .ok (.irem, 1) := dk_112 (dk_at dksX0_isOneSided_0 4 rfl rfl)
theorem dX0_isOneSided_5 : decode cX0_isOneSided 5 = .ok (.imul, 1) := dk_104 (dk_at dksX0_isOneSided_0 5 rfl rfl)
theorem dX0_isOneSided_6 : decode cX0_isOneSided 6 = .ok (.bipush 7, 2) := dk_16 7 (dk_at dksX0_isOneSided_0 6 rfl rfl)
theorem dX0_isOneSided_8 : decode cX0_isOneSided 8 = .ok (.isub, 1) := dk_100 (dk_at dksX0_isOneSided_0 8 rfl rfl)
theorem dX0_isOneSided_9 : decode cX0_isOneSided 9 = .ok (.istore_n 2, 1) := dk_61 (dk_at dksX0_isOneSided_0 9 rfl rfl)
theorem dX0_isOneSided_10 : decode cX0_isOneSided 10 = .ok (.iconst 2, 1) := dk_5 (dk_at dksX0_isOneSided_0 10 rfl rfl)
theorem dX0_isOneSided_11 : decode cX0_isOneSided 11 = .ok (.iload_n 1, 1) := dk_27 (dk_at dksX0_isOneSided_0 11 rfl rfl)
theorem dX0_isOneSided_12 : decode cX0_isOneSided 12 = .ok (.bipush 8, 2) := dk_16 8 (dk_at dksX0_isOneSided_0 12 rfl rfl)
theorem dX0_isOneSided_14 : decode cX0_isOneSided 14 = .ok (.idiv, 1) := dk_108 (dk_at dksX0_isOneSided_0 14 rfl rfl)
theorem dX0_isOneSided_15 : decode cX0_isOneSided 15 = .ok (.imul, 1) := dk_104 (dk_at dksX0_isOneSided_0 15 rfl rfl)
theorem dX0_isOneSided_16 : decode cX0_isOneSided 16 = .ok (.iconst 5, 1) := dk_8 (dk_at dksX0_isOneSided_0 16 rfl rfl)
theorem dX0_isOneSided_17 : decode cX0_isOneSided 17 = .ok (.isub, 1) := dk_100 (dk_at dksX0_isOneSided_0 17 rfl rfl)
theorem dX0_isOneSided_18 : decode cX0_isOneSided 18 = .ok (.istore_n 3, 1) := dk_62 (dk_at dksX0_isOneSided_0 18 rfl rfl)
theorem dX0_isOneSided_19 : decode cX0_isOneSided 19 = .ok (.iconst 0, 1) := dk_3 (dk_at dksX0_isOneSided_0 19 rfl rfl)
theorem dX0_isOneSided_20 : decode cX0_isOneSided 20 = .ok (.istore 4, 2) := dk_54 4 (dk_at dksX0_isOneSided_0 20 rfl rfl)
theorem dX0_isOneSided_22 : decode cX0_isOneSided 22 = .ok (.iload 4, 2) := dk_21 4 (dk_at dksX0_isOneSided_0 22 rfl rfl)
theorem dX0_isOneSided_24 : decode cX0_isOneSided 24 = .ok (.bipush 48, 2) := dk_16 48 (dk_at dksX0_isOneSided_1 0 rfl rfl)
theorem dX0_isOneSided_26 : decode cX0_isOneSided 26 = .ok (.if_icmp .ge 80, 3) := dk_162 0 80 (dk_at dksX0_isOneSided_1 2 rfl rfl)
theorem dX0_isOneSided_29 : decode cX0_isOneSided 29 = .ok (.aload_n 0, 1) := dk_42 (dk_at dksX0_isOneSided_1 5 rfl rfl)
theorem dX0_isOneSided_30 : decode cX0_isOneSided 30 = .ok (.getfield 53, 3) := dk_180 0 53 (dk_at dksX0_isOneSided_1 6 rfl rfl)
theorem dX0_isOneSided_33 : decode cX0_isOneSided 33 = .ok (.iload 4, 2) := dk_21 4 (dk_at dksX0_isOneSided_1 9 rfl rfl)
theorem dX0_isOneSided_35 : decode cX0_isOneSided 35 = .ok (.baload, 1) := dk_51 (dk_at dksX0_isOneSided_1 11 rfl rfl)
theorem dX0_isOneSided_36 : decode cX0_isOneSided 36 = .ok (.ifCond .ne 6, 3) := dk_154 0 6 (dk_at dksX0_isOneSided_1 12 rfl rfl)
theorem dX0_isOneSided_39 : decode cX0_isOneSided 39 = .ok (.goto 61, 3) := dk_167 0 61 (dk_at dksX0_isOneSided_1 15 rfl rfl)
theorem dX0_isOneSided_42 : decode cX0_isOneSided 42 = .ok (.iconst 2, 1) := dk_5 (dk_at dksX0_isOneSided_1 18 rfl rfl)
theorem dX0_isOneSided_43 : decode cX0_isOneSided 43 = .ok (.iload 4, 2) := dk_21 4 (dk_at dksX0_isOneSided_1 19 rfl rfl)
theorem dX0_isOneSided_45 : decode cX0_isOneSided 45 = .ok (.bipush 8, 2) := dk_16 8 (dk_at dksX0_isOneSided_1 21 rfl rfl)
theorem dX0_isOneSided_47 : decode cX0_isOneSided 47 = .ok (.irem, 1) := dk_112 (dk_at dksX0_isOneSided_1 23 rfl rfl)
theorem dX0_isOneSided_48 : decode cX0_isOneSided 48 = .ok (.imul, 1) := dk_104 (dk_at dksX0_isOneSided_2 0 rfl rfl)
theorem dX0_isOneSided_49 : decode cX0_isOneSided 49 = .ok (.bipush 7, 2) := dk_16 7 (dk_at dksX0_isOneSided_2 1 rfl rfl)
theorem dX0_isOneSided_51 : decode cX0_isOneSided 51 = .ok (.isub, 1) := dk_100 (dk_at dksX0_isOneSided_2 3 rfl rfl)
theorem dX0_isOneSided_52 : decode cX0_isOneSided 52 = .ok (.istore 5, 2) := dk_54 5 (dk_at dksX0_isOneSided_2 4 rfl rfl)
theorem dX0_isOneSided_54 : decode cX0_isOneSided 54 = .ok (.iconst 2, 1) := dk_5 (dk_at dksX0_isOneSided_2 6 rfl rfl)
theorem dX0_isOneSided_55 : decode cX0_isOneSided 55 = .ok (.iload 4, 2) := dk_21 4 (dk_at dksX0_isOneSided_2 7 rfl rfl)
theorem dX0_isOneSided_57 : decode cX0_isOneSided 57 = .ok (.bipush 8, 2) := dk_16 8 (dk_at dksX0_isOneSided_2 9 rfl rfl)
theorem dX0_isOneSided_59 : decode cX0_isOneSided 59 = .ok (.idiv, 1) := dk_108 (dk_at dksX0_isOneSided_2 11 rfl rfl)
theorem dX0_isOneSided_60 : decode cX0_isOneSided 60 = .ok (.imul, 1) := dk_104 (dk_at dksX0_isOneSided_2 12 rfl rfl)
theorem dX0_isOneSided_61 : decode cX0_isOneSided 61 = .ok (.iconst 5, 1) := dk_8 (dk_at dksX0_isOneSided_2 13 rfl rfl)
theorem dX0_isOneSided_62 : decode cX0_isOneSided 62 = .ok (.isub, 1) := dk_100 (dk_at dksX0_isOneSided_2 14 rfl rfl)
theorem dX0_isOneSided_63 : decode cX0_isOneSided 63 = .ok (.istore 6, 2) := dk_54 6 (dk_at dksX0_isOneSided_2 15 rfl rfl)
theorem dX0_isOneSided_65 : decode cX0_isOneSided 65 = .ok (.iload_n 2, 1) := dk_28 (dk_at dksX0_isOneSided_2 17 rfl rfl)
theorem dX0_isOneSided_66 : decode cX0_isOneSided 66 = .ok (.iload 6, 2) := dk_21 6 (dk_at dksX0_isOneSided_2 18 rfl rfl)
theorem dX0_isOneSided_68 : decode cX0_isOneSided 68 = .ok (.imul, 1) := dk_104 (dk_at dksX0_isOneSided_2 20 rfl rfl)
theorem dX0_isOneSided_69 : decode cX0_isOneSided 69 = .ok (.iload_n 3, 1) := dk_29 (dk_at dksX0_isOneSided_2 21 rfl rfl)
theorem dX0_isOneSided_70 : decode cX0_isOneSided 70 = .ok (.iload 5, 2) := dk_21 5 (dk_at dksX0_isOneSided_2 22 rfl rfl)
theorem dX0_isOneSided_72 : decode cX0_isOneSided 72 = .ok (.imul, 1) := dk_104 (dk_at dksX0_isOneSided_3 0 rfl rfl)
theorem dX0_isOneSided_73 : decode cX0_isOneSided 73 = .ok (.isub, 1) := dk_100 (dk_at dksX0_isOneSided_3 1 rfl rfl)
theorem dX0_isOneSided_74 : decode cX0_isOneSided 74 = .ok (.istore 7, 2) := dk_54 7 (dk_at dksX0_isOneSided_3 2 rfl rfl)
theorem dX0_isOneSided_76 : decode cX0_isOneSided 76 = .ok (.iload 7, 2) := dk_21 7 (dk_at dksX0_isOneSided_3 4 rfl rfl)
theorem dX0_isOneSided_78 : decode cX0_isOneSided 78 = .ok (.ifCond .lt 20, 3) := dk_155 0 20 (dk_at dksX0_isOneSided_3 6 rfl rfl)
theorem dX0_isOneSided_81 : decode cX0_isOneSided 81 = .ok (.iload 7, 2) := dk_21 7 (dk_at dksX0_isOneSided_3 9 rfl rfl)
theorem dX0_isOneSided_83 : decode cX0_isOneSided 83 = .ok (.ifCond .ne 17, 3) := dk_154 0 17 (dk_at dksX0_isOneSided_3 11 rfl rfl)
theorem dX0_isOneSided_86 : decode cX0_isOneSided 86 = .ok (.iload_n 2, 1) := dk_28 (dk_at dksX0_isOneSided_3 14 rfl rfl)
theorem dX0_isOneSided_87 : decode cX0_isOneSided 87 = .ok (.iload 5, 2) := dk_21 5 (dk_at dksX0_isOneSided_3 15 rfl rfl)
theorem dX0_isOneSided_89 : decode cX0_isOneSided 89 = .ok (.imul, 1) := dk_104 (dk_at dksX0_isOneSided_3 17 rfl rfl)
theorem dX0_isOneSided_90 : decode cX0_isOneSided 90 = .ok (.iload_n 3, 1) := dk_29 (dk_at dksX0_isOneSided_3 18 rfl rfl)
theorem dX0_isOneSided_91 : decode cX0_isOneSided 91 = .ok (.iload 6, 2) := dk_21 6 (dk_at dksX0_isOneSided_3 19 rfl rfl)
theorem dX0_isOneSided_93 : decode cX0_isOneSided 93 = .ok (.imul, 1) := dk_104 (dk_at dksX0_isOneSided_3 21 rfl rfl)
theorem dX0_isOneSided_94 : decode cX0_isOneSided 94 = .ok (.iadd, 1) := dk_96 (dk_at dksX0_isOneSided_3 22 rfl rfl)
theorem dX0_isOneSided_95 : decode cX0_isOneSided 95 = .ok (.ifCond .gt 5, 3) := dk_157 0 5 (dk_at dksX0_isOneSided_4 0 rfl rfl)
theorem dX0_isOneSided_98 : decode cX0_isOneSided 98 = .ok (.iconst 0, 1) := dk_3 (dk_at dksX0_isOneSided_4 3 rfl rfl)
theorem dX0_isOneSided_99 : decode cX0_isOneSided 99 = .ok (.ireturn, 1) := dk_172 (dk_at dksX0_isOneSided_4 4 rfl rfl)
theorem dX0_isOneSided_100 : decode cX0_isOneSided 100 = .ok (.iinc 4 1, 3) := dk_132 4 1 (dk_at dksX0_isOneSided_4 5 rfl rfl)
theorem dX0_isOneSided_103 : decode cX0_isOneSided 103 = .ok (.goto (-81), 3) := dk_167 255 175 (dk_at dksX0_isOneSided_4 8 rfl rfl)
theorem dX0_isOneSided_106 : decode cX0_isOneSided 106 = .ok (.iconst 1, 1) := dk_4 (dk_at dksX0_isOneSided_4 11 rfl rfl)
theorem dX0_isOneSided_107 : decode cX0_isOneSided 107 = .ok (.ireturn, 1) := dk_172 (dk_at dksX0_isOneSided_4 12 rfl rfl)
abbrev cX0_spots : ByteArray := prog_1_method_43_code
def yX0_spots : MethodName := ⟨RX0, "spots", "(IIII)I"⟩
def dkwX0_spots_2 : List UInt8 := [182, 0, 223, 172]
abbrev dktX0_spots_2 : List UInt8 := dkwX0_spots_2 ++ []
def dkwX0_spots_1 : List UInt8 := [154, 0, 5, 2, 172, 42, 180, 0, 65, 27, 28, 184, 0, 33, 29, 182, 0, 180, 87, 42, 21, 4]
abbrev dktX0_spots_1 : List UInt8 := dkwX0_spots_1 ++ dktX0_spots_2
def dkwX0_spots_0 : List UInt8 := [27, 28, 184, 0, 30, 153, 0, 22, 29, 3, 16, 50, 184, 0, 16, 153, 0, 12, 21, 4, 5, 184, 0, 12]
abbrev dktX0_spots_0 : List UInt8 := dkwX0_spots_0 ++ dktX0_spots_1
theorem dksX0_spots_0 : cX0_spots.data.toList.drop 0 = dktX0_spots_0 := by decide +kernel
theorem dksX0_spots_1 : cX0_spots.data.toList.drop 24 = dktX0_spots_1 := dk_seg dksX0_spots_0 24 rfl rfl
theorem dksX0_spots_2 : cX0_spots.data.toList.drop 46 = dktX0_spots_2 := dk_seg dksX0_spots_1 22 rfl rfl
theorem dX0_spots_0 : decode cX0_spots 0 = .ok (.iload_n 1, 1) := dk_27 (dk_at dksX0_spots_0 0 rfl rfl)
theorem dX0_spots_1 : decode cX0_spots 1 = .ok (.iload_n 2, 1) := dk_28 (dk_at dksX0_spots_0 1 rfl rfl)
theorem dX0_spots_2 : decode cX0_spots 2 = .ok (.invokestatic 30, 3) := dk_184 0 30 (dk_at dksX0_spots_0 2 rfl rfl)
theorem dX0_spots_5 : decode cX0_spots 5 = .ok (.ifCond .eq 22, 3) := dk_153 0 22 (dk_at dksX0_spots_0 5 rfl rfl)
theorem dX0_spots_8 : decode cX0_spots 8 = .ok (.iload_n 3, 1) := dk_29 (dk_at dksX0_spots_0 8 rfl rfl)
theorem dX0_spots_9 : decode cX0_spots 9 = .ok (.iconst 0, 1) := dk_3 (dk_at dksX0_spots_0 9 rfl rfl)
theorem dX0_spots_10 : decode cX0_spots 10 = .ok (.bipush 50, 2) := dk_16 50 (dk_at dksX0_spots_0 10 rfl rfl)
theorem dX0_spots_12 : decode cX0_spots 12 = .ok (.invokestatic 16, 3) := dk_184 0 16 (dk_at dksX0_spots_0 12 rfl rfl)
theorem dX0_spots_15 : decode cX0_spots 15 = .ok (.ifCond .eq 12, 3) := dk_153 0 12 (dk_at dksX0_spots_0 15 rfl rfl)
theorem dX0_spots_18 : decode cX0_spots 18 = .ok (.iload 4, 2) := dk_21 4 (dk_at dksX0_spots_0 18 rfl rfl)
theorem dX0_spots_20 : decode cX0_spots 20 = .ok (.iconst 2, 1) := dk_5 (dk_at dksX0_spots_0 20 rfl rfl)
theorem dX0_spots_21 : decode cX0_spots 21 = .ok (.invokestatic 12, 3) := dk_184 0 12 (dk_at dksX0_spots_0 21 rfl rfl)
theorem dX0_spots_24 : decode cX0_spots 24 = .ok (.ifCond .ne 5, 3) := dk_154 0 5 (dk_at dksX0_spots_1 0 rfl rfl)
theorem dX0_spots_27 : decode cX0_spots 27 = .ok (.iconst (-1), 1) := dk_2 (dk_at dksX0_spots_1 3 rfl rfl)
theorem dX0_spots_28 : decode cX0_spots 28 = .ok (.ireturn, 1) := dk_172 (dk_at dksX0_spots_1 4 rfl rfl)
theorem dX0_spots_29 : decode cX0_spots 29 = .ok (.aload_n 0, 1) := dk_42 (dk_at dksX0_spots_1 5 rfl rfl)
theorem dX0_spots_30 : decode cX0_spots 30 = .ok (.getfield 65, 3) := dk_180 0 65 (dk_at dksX0_spots_1 6 rfl rfl)
theorem dX0_spots_33 : decode cX0_spots 33 = .ok (.iload_n 1, 1) := dk_27 (dk_at dksX0_spots_1 9 rfl rfl)
theorem dX0_spots_34 : decode cX0_spots 34 = .ok (.iload_n 2, 1) := dk_28 (dk_at dksX0_spots_1 10 rfl rfl)
theorem dX0_spots_35 : decode cX0_spots 35 = .ok (.invokestatic 33, 3) := dk_184 0 33 (dk_at dksX0_spots_1 11 rfl rfl)
theorem dX0_spots_38 : decode cX0_spots 38 = .ok (.iload_n 3, 1) := dk_29 (dk_at dksX0_spots_1 14 rfl rfl)
theorem dX0_spots_39 : decode cX0_spots 39 = .ok (.invokevirtual 180, 3) := dk_182 0 180 (dk_at dksX0_spots_1 15 rfl rfl)
theorem dX0_spots_42 : decode cX0_spots 42 = .ok (.pop, 1) := dk_87 (dk_at dksX0_spots_1 18 rfl rfl)
theorem dX0_spots_43 : decode cX0_spots 43 = .ok (.aload_n 0, 1) := dk_42 (dk_at dksX0_spots_1 19 rfl rfl)
theorem dX0_spots_44 : decode cX0_spots 44 = .ok (.iload 4, 2) := dk_21 4 (dk_at dksX0_spots_1 20 rfl rfl)
theorem dX0_spots_46 : decode cX0_spots 46 = .ok (.invokevirtual 223, 3) := dk_182 0 223 (dk_at dksX0_spots_2 0 rfl rfl)
theorem dX0_spots_49 : decode cX0_spots 49 = .ok (.ireturn, 1) := dk_172 (dk_at dksX0_spots_2 3 rfl rfl)
abbrev cX0_groups : ByteArray := prog_1_method_42_code
def yX0_groups : MethodName := ⟨RX0, "groups", "(I)I"⟩
def dkwX0_groups_3 : List UInt8 := [184, 0, 9, 62, 132, 4, 1, 167, 255, 209, 27, 154, 0, 7, 28, 167, 0, 4, 29, 172]
abbrev dktX0_groups_3 : List UInt8 := dkwX0_groups_3 ++ []
def dkwX0_groups_2 : List UInt8 := [180, 0, 98, 21, 4, 51, 153, 0, 6, 167, 0, 17, 132, 2, 1, 29, 42, 21, 4, 182, 0, 220]
abbrev dktX0_groups_2 : List UInt8 := dkwX0_groups_2 ++ dktX0_groups_3
def dkwX0_groups_1 : List UInt8 := [62, 3, 54, 4, 21, 4, 16, 48, 162, 0, 46, 42, 180, 0, 53, 21, 4, 51, 153, 0, 30, 42]
abbrev dktX0_groups_1 : List UInt8 := dkwX0_groups_1 ++ dktX0_groups_2
def dkwX0_groups_0 : List UInt8 := [3, 61, 28, 16, 48, 162, 0, 16, 42, 180, 0, 98, 28, 3, 84, 132, 2, 1, 167, 255, 240, 3, 61, 3]
abbrev dktX0_groups_0 : List UInt8 := dkwX0_groups_0 ++ dktX0_groups_1
theorem dksX0_groups_0 : cX0_groups.data.toList.drop 0 = dktX0_groups_0 := by decide +kernel
theorem dksX0_groups_1 : cX0_groups.data.toList.drop 24 = dktX0_groups_1 := dk_seg dksX0_groups_0 24 rfl rfl
theorem dksX0_groups_2 : cX0_groups.data.toList.drop 46 = dktX0_groups_2 := dk_seg dksX0_groups_1 22 rfl rfl
theorem dksX0_groups_3 : cX0_groups.data.toList.drop 68 = dktX0_groups_3 := dk_seg dksX0_groups_2 22 rfl rfl
theorem dX0_groups_0 : decode cX0_groups 0 = .ok (.iconst 0, 1) := dk_3 (dk_at dksX0_groups_0 0 rfl rfl)
theorem dX0_groups_1 : decode cX0_groups 1 = .ok (.istore_n 2, 1) := dk_61 (dk_at dksX0_groups_0 1 rfl rfl)
theorem dX0_groups_2 : decode cX0_groups 2 = .ok (.iload_n 2, 1) := dk_28 (dk_at dksX0_groups_0 2 rfl rfl)
theorem dX0_groups_3 : decode cX0_groups 3 = .ok (.bipush 48, 2) := dk_16 48 (dk_at dksX0_groups_0 3 rfl rfl)
theorem dX0_groups_5 : decode cX0_groups 5 = .ok (.if_icmp .ge 16, 3) := dk_162 0 16 (dk_at dksX0_groups_0 5 rfl rfl)
theorem dX0_groups_8 : decode cX0_groups 8 = .ok (.aload_n 0, 1) := dk_42 (dk_at dksX0_groups_0 8 rfl rfl)
theorem dX0_groups_9 : decode cX0_groups 9 = .ok (.getfield 98, 3) := dk_180 0 98 (dk_at dksX0_groups_0 9 rfl rfl)
theorem dX0_groups_12 : decode cX0_groups 12 = .ok (.iload_n 2, 1) := dk_28 (dk_at dksX0_groups_0 12 rfl rfl)
theorem dX0_groups_13 : decode cX0_groups 13 = .ok (.iconst 0, 1) := dk_3 (dk_at dksX0_groups_0 13 rfl rfl)
theorem dX0_groups_14 : decode cX0_groups 14 = .ok (.bastore, 1) := dk_84 (dk_at dksX0_groups_0 14 rfl rfl)
theorem dX0_groups_15 : decode cX0_groups 15 = .ok (.iinc 2 1, 3) := dk_132 2 1 (dk_at dksX0_groups_0 15 rfl rfl)
theorem dX0_groups_18 : decode cX0_groups 18 = .ok (.goto (-16), 3) := dk_167 255 240 (dk_at dksX0_groups_0 18 rfl rfl)
theorem dX0_groups_21 : decode cX0_groups 21 = .ok (.iconst 0, 1) := dk_3 (dk_at dksX0_groups_0 21 rfl rfl)
theorem dX0_groups_22 : decode cX0_groups 22 = .ok (.istore_n 2, 1) := dk_61 (dk_at dksX0_groups_0 22 rfl rfl)
theorem dX0_groups_23 : decode cX0_groups 23 = .ok (.iconst 0, 1) := dk_3 (dk_at dksX0_groups_0 23 rfl rfl)
theorem dX0_groups_24 : decode cX0_groups 24 = .ok (.istore_n 3, 1) := dk_62 (dk_at dksX0_groups_1 0 rfl rfl)
theorem dX0_groups_25 : decode cX0_groups 25 = .ok (.iconst 0, 1) := dk_3 (dk_at dksX0_groups_1 1 rfl rfl)
theorem dX0_groups_26 : decode cX0_groups 26 = .ok (.istore 4, 2) := dk_54 4 (dk_at dksX0_groups_1 2 rfl rfl)
theorem dX0_groups_28 : decode cX0_groups 28 = .ok (.iload 4, 2) := dk_21 4 (dk_at dksX0_groups_1 4 rfl rfl)
theorem dX0_groups_30 : decode cX0_groups 30 = .ok (.bipush 48, 2) := dk_16 48 (dk_at dksX0_groups_1 6 rfl rfl)
theorem dX0_groups_32 : decode cX0_groups 32 = .ok (.if_icmp .ge 46, 3) := dk_162 0 46 (dk_at dksX0_groups_1 8 rfl rfl)
theorem dX0_groups_35 : decode cX0_groups 35 = .ok (.aload_n 0, 1) := dk_42 (dk_at dksX0_groups_1 11 rfl rfl)
theorem dX0_groups_36 : decode cX0_groups 36 = .ok (.getfield 53, 3) := dk_180 0 53 (dk_at dksX0_groups_1 12 rfl rfl)
theorem dX0_groups_39 : decode cX0_groups 39 = .ok (.iload 4, 2) := dk_21 4 (dk_at dksX0_groups_1 15 rfl rfl)
theorem dX0_groups_41 : decode cX0_groups 41 = .ok (.baload, 1) := dk_51 (dk_at dksX0_groups_1 17 rfl rfl)
theorem dX0_groups_42 : decode cX0_groups 42 = .ok (.ifCond .eq 30, 3) := dk_153 0 30 (dk_at dksX0_groups_1 18 rfl rfl)
theorem dX0_groups_45 : decode cX0_groups 45 = .ok (.aload_n 0, 1) := dk_42 (dk_at dksX0_groups_1 21 rfl rfl)
theorem dX0_groups_46 : decode cX0_groups 46 = .ok (.getfield 98, 3) := dk_180 0 98 (dk_at dksX0_groups_2 0 rfl rfl)
theorem dX0_groups_49 : decode cX0_groups 49 = .ok (.iload 4, 2) := dk_21 4 (dk_at dksX0_groups_2 3 rfl rfl)
theorem dX0_groups_51 : decode cX0_groups 51 = .ok (.baload, 1) := dk_51 (dk_at dksX0_groups_2 5 rfl rfl)
theorem dX0_groups_52 : decode cX0_groups 52 = .ok (.ifCond .eq 6, 3) := dk_153 0 6 (dk_at dksX0_groups_2 6 rfl rfl)
theorem dX0_groups_55 : decode cX0_groups 55 = .ok (.goto 17, 3) := dk_167 0 17 (dk_at dksX0_groups_2 9 rfl rfl)
theorem dX0_groups_58 : decode cX0_groups 58 = .ok (.iinc 2 1, 3) := dk_132 2 1 (dk_at dksX0_groups_2 12 rfl rfl)
theorem dX0_groups_61 : decode cX0_groups 61 = .ok (.iload_n 3, 1) := dk_29 (dk_at dksX0_groups_2 15 rfl rfl)
theorem dX0_groups_62 : decode cX0_groups 62 = .ok (.aload_n 0, 1) := dk_42 (dk_at dksX0_groups_2 16 rfl rfl)
theorem dX0_groups_63 : decode cX0_groups 63 = .ok (.iload 4, 2) := dk_21 4 (dk_at dksX0_groups_2 17 rfl rfl)
theorem dX0_groups_65 : decode cX0_groups 65 = .ok (.invokevirtual 220, 3) := dk_182 0 220 (dk_at dksX0_groups_2 19 rfl rfl)
theorem dX0_groups_68 : decode cX0_groups 68 = .ok (.invokestatic 9, 3) := dk_184 0 9 (dk_at dksX0_groups_3 0 rfl rfl)
theorem dX0_groups_71 : decode cX0_groups 71 = .ok (.istore_n 3, 1) := dk_62 (dk_at dksX0_groups_3 3 rfl rfl)
theorem dX0_groups_72 : decode cX0_groups 72 = .ok (.iinc 4 1, 3) := dk_132 4 1 (dk_at dksX0_groups_3 4 rfl rfl)
theorem dX0_groups_75 : decode cX0_groups 75 = .ok (.goto (-47), 3) := dk_167 255 209 (dk_at dksX0_groups_3 7 rfl rfl)
theorem dX0_groups_78 : decode cX0_groups 78 = .ok (.iload_n 1, 1) := dk_27 (dk_at dksX0_groups_3 10 rfl rfl)
theorem dX0_groups_79 : decode cX0_groups 79 = .ok (.ifCond .ne 7, 3) := dk_154 0 7 (dk_at dksX0_groups_3 11 rfl rfl)
theorem dX0_groups_82 : decode cX0_groups 82 = .ok (.iload_n 2, 1) := dk_28 (dk_at dksX0_groups_3 14 rfl rfl)
theorem dX0_groups_83 : decode cX0_groups 83 = .ok (.goto 4, 3) := dk_167 0 4 (dk_at dksX0_groups_3 15 rfl rfl)
theorem dX0_groups_86 : decode cX0_groups 86 = .ok (.iload_n 3, 1) := dk_29 (dk_at dksX0_groups_3 18 rfl rfl)
theorem dX0_groups_87 : decode cX0_groups 87 = .ok (.ireturn, 1) := dk_172 (dk_at dksX0_groups_3 19 rfl rfl)
abbrev cX0_takesSpot : ByteArray := prog_1_method_41_code
def yX0_takesSpot : MethodName := ⟨RX0, "takesSpot", "(I)I"⟩
def dkwX0_takesSpot_4 : List UInt8 := [132, 4, 1, 167, 255, 186, 132, 3, 1, 167, 255, 172, 28, 172]
abbrev dktX0_takesSpot_4 : List UInt8 := dkwX0_takesSpot_4 ++ []
def dkwX0_takesSpot_3 : List UInt8 := [167, 0, 22, 42, 180, 0, 98, 21, 5, 4, 84, 42, 180, 0, 101, 28, 21, 5, 79, 132, 2, 1]
abbrev dktX0_takesSpot_3 : List UInt8 := dkwX0_takesSpot_3 ++ dktX0_takesSpot_4
def dkwX0_takesSpot_2 : List UInt8 := [159, 0, 45, 42, 180, 0, 98, 21, 5, 51, 154, 0, 35, 42, 180, 0, 53, 21, 5, 51, 154, 0, 6]
abbrev dktX0_takesSpot_2 : List UInt8 := dkwX0_takesSpot_2 ++ dktX0_takesSpot_3
def dkwX0_takesSpot_1 : List UInt8 := [54, 4, 21, 4, 7, 162, 0, 70, 42, 180, 0, 101, 29, 46, 21, 4, 184, 0, 217, 54, 5, 21, 5, 2]
abbrev dktX0_takesSpot_1 : List UInt8 := dkwX0_takesSpot_1 ++ dktX0_takesSpot_2
def dkwX0_takesSpot_0 : List UInt8 := [42, 180, 0, 101, 3, 27, 79, 42, 180, 0, 98, 27, 4, 84, 4, 61, 3, 62, 29, 28, 162, 0, 85, 3]
abbrev dktX0_takesSpot_0 : List UInt8 := dkwX0_takesSpot_0 ++ dktX0_takesSpot_1
theorem dksX0_takesSpot_0 : cX0_takesSpot.data.toList.drop 0 = dktX0_takesSpot_0 := by decide +kernel
theorem dksX0_takesSpot_1 : cX0_takesSpot.data.toList.drop 24 = dktX0_takesSpot_1 := dk_seg dksX0_takesSpot_0 24 rfl rfl
theorem dksX0_takesSpot_2 : cX0_takesSpot.data.toList.drop 48 = dktX0_takesSpot_2 := dk_seg dksX0_takesSpot_1 24 rfl rfl
theorem dksX0_takesSpot_3 : cX0_takesSpot.data.toList.drop 71 = dktX0_takesSpot_3 := dk_seg dksX0_takesSpot_2 23 rfl rfl
theorem dksX0_takesSpot_4 : cX0_takesSpot.data.toList.drop 93 = dktX0_takesSpot_4 := dk_seg dksX0_takesSpot_3 22 rfl rfl
theorem dX0_takesSpot_0 : decode cX0_takesSpot 0 = .ok (.aload_n 0, 1) := dk_42 (dk_at dksX0_takesSpot_0 0 rfl rfl)
theorem dX0_takesSpot_1 : decode cX0_takesSpot 1 = .ok (.getfield 101, 3) := dk_180 0 101 (dk_at dksX0_takesSpot_0 1 rfl rfl)
theorem dX0_takesSpot_4 : decode cX0_takesSpot 4 = .ok (.iconst 0, 1) := dk_3 (dk_at dksX0_takesSpot_0 4 rfl rfl)
theorem dX0_takesSpot_5 : decode cX0_takesSpot 5 = .ok (.iload_n 1, 1) := dk_27 (dk_at dksX0_takesSpot_0 5 rfl rfl)
theorem dX0_takesSpot_6 : decode cX0_takesSpot 6 = .ok (.iastore, 1) := dk_79 (dk_at dksX0_takesSpot_0 6 rfl rfl)
theorem dX0_takesSpot_7 : decode cX0_takesSpot 7 = .ok (.aload_n 0, 1) := dk_42 (dk_at dksX0_takesSpot_0 7 rfl rfl)
theorem dX0_takesSpot_8 : decode cX0_takesSpot 8 = .ok (.getfield 98, 3) := dk_180 0 98 (dk_at dksX0_takesSpot_0 8 rfl rfl)
theorem dX0_takesSpot_11 : decode cX0_takesSpot 11 = .ok (.iload_n 1, 1) := dk_27 (dk_at dksX0_takesSpot_0 11 rfl rfl)
theorem dX0_takesSpot_12 : decode cX0_takesSpot 12 = .ok (.iconst 1, 1) := dk_4 (dk_at dksX0_takesSpot_0 12 rfl rfl)
theorem dX0_takesSpot_13 : decode cX0_takesSpot 13 = .ok (.bastore, 1) := dk_84 (dk_at dksX0_takesSpot_0 13 rfl rfl)
theorem dX0_takesSpot_14 : decode cX0_takesSpot 14 = .ok (.iconst 1, 1) := dk_4 (dk_at dksX0_takesSpot_0 14 rfl rfl)
theorem dX0_takesSpot_15 : decode cX0_takesSpot 15 = .ok (.istore_n 2, 1) := dk_61 (dk_at dksX0_takesSpot_0 15 rfl rfl)
theorem dX0_takesSpot_16 : decode cX0_takesSpot 16 = .ok (.iconst 0, 1) := dk_3 (dk_at dksX0_takesSpot_0 16 rfl rfl)
theorem dX0_takesSpot_17 : decode cX0_takesSpot 17 = .ok (.istore_n 3, 1) := dk_62 (dk_at dksX0_takesSpot_0 17 rfl rfl)
theorem dX0_takesSpot_18 : decode cX0_takesSpot 18 = .ok (.iload_n 3, 1) := dk_29 (dk_at dksX0_takesSpot_0 18 rfl rfl)
theorem dX0_takesSpot_19 : decode cX0_takesSpot 19 = .ok (.iload_n 2, 1) := dk_28 (dk_at dksX0_takesSpot_0 19 rfl rfl)
theorem dX0_takesSpot_20 : decode cX0_takesSpot 20 = .ok (.if_icmp .ge 85, 3) := dk_162 0 85 (dk_at dksX0_takesSpot_0 20 rfl rfl)
theorem dX0_takesSpot_23 : decode cX0_takesSpot 23 = .ok (.iconst 0, 1) := dk_3 (dk_at dksX0_takesSpot_0 23 rfl rfl)
theorem dX0_takesSpot_24 : decode cX0_takesSpot 24 = .ok (.istore 4, 2) := dk_54 4 (dk_at dksX0_takesSpot_1 0 rfl rfl)
theorem dX0_takesSpot_26 : decode cX0_takesSpot 26 = .ok (.iload 4, 2) := dk_21 4 (dk_at dksX0_takesSpot_1 2 rfl rfl)
theorem dX0_takesSpot_28 : decode cX0_takesSpot 28 = .ok (.iconst 4, 1) := dk_7 (dk_at dksX0_takesSpot_1 4 rfl rfl)
theorem dX0_takesSpot_29 : decode cX0_takesSpot 29 = .ok (.if_icmp .ge 70, 3) := dk_162 0 70 (dk_at dksX0_takesSpot_1 5 rfl rfl)
theorem dX0_takesSpot_32 : decode cX0_takesSpot 32 = .ok (.aload_n 0, 1) := dk_42 (dk_at dksX0_takesSpot_1 8 rfl rfl)
theorem dX0_takesSpot_33 : decode cX0_takesSpot 33 = .ok (.getfield 101, 3) := dk_180 0 101 (dk_at dksX0_takesSpot_1 9 rfl rfl)
theorem dX0_takesSpot_36 : decode cX0_takesSpot 36 = .ok (.iload_n 3, 1) := dk_29 (dk_at dksX0_takesSpot_1 12 rfl rfl)
theorem dX0_takesSpot_37 : decode cX0_takesSpot 37 = .ok (.iaload, 1) := dk_46 (dk_at dksX0_takesSpot_1 13 rfl rfl)
theorem dX0_takesSpot_38 : decode cX0_takesSpot 38 = .ok (.iload 4, 2) := dk_21 4 (dk_at dksX0_takesSpot_1 14 rfl rfl)
theorem dX0_takesSpot_40 : decode cX0_takesSpot 40 = .ok (.invokestatic 217, 3) := dk_184 0 217 (dk_at dksX0_takesSpot_1 16 rfl rfl)
theorem dX0_takesSpot_43 : decode cX0_takesSpot 43 = .ok (.istore 5, 2) := dk_54 5 (dk_at dksX0_takesSpot_1 19 rfl rfl)
theorem dX0_takesSpot_45 : decode cX0_takesSpot 45 = .ok (.iload 5, 2) := dk_21 5 (dk_at dksX0_takesSpot_1 21 rfl rfl)
theorem dX0_takesSpot_47 : decode cX0_takesSpot 47 = .ok (.iconst (-1), 1) := dk_2 (dk_at dksX0_takesSpot_1 23 rfl rfl)
theorem dX0_takesSpot_48 : decode cX0_takesSpot 48 = .ok (.if_icmp .eq 45, 3) := dk_159 0 45 (dk_at dksX0_takesSpot_2 0 rfl rfl)
theorem dX0_takesSpot_51 : decode cX0_takesSpot 51 = .ok (.aload_n 0, 1) := dk_42 (dk_at dksX0_takesSpot_2 3 rfl rfl)
theorem dX0_takesSpot_52 : decode cX0_takesSpot 52 = .ok (.getfield 98, 3) := dk_180 0 98 (dk_at dksX0_takesSpot_2 4 rfl rfl)
theorem dX0_takesSpot_55 : decode cX0_takesSpot 55 = .ok (.iload 5, 2) := dk_21 5 (dk_at dksX0_takesSpot_2 7 rfl rfl)
theorem dX0_takesSpot_57 : decode cX0_takesSpot 57 = .ok (.baload, 1) := dk_51 (dk_at dksX0_takesSpot_2 9 rfl rfl)
theorem dX0_takesSpot_58 : decode cX0_takesSpot 58 = .ok (.ifCond .ne 35, 3) := dk_154 0 35 (dk_at dksX0_takesSpot_2 10 rfl rfl)
theorem dX0_takesSpot_61 : decode cX0_takesSpot 61 = .ok (.aload_n 0, 1) := dk_42 (dk_at dksX0_takesSpot_2 13 rfl rfl)
theorem dX0_takesSpot_62 : decode cX0_takesSpot 62 = .ok (.getfield 53, 3) := dk_180 0 53 (dk_at dksX0_takesSpot_2 14 rfl rfl)
theorem dX0_takesSpot_65 : decode cX0_takesSpot 65 = .ok (.iload 5, 2) := dk_21 5 (dk_at dksX0_takesSpot_2 17 rfl rfl)
theorem dX0_takesSpot_67 : decode cX0_takesSpot 67 = .ok (.baload, 1) := dk_51 (dk_at dksX0_takesSpot_2 19 rfl rfl)
theorem dX0_takesSpot_68 : decode cX0_takesSpot 68 = .ok (.ifCond .ne 6, 3) := dk_154 0 6 (dk_at dksX0_takesSpot_2 20 rfl rfl)
theorem dX0_takesSpot_71 : decode cX0_takesSpot 71 = .ok (.goto 22, 3) := dk_167 0 22 (dk_at dksX0_takesSpot_3 0 rfl rfl)
theorem dX0_takesSpot_74 : decode cX0_takesSpot 74 = .ok (.aload_n 0, 1) := dk_42 (dk_at dksX0_takesSpot_3 3 rfl rfl)
theorem dX0_takesSpot_75 : decode cX0_takesSpot 75 = .ok (.getfield 98, 3) := dk_180 0 98 (dk_at dksX0_takesSpot_3 4 rfl rfl)
theorem dX0_takesSpot_78 : decode cX0_takesSpot 78 = .ok (.iload 5, 2) := dk_21 5 (dk_at dksX0_takesSpot_3 7 rfl rfl)
theorem dX0_takesSpot_80 : decode cX0_takesSpot 80 = .ok (.iconst 1, 1) := dk_4 (dk_at dksX0_takesSpot_3 9 rfl rfl)
theorem dX0_takesSpot_81 : decode cX0_takesSpot 81 = .ok (.bastore, 1) := dk_84 (dk_at dksX0_takesSpot_3 10 rfl rfl)
theorem dX0_takesSpot_82 : decode cX0_takesSpot 82 = .ok (.aload_n 0, 1) := dk_42 (dk_at dksX0_takesSpot_3 11 rfl rfl)
theorem dX0_takesSpot_83 : decode cX0_takesSpot 83 = .ok (.getfield 101, 3) := dk_180 0 101 (dk_at dksX0_takesSpot_3 12 rfl rfl)
theorem dX0_takesSpot_86 : decode cX0_takesSpot 86 = .ok (.iload_n 2, 1) := dk_28 (dk_at dksX0_takesSpot_3 15 rfl rfl)
theorem dX0_takesSpot_87 : decode cX0_takesSpot 87 = .ok (.iload 5, 2) := dk_21 5 (dk_at dksX0_takesSpot_3 16 rfl rfl)
theorem dX0_takesSpot_89 : decode cX0_takesSpot 89 = .ok (.iastore, 1) := dk_79 (dk_at dksX0_takesSpot_3 18 rfl rfl)
theorem dX0_takesSpot_90 : decode cX0_takesSpot 90 = .ok (.iinc 2 1, 3) := dk_132 2 1 (dk_at dksX0_takesSpot_3 19 rfl rfl)
theorem dX0_takesSpot_93 : decode cX0_takesSpot 93 = .ok (.iinc 4 1, 3) := dk_132 4 1 (dk_at dksX0_takesSpot_4 0 rfl rfl)
theorem dX0_takesSpot_96 : decode cX0_takesSpot 96 = .ok (.goto (-70), 3) := dk_167 255 186 (dk_at dksX0_takesSpot_4 3 rfl rfl)
theorem dX0_takesSpot_99 : decode cX0_takesSpot 99 = .ok (.iinc 3 1, 3) := dk_132 3 1 (dk_at dksX0_takesSpot_4 6 rfl rfl)
theorem dX0_takesSpot_102 : decode cX0_takesSpot 102 = .ok (.goto (-84), 3) := dk_167 255 172 (dk_at dksX0_takesSpot_4 9 rfl rfl)
theorem dX0_takesSpot_105 : decode cX0_takesSpot 105 = .ok (.iload_n 2, 1) := dk_28 (dk_at dksX0_takesSpot_4 12 rfl rfl)
theorem dX0_takesSpot_106 : decode cX0_takesSpot 106 = .ok (.ireturn, 1) := dk_172 (dk_at dksX0_takesSpot_4 13 rfl rfl)
abbrev cX0_beside : ByteArray := prog_1_method_57_code
def yX0_beside : MethodName := ⟨RX0, "beside", "(II)I"⟩
def dkwX0_beside_2 : List UInt8 := [184, 0, 27, 172]
abbrev dktX0_beside_2 : List UInt8 := dkwX0_beside_2 ++ []
def dkwX0_beside_1 : List UInt8 := [16, 8, 108, 27, 5, 160, 0, 7, 2, 167, 0, 13, 27, 6, 160, 0, 7, 4, 167, 0, 4, 3, 96]
abbrev dktX0_beside_1 : List UInt8 := dkwX0_beside_1 ++ dktX0_beside_2
def dkwX0_beside_0 : List UInt8 := [26, 16, 8, 112, 27, 154, 0, 7, 2, 167, 0, 13, 27, 4, 160, 0, 7, 4, 167, 0, 4, 3, 96, 26]
abbrev dktX0_beside_0 : List UInt8 := dkwX0_beside_0 ++ dktX0_beside_1
theorem dksX0_beside_0 : cX0_beside.data.toList.drop 0 = dktX0_beside_0 := by decide +kernel
theorem dksX0_beside_1 : cX0_beside.data.toList.drop 24 = dktX0_beside_1 := dk_seg dksX0_beside_0 24 rfl rfl
theorem dksX0_beside_2 : cX0_beside.data.toList.drop 47 = dktX0_beside_2 := dk_seg dksX0_beside_1 23 rfl rfl
theorem dX0_beside_0 : decode cX0_beside 0 = .ok (.iload_n 0, 1) := dk_26 (dk_at dksX0_beside_0 0 rfl rfl)
theorem dX0_beside_1 : decode cX0_beside 1 = .ok (.bipush 8, 2) := dk_16 8 (dk_at dksX0_beside_0 1 rfl rfl)
theorem dX0_beside_3 : decode cX0_beside 3 = .ok (.irem, 1) := dk_112 (dk_at dksX0_beside_0 3 rfl rfl)
theorem dX0_beside_4 : decode cX0_beside 4 = .ok (.iload_n 1, 1) := dk_27 (dk_at dksX0_beside_0 4 rfl rfl)
theorem dX0_beside_5 : decode cX0_beside 5 = .ok (.ifCond .ne 7, 3) := dk_154 0 7 (dk_at dksX0_beside_0 5 rfl rfl)
theorem dX0_beside_8 : decode cX0_beside 8 = .ok (.iconst (-1), 1) := dk_2 (dk_at dksX0_beside_0 8 rfl rfl)
theorem dX0_beside_9 : decode cX0_beside 9 = .ok (.goto 13, 3) := dk_167 0 13 (dk_at dksX0_beside_0 9 rfl rfl)
theorem dX0_beside_12 : decode cX0_beside 12 = .ok (.iload_n 1, 1) := dk_27 (dk_at dksX0_beside_0 12 rfl rfl)
theorem dX0_beside_13 : decode cX0_beside 13 = .ok (.iconst 1, 1) := dk_4 (dk_at dksX0_beside_0 13 rfl rfl)
theorem dX0_beside_14 : decode cX0_beside 14 = .ok (.if_icmp .ne 7, 3) := dk_160 0 7 (dk_at dksX0_beside_0 14 rfl rfl)
theorem dX0_beside_17 : decode cX0_beside 17 = .ok (.iconst 1, 1) := dk_4 (dk_at dksX0_beside_0 17 rfl rfl)
theorem dX0_beside_18 : decode cX0_beside 18 = .ok (.goto 4, 3) := dk_167 0 4 (dk_at dksX0_beside_0 18 rfl rfl)
theorem dX0_beside_21 : decode cX0_beside 21 = .ok (.iconst 0, 1) := dk_3 (dk_at dksX0_beside_0 21 rfl rfl)
theorem dX0_beside_22 : decode cX0_beside 22 = .ok (.iadd, 1) := dk_96 (dk_at dksX0_beside_0 22 rfl rfl)
theorem dX0_beside_23 : decode cX0_beside 23 = .ok (.iload_n 0, 1) := dk_26 (dk_at dksX0_beside_0 23 rfl rfl)
theorem dX0_beside_24 : decode cX0_beside 24 = .ok (.bipush 8, 2) := dk_16 8 (dk_at dksX0_beside_1 0 rfl rfl)
theorem dX0_beside_26 : decode cX0_beside 26 = .ok (.idiv, 1) := dk_108 (dk_at dksX0_beside_1 2 rfl rfl)
theorem dX0_beside_27 : decode cX0_beside 27 = .ok (.iload_n 1, 1) := dk_27 (dk_at dksX0_beside_1 3 rfl rfl)
theorem dX0_beside_28 : decode cX0_beside 28 = .ok (.iconst 2, 1) := dk_5 (dk_at dksX0_beside_1 4 rfl rfl)
theorem dX0_beside_29 : decode cX0_beside 29 = .ok (.if_icmp .ne 7, 3) := dk_160 0 7 (dk_at dksX0_beside_1 5 rfl rfl)
theorem dX0_beside_32 : decode cX0_beside 32 = .ok (.iconst (-1), 1) := dk_2 (dk_at dksX0_beside_1 8 rfl rfl)
theorem dX0_beside_33 : decode cX0_beside 33 = .ok (.goto 13, 3) := dk_167 0 13 (dk_at dksX0_beside_1 9 rfl rfl)
theorem dX0_beside_36 : decode cX0_beside 36 = .ok (.iload_n 1, 1) := dk_27 (dk_at dksX0_beside_1 12 rfl rfl)
theorem dX0_beside_37 : decode cX0_beside 37 = .ok (.iconst 3, 1) := dk_6 (dk_at dksX0_beside_1 13 rfl rfl)
theorem dX0_beside_38 : decode cX0_beside 38 = .ok (.if_icmp .ne 7, 3) := dk_160 0 7 (dk_at dksX0_beside_1 14 rfl rfl)
theorem dX0_beside_41 : decode cX0_beside 41 = .ok (.iconst 1, 1) := dk_4 (dk_at dksX0_beside_1 17 rfl rfl)
theorem dX0_beside_42 : decode cX0_beside 42 = .ok (.goto 4, 3) := dk_167 0 4 (dk_at dksX0_beside_1 18 rfl rfl)
theorem dX0_beside_45 : decode cX0_beside 45 = .ok (.iconst 0, 1) := dk_3 (dk_at dksX0_beside_1 21 rfl rfl)
theorem dX0_beside_46 : decode cX0_beside 46 = .ok (.iadd, 1) := dk_96 (dk_at dksX0_beside_1 22 rfl rfl)
theorem dX0_beside_47 : decode cX0_beside 47 = .ok (.invokestatic 27, 3) := dk_184 0 27 (dk_at dksX0_beside_2 0 rfl rfl)
theorem dX0_beside_50 : decode cX0_beside 50 = .ok (.ireturn, 1) := dk_172 (dk_at dksX0_beside_2 3 rfl rfl)
abbrev cX0_figure : ByteArray := prog_1_method_47_code
def yX0_figure : MethodName := ⟨RX0, "figure", "()I"⟩
def dkwX0_figure_3 : List UInt8 := [28, 184, 0, 236, 172]
abbrev dktX0_figure_3 : List UInt8 := dkwX0_figure_3 ++ []
def dkwX0_figure_2 : List UInt8 := [182, 0, 233, 54, 5, 28, 27, 29, 21, 5, 184, 0, 226, 96, 61, 21, 5, 62, 132, 4, 1, 167, 255, 216]
abbrev dktX0_figure_2 : List UInt8 := dkwX0_figure_2 ++ dktX0_figure_3
def dkwX0_figure_1 : List UInt8 := [62, 3, 54, 4, 21, 4, 16, 48, 162, 0, 39, 21, 4, 153, 0, 8, 29, 27, 159, 0, 29, 42, 29]
abbrev dktX0_figure_1 : List UInt8 := dkwX0_figure_1 ++ dktX0_figure_2
def dkwX0_figure_0 : List UInt8 := [42, 180, 0, 65, 16, 31, 3, 182, 0, 180, 6, 162, 0, 5, 3, 172, 42, 182, 0, 183, 60, 3, 61, 27]
abbrev dktX0_figure_0 : List UInt8 := dkwX0_figure_0 ++ dktX0_figure_1
theorem dksX0_figure_0 : cX0_figure.data.toList.drop 0 = dktX0_figure_0 := by decide +kernel
theorem dksX0_figure_1 : cX0_figure.data.toList.drop 24 = dktX0_figure_1 := dk_seg dksX0_figure_0 24 rfl rfl
theorem dksX0_figure_2 : cX0_figure.data.toList.drop 47 = dktX0_figure_2 := dk_seg dksX0_figure_1 23 rfl rfl
theorem dksX0_figure_3 : cX0_figure.data.toList.drop 71 = dktX0_figure_3 := dk_seg dksX0_figure_2 24 rfl rfl
theorem dX0_figure_0 : decode cX0_figure 0 = .ok (.aload_n 0, 1) := dk_42 (dk_at dksX0_figure_0 0 rfl rfl)
theorem dX0_figure_1 : decode cX0_figure 1 = .ok (.getfield 65, 3) := dk_180 0 65 (dk_at dksX0_figure_0 1 rfl rfl)
theorem dX0_figure_4 : decode cX0_figure 4 = .ok (.bipush 31, 2) := dk_16 31 (dk_at dksX0_figure_0 4 rfl rfl)
theorem dX0_figure_6 : decode cX0_figure 6 = .ok (.iconst 0, 1) := dk_3 (dk_at dksX0_figure_0 6 rfl rfl)
theorem dX0_figure_7 : decode cX0_figure 7 = .ok (.invokevirtual 180, 3) := dk_182 0 180 (dk_at dksX0_figure_0 7 rfl rfl)
theorem dX0_figure_10 : decode cX0_figure 10 = .ok (.iconst 3, 1) := dk_6 (dk_at dksX0_figure_0 10 rfl rfl)
theorem dX0_figure_11 : decode cX0_figure 11 = .ok (.if_icmp .ge 5, 3) := dk_162 0 5 (dk_at dksX0_figure_0 11 rfl rfl)
theorem dX0_figure_14 : decode cX0_figure 14 = .ok (.iconst 0, 1) := dk_3 (dk_at dksX0_figure_0 14 rfl rfl)
theorem dX0_figure_15 : decode cX0_figure 15 = .ok (.ireturn, 1) := dk_172 (dk_at dksX0_figure_0 15 rfl rfl)
theorem dX0_figure_16 : decode cX0_figure 16 = .ok (.aload_n 0, 1) := dk_42 (dk_at dksX0_figure_0 16 rfl rfl)
theorem dX0_figure_17 : decode cX0_figure 17 = .ok (.invokevirtual 183, 3) := dk_182 0 183 (dk_at dksX0_figure_0 17 rfl rfl)
theorem dX0_figure_20 : decode cX0_figure 20 = .ok (.istore_n 1, 1) := dk_60 (dk_at dksX0_figure_0 20 rfl rfl)
theorem dX0_figure_21 : decode cX0_figure 21 = .ok (.iconst 0, 1) := dk_3 (dk_at dksX0_figure_0 21 rfl rfl)
theorem dX0_figure_22 : decode cX0_figure 22 = .ok (.istore_n 2, 1) := dk_61 (dk_at dksX0_figure_0 22 rfl rfl)
theorem dX0_figure_23 : decode cX0_figure 23 = .ok (.iload_n 1, 1) := dk_27 (dk_at dksX0_figure_0 23 rfl rfl)
theorem dX0_figure_24 : decode cX0_figure 24 = .ok (.istore_n 3, 1) := dk_62 (dk_at dksX0_figure_1 0 rfl rfl)
theorem dX0_figure_25 : decode cX0_figure 25 = .ok (.iconst 0, 1) := dk_3 (dk_at dksX0_figure_1 1 rfl rfl)
theorem dX0_figure_26 : decode cX0_figure 26 = .ok (.istore 4, 2) := dk_54 4 (dk_at dksX0_figure_1 2 rfl rfl)
theorem dX0_figure_28 : decode cX0_figure 28 = .ok (.iload 4, 2) := dk_21 4 (dk_at dksX0_figure_1 4 rfl rfl)
theorem dX0_figure_30 : decode cX0_figure 30 = .ok (.bipush 48, 2) := dk_16 48 (dk_at dksX0_figure_1 6 rfl rfl)
theorem dX0_figure_32 : decode cX0_figure 32 = .ok (.if_icmp .ge 39, 3) := dk_162 0 39 (dk_at dksX0_figure_1 8 rfl rfl)
theorem dX0_figure_35 : decode cX0_figure 35 = .ok (.iload 4, 2) := dk_21 4 (dk_at dksX0_figure_1 11 rfl rfl)
theorem dX0_figure_37 : decode cX0_figure 37 = .ok (.ifCond .eq 8, 3) := dk_153 0 8 (dk_at dksX0_figure_1 13 rfl rfl)
theorem dX0_figure_40 : decode cX0_figure 40 = .ok (.iload_n 3, 1) := dk_29 (dk_at dksX0_figure_1 16 rfl rfl)
theorem dX0_figure_41 : decode cX0_figure 41 = .ok (.iload_n 1, 1) := dk_27 (dk_at dksX0_figure_1 17 rfl rfl)
theorem dX0_figure_42 : decode cX0_figure 42 = .ok (.if_icmp .eq 29, 3) := dk_159 0 29 (dk_at dksX0_figure_1 18 rfl rfl)
theorem dX0_figure_45 : decode cX0_figure 45 = .ok (.aload_n 0, 1) := dk_42 (dk_at dksX0_figure_1 21 rfl rfl)
theorem dX0_figure_46 : decode cX0_figure 46 = .ok (.iload_n 3, 1) := dk_29 (dk_at dksX0_figure_1 22 rfl rfl)
theorem dX0_figure_47 : decode cX0_figure 47 = .ok (.invokevirtual 233, 3) := dk_182 0 233 (dk_at dksX0_figure_2 0 rfl rfl)
theorem dX0_figure_50 : decode cX0_figure 50 = .ok (.istore 5, 2) := dk_54 5 (dk_at dksX0_figure_2 3 rfl rfl)
theorem dX0_figure_52 : decode cX0_figure 52 = .ok (.iload_n 2, 1) := dk_28 (dk_at dksX0_figure_2 5 rfl rfl)
theorem dX0_figure_53 : decode cX0_figure 53 = .ok (.iload_n 1, 1) := dk_27 (dk_at dksX0_figure_2 6 rfl rfl)
theorem dX0_figure_54 : decode cX0_figure 54 = .ok (.iload_n 3, 1) := dk_29 (dk_at dksX0_figure_2 7 rfl rfl)
theorem dX0_figure_55 : decode cX0_figure 55 = .ok (.iload 5, 2) := dk_21 5 (dk_at dksX0_figure_2 8 rfl rfl)
theorem dX0_figure_57 : decode cX0_figure 57 = .ok (.invokestatic 226, 3) := dk_184 0 226 (dk_at dksX0_figure_2 10 rfl rfl)
theorem dX0_figure_60 : decode cX0_figure 60 = .ok (.iadd, 1) := dk_96 (dk_at dksX0_figure_2 13 rfl rfl)
theorem dX0_figure_61 : decode cX0_figure 61 = .ok (.istore_n 2, 1) := dk_61 (dk_at dksX0_figure_2 14 rfl rfl)
theorem dX0_figure_62 : decode cX0_figure 62 = .ok (.iload 5, 2) := dk_21 5 (dk_at dksX0_figure_2 15 rfl rfl)
theorem dX0_figure_64 : decode cX0_figure 64 = .ok (.istore_n 3, 1) := dk_62 (dk_at dksX0_figure_2 17 rfl rfl)
theorem dX0_figure_65 : decode cX0_figure 65 = .ok (.iinc 4 1, 3) := dk_132 4 1 (dk_at dksX0_figure_2 18 rfl rfl)
theorem dX0_figure_68 : decode cX0_figure 68 = .ok (.goto (-40), 3) := dk_167 255 216 (dk_at dksX0_figure_2 21 rfl rfl)
theorem dX0_figure_71 : decode cX0_figure 71 = .ok (.iload_n 2, 1) := dk_28 (dk_at dksX0_figure_3 0 rfl rfl)
theorem dX0_figure_72 : decode cX0_figure 72 = .ok (.invokestatic 236, 3) := dk_184 0 236 (dk_at dksX0_figure_3 1 rfl rfl)
theorem dX0_figure_75 : decode cX0_figure 75 = .ok (.ireturn, 1) := dk_172 (dk_at dksX0_figure_3 4 rfl rfl)
abbrev cX0_nextCorner : ByteArray := prog_1_method_45_code
def yX0_nextCorner : MethodName := ⟨RX0, "nextCorner", "(I)I"⟩
def dkwX0_nextCorner_3 : List UInt8 := [132, 3, 1, 167, 255, 188, 28, 172]
abbrev dktX0_nextCorner_3 : List UInt8 := dkwX0_nextCorner_3 ++ []
def dkwX0_nextCorner_2 : List UInt8 := [155, 0, 21, 21, 4, 154, 0, 18, 27, 29, 184, 0, 230, 27, 28, 184, 0, 230, 164, 0, 5, 29, 61]
abbrev dktX0_nextCorner_2 : List UInt8 := dkwX0_nextCorner_2 ++ dktX0_nextCorner_3
def dkwX0_nextCorner_1 : List UInt8 := [167, 0, 45, 28, 2, 160, 0, 7, 2, 167, 0, 9, 27, 28, 29, 184, 0, 226, 54, 4, 21, 4]
abbrev dktX0_nextCorner_1 : List UInt8 := dkwX0_nextCorner_1 ++ dktX0_nextCorner_2
def dkwX0_nextCorner_0 : List UInt8 := [2, 61, 3, 62, 29, 16, 48, 162, 0, 68, 42, 180, 0, 53, 29, 51, 153, 0, 53, 29, 27, 160, 0, 6]
abbrev dktX0_nextCorner_0 : List UInt8 := dkwX0_nextCorner_0 ++ dktX0_nextCorner_1
theorem dksX0_nextCorner_0 : cX0_nextCorner.data.toList.drop 0 = dktX0_nextCorner_0 := by decide +kernel
theorem dksX0_nextCorner_1 : cX0_nextCorner.data.toList.drop 24 = dktX0_nextCorner_1 := dk_seg dksX0_nextCorner_0 24 rfl rfl
theorem dksX0_nextCorner_2 : cX0_nextCorner.data.toList.drop 46 = dktX0_nextCorner_2 := dk_seg dksX0_nextCorner_1 22 rfl rfl
theorem dksX0_nextCorner_3 : cX0_nextCorner.data.toList.drop 69 = dktX0_nextCorner_3 := dk_seg dksX0_nextCorner_2 23 rfl rfl
theorem dX0_nextCorner_0 : decode cX0_nextCorner 0 = .ok (.iconst (-1), 1) := dk_2 (dk_at dksX0_nextCorner_0 0 rfl rfl)
theorem dX0_nextCorner_1 : decode cX0_nextCorner 1 = .ok (.istore_n 2, 1) := dk_61 (dk_at dksX0_nextCorner_0 1 rfl rfl)
theorem dX0_nextCorner_2 : decode cX0_nextCorner 2 = .ok (.iconst 0, 1) := dk_3 (dk_at dksX0_nextCorner_0 2 rfl rfl)
theorem dX0_nextCorner_3 : decode cX0_nextCorner 3 = .ok (.istore_n 3, 1) := dk_62 (dk_at dksX0_nextCorner_0 3 rfl rfl)
theorem dX0_nextCorner_4 : decode cX0_nextCorner 4 = .ok (.iload_n 3, 1) := dk_29 (dk_at dksX0_nextCorner_0 4 rfl rfl)
theorem dX0_nextCorner_5 : decode cX0_nextCorner 5 = .ok (.bipush 48, 2) := dk_16 48 (dk_at dksX0_nextCorner_0 5 rfl rfl)
theorem dX0_nextCorner_7 : decode cX0_nextCorner 7 = .ok (.if_icmp .ge 68, 3) := dk_162 0 68 (dk_at dksX0_nextCorner_0 7 rfl rfl)
theorem dX0_nextCorner_10 : decode cX0_nextCorner 10 = .ok (.aload_n 0, 1) := dk_42 (dk_at dksX0_nextCorner_0 10 rfl rfl)
theorem dX0_nextCorner_11 : decode cX0_nextCorner 11 = .ok (.getfield 53, 3) := dk_180 0 53 (dk_at dksX0_nextCorner_0 11 rfl rfl)
theorem dX0_nextCorner_14 : decode cX0_nextCorner 14 = .ok (.iload_n 3, 1) := dk_29 (dk_at dksX0_nextCorner_0 14 rfl rfl)
theorem dX0_nextCorner_15 : decode cX0_nextCorner 15 = .ok (.baload, 1) := dk_51 (dk_at dksX0_nextCorner_0 15 rfl rfl)
theorem dX0_nextCorner_16 : decode cX0_nextCorner 16 = .ok (.ifCond .eq 53, 3) := dk_153 0 53 (dk_at dksX0_nextCorner_0 16 rfl rfl)
theorem dX0_nextCorner_19 : decode cX0_nextCorner 19 = .ok (.iload_n 3, 1) := dk_29 (dk_at dksX0_nextCorner_0 19 rfl rfl)
theorem dX0_nextCorner_20 : decode cX0_nextCorner 20 = .ok (.iload_n 1, 1) := dk_27 (dk_at dksX0_nextCorner_0 20 rfl rfl)
theorem dX0_nextCorner_21 : decode cX0_nextCorner 21 = .ok (.if_icmp .ne 6, 3) := dk_160 0 6 (dk_at dksX0_nextCorner_0 21 rfl rfl)
theorem dX0_nextCorner_24 : decode cX0_nextCorner 24 = .ok (.goto 45, 3) := dk_167 0 45 (dk_at dksX0_nextCorner_1 0 rfl rfl)
theorem dX0_nextCorner_27 : decode cX0_nextCorner 27 = .ok (.iload_n 2, 1) := dk_28 (dk_at dksX0_nextCorner_1 3 rfl rfl)
theorem dX0_nextCorner_28 : decode cX0_nextCorner 28 = .ok (.iconst (-1), 1) := dk_2 (dk_at dksX0_nextCorner_1 4 rfl rfl)
theorem dX0_nextCorner_29 : decode cX0_nextCorner 29 = .ok (.if_icmp .ne 7, 3) := dk_160 0 7 (dk_at dksX0_nextCorner_1 5 rfl rfl)
theorem dX0_nextCorner_32 : decode cX0_nextCorner 32 = .ok (.iconst (-1), 1) := dk_2 (dk_at dksX0_nextCorner_1 8 rfl rfl)
theorem dX0_nextCorner_33 : decode cX0_nextCorner 33 = .ok (.goto 9, 3) := dk_167 0 9 (dk_at dksX0_nextCorner_1 9 rfl rfl)
theorem dX0_nextCorner_36 : decode cX0_nextCorner 36 = .ok (.iload_n 1, 1) := dk_27 (dk_at dksX0_nextCorner_1 12 rfl rfl)
theorem dX0_nextCorner_37 : decode cX0_nextCorner 37 = .ok (.iload_n 2, 1) := dk_28 (dk_at dksX0_nextCorner_1 13 rfl rfl)
theorem dX0_nextCorner_38 : decode cX0_nextCorner 38 = .ok (.iload_n 3, 1) := dk_29 (dk_at dksX0_nextCorner_1 14 rfl rfl)
theorem dX0_nextCorner_39 : decode cX0_nextCorner 39 = .ok (.invokestatic 226, 3) := dk_184 0 226 (dk_at dksX0_nextCorner_1 15 rfl rfl)
theorem dX0_nextCorner_42 : decode cX0_nextCorner 42 = .ok (.istore 4, 2) := dk_54 4 (dk_at dksX0_nextCorner_1 18 rfl rfl)
theorem dX0_nextCorner_44 : decode cX0_nextCorner 44 = .ok (.iload 4, 2) := dk_21 4 (dk_at dksX0_nextCorner_1 20 rfl rfl)
theorem dX0_nextCorner_46 : decode cX0_nextCorner 46 = .ok (.ifCond .lt 21, 3) := dk_155 0 21 (dk_at dksX0_nextCorner_2 0 rfl rfl)
theorem dX0_nextCorner_49 : decode cX0_nextCorner 49 = .ok (.iload 4, 2) := dk_21 4 (dk_at dksX0_nextCorner_2 3 rfl rfl)
theorem dX0_nextCorner_51 : decode cX0_nextCorner 51 = .ok (.ifCond .ne 18, 3) := dk_154 0 18 (dk_at dksX0_nextCorner_2 5 rfl rfl)
theorem dX0_nextCorner_54 : decode cX0_nextCorner 54 = .ok (.iload_n 1, 1) := dk_27 (dk_at dksX0_nextCorner_2 8 rfl rfl)
theorem dX0_nextCorner_55 : decode cX0_nextCorner 55 = .ok (.iload_n 3, 1) := dk_29 (dk_at dksX0_nextCorner_2 9 rfl rfl)
theorem dX0_nextCorner_56 : decode cX0_nextCorner 56 = .ok (.invokestatic 230, 3) := dk_184 0 230 (dk_at dksX0_nextCorner_2 10 rfl rfl)
theorem dX0_nextCorner_59 : decode cX0_nextCorner 59 = .ok (.iload_n 1, 1) := dk_27 (dk_at dksX0_nextCorner_2 13 rfl rfl)
theorem dX0_nextCorner_60 : decode cX0_nextCorner 60 = .ok (.iload_n 2, 1) := dk_28 (dk_at dksX0_nextCorner_2 14 rfl rfl)
theorem dX0_nextCorner_61 : decode cX0_nextCorner 61 = .ok (.invokestatic 230, 3) := dk_184 0 230 (dk_at dksX0_nextCorner_2 15 rfl rfl)
theorem dX0_nextCorner_64 : decode cX0_nextCorner 64 = .ok (.if_icmp .le 5, 3) := dk_164 0 5 (dk_at dksX0_nextCorner_2 18 rfl rfl)
theorem dX0_nextCorner_67 : decode cX0_nextCorner 67 = .ok (.iload_n 3, 1) := dk_29 (dk_at dksX0_nextCorner_2 21 rfl rfl)
theorem dX0_nextCorner_68 : decode cX0_nextCorner 68 = .ok (.istore_n 2, 1) := dk_61 (dk_at dksX0_nextCorner_2 22 rfl rfl)
theorem dX0_nextCorner_69 : decode cX0_nextCorner 69 = .ok (.iinc 3 1, 3) := dk_132 3 1 (dk_at dksX0_nextCorner_3 0 rfl rfl)
theorem dX0_nextCorner_72 : decode cX0_nextCorner 72 = .ok (.goto (-68), 3) := dk_167 255 188 (dk_at dksX0_nextCorner_3 3 rfl rfl)
theorem dX0_nextCorner_75 : decode cX0_nextCorner 75 = .ok (.iload_n 2, 1) := dk_28 (dk_at dksX0_nextCorner_3 6 rfl rfl)
theorem dX0_nextCorner_76 : decode cX0_nextCorner 76 = .ok (.ireturn, 1) := dk_172 (dk_at dksX0_nextCorner_3 7 rfl rfl)
abbrev cX0_turn : ByteArray := prog_1_method_44_code
def yX0_turn : MethodName := ⟨RX0, "turn", "(III)I"⟩
def dkwX0_turn_1 : List UInt8 := [16, 8, 108, 100, 28, 16, 8, 112, 26, 16, 8, 112, 100, 104, 100, 172]
abbrev dktX0_turn_1 : List UInt8 := dkwX0_turn_1 ++ []
def dkwX0_turn_0 : List UInt8 := [27, 16, 8, 112, 26, 16, 8, 112, 100, 28, 16, 8, 108, 26, 16, 8, 108, 100, 104, 27, 16, 8, 108, 26]
abbrev dktX0_turn_0 : List UInt8 := dkwX0_turn_0 ++ dktX0_turn_1
theorem dksX0_turn_0 : cX0_turn.data.toList.drop 0 = dktX0_turn_0 := by decide +kernel
theorem dksX0_turn_1 : cX0_turn.data.toList.drop 24 = dktX0_turn_1 := dk_seg dksX0_turn_0 24 rfl rfl
theorem dX0_turn_0 : decode cX0_turn 0 = .ok (.iload_n 1, 1) := dk_27 (dk_at dksX0_turn_0 0 rfl rfl)
theorem dX0_turn_1 : decode cX0_turn 1 = .ok (.bipush 8, 2) := dk_16 8 (dk_at dksX0_turn_0 1 rfl rfl)
theorem dX0_turn_3 : decode cX0_turn 3 = .ok (.irem, 1) := dk_112 (dk_at dksX0_turn_0 3 rfl rfl)
theorem dX0_turn_4 : decode cX0_turn 4 = .ok (.iload_n 0, 1) := dk_26 (dk_at dksX0_turn_0 4 rfl rfl)
theorem dX0_turn_5 : decode cX0_turn 5 = .ok (.bipush 8, 2) := dk_16 8 (dk_at dksX0_turn_0 5 rfl rfl)
theorem dX0_turn_7 : decode cX0_turn 7 = .ok (.irem, 1) := dk_112 (dk_at dksX0_turn_0 7 rfl rfl)
theorem dX0_turn_8 : decode cX0_turn 8 = .ok (.isub, 1) := dk_100 (dk_at dksX0_turn_0 8 rfl rfl)
theorem dX0_turn_9 : decode cX0_turn 9 = .ok (.iload_n 2, 1) := dk_28 (dk_at dksX0_turn_0 9 rfl rfl)
theorem dX0_turn_10 : decode cX0_turn 10 = .ok (.bipush 8, 2) := dk_16 8 (dk_at dksX0_turn_0 10 rfl rfl)
theorem dX0_turn_12 : decode cX0_turn 12 = .ok (.idiv, 1) := dk_108 (dk_at dksX0_turn_0 12 rfl rfl)
theorem dX0_turn_13 : decode cX0_turn 13 = .ok (.iload_n 0, 1) := dk_26 (dk_at dksX0_turn_0 13 rfl rfl)
theorem dX0_turn_14 : decode cX0_turn 14 = .ok (.bipush 8, 2) := dk_16 8 (dk_at dksX0_turn_0 14 rfl rfl)
theorem dX0_turn_16 : decode cX0_turn 16 = .ok (.idiv, 1) := dk_108 (dk_at dksX0_turn_0 16 rfl rfl)
theorem dX0_turn_17 : decode cX0_turn 17 = .ok (.isub, 1) := dk_100 (dk_at dksX0_turn_0 17 rfl rfl)
theorem dX0_turn_18 : decode cX0_turn 18 = .ok (.imul, 1) := dk_104 (dk_at dksX0_turn_0 18 rfl rfl)
theorem dX0_turn_19 : decode cX0_turn 19 = .ok (.iload_n 1, 1) := dk_27 (dk_at dksX0_turn_0 19 rfl rfl)
theorem dX0_turn_20 : decode cX0_turn 20 = .ok (.bipush 8, 2) := dk_16 8 (dk_at dksX0_turn_0 20 rfl rfl)
theorem dX0_turn_22 : decode cX0_turn 22 = .ok (.idiv, 1) := dk_108 (dk_at dksX0_turn_0 22 rfl rfl)
theorem dX0_turn_23 : decode cX0_turn 23 = .ok (.iload_n 0, 1) := dk_26 (dk_at dksX0_turn_0 23 rfl rfl)
theorem dX0_turn_24 : decode cX0_turn 24 = .ok (.bipush 8, 2) := dk_16 8 (dk_at dksX0_turn_1 0 rfl rfl)
theorem dX0_turn_26 : decode cX0_turn 26 = .ok (.idiv, 1) := dk_108 (dk_at dksX0_turn_1 2 rfl rfl)
theorem dX0_turn_27 : decode cX0_turn 27 = .ok (.isub, 1) := dk_100 (dk_at dksX0_turn_1 3 rfl rfl)
theorem dX0_turn_28 : decode cX0_turn 28 = .ok (.iload_n 2, 1) := dk_28 (dk_at dksX0_turn_1 4 rfl rfl)
theorem dX0_turn_29 : decode cX0_turn 29 = .ok (.bipush 8, 2) := dk_16 8 (dk_at dksX0_turn_1 5 rfl rfl)
theorem dX0_turn_31 : decode cX0_turn 31 = .ok (.irem, 1) := dk_112 (dk_at dksX0_turn_1 7 rfl rfl)
theorem dX0_turn_32 : decode cX0_turn 32 = .ok (.iload_n 0, 1) := dk_26 (dk_at dksX0_turn_1 8 rfl rfl)
theorem dX0_turn_33 : decode cX0_turn 33 = .ok (.bipush 8, 2) := dk_16 8 (dk_at dksX0_turn_1 9 rfl rfl)
theorem dX0_turn_35 : decode cX0_turn 35 = .ok (.irem, 1) := dk_112 (dk_at dksX0_turn_1 11 rfl rfl)
theorem dX0_turn_36 : decode cX0_turn 36 = .ok (.isub, 1) := dk_100 (dk_at dksX0_turn_1 12 rfl rfl)
theorem dX0_turn_37 : decode cX0_turn 37 = .ok (.imul, 1) := dk_104 (dk_at dksX0_turn_1 13 rfl rfl)
theorem dX0_turn_38 : decode cX0_turn 38 = .ok (.isub, 1) := dk_100 (dk_at dksX0_turn_1 14 rfl rfl)
theorem dX0_turn_39 : decode cX0_turn 39 = .ok (.ireturn, 1) := dk_172 (dk_at dksX0_turn_1 15 rfl rfl)
abbrev cX0_farOff : ByteArray := prog_1_method_46_code
def yX0_farOff : MethodName := ⟨RX0, "farOff", "(II)I"⟩
def dkwX0_farOff_1 : List UInt8 := [16, 8, 108, 100, 26, 16, 8, 108, 27, 16, 8, 108, 100, 104, 96, 172]
abbrev dktX0_farOff_1 : List UInt8 := dkwX0_farOff_1 ++ []
def dkwX0_farOff_0 : List UInt8 := [26, 16, 8, 112, 27, 16, 8, 112, 100, 26, 16, 8, 112, 27, 16, 8, 112, 100, 104, 26, 16, 8, 108, 27]
abbrev dktX0_farOff_0 : List UInt8 := dkwX0_farOff_0 ++ dktX0_farOff_1
theorem dksX0_farOff_0 : cX0_farOff.data.toList.drop 0 = dktX0_farOff_0 := by decide +kernel
theorem dksX0_farOff_1 : cX0_farOff.data.toList.drop 24 = dktX0_farOff_1 := dk_seg dksX0_farOff_0 24 rfl rfl
theorem dX0_farOff_0 : decode cX0_farOff 0 = .ok (.iload_n 0, 1) := dk_26 (dk_at dksX0_farOff_0 0 rfl rfl)
theorem dX0_farOff_1 : decode cX0_farOff 1 = .ok (.bipush 8, 2) := dk_16 8 (dk_at dksX0_farOff_0 1 rfl rfl)
theorem dX0_farOff_3 : decode cX0_farOff 3 = .ok (.irem, 1) := dk_112 (dk_at dksX0_farOff_0 3 rfl rfl)
theorem dX0_farOff_4 : decode cX0_farOff 4 = .ok (.iload_n 1, 1) := dk_27 (dk_at dksX0_farOff_0 4 rfl rfl)
theorem dX0_farOff_5 : decode cX0_farOff 5 = .ok (.bipush 8, 2) := dk_16 8 (dk_at dksX0_farOff_0 5 rfl rfl)
theorem dX0_farOff_7 : decode cX0_farOff 7 = .ok (.irem, 1) := dk_112 (dk_at dksX0_farOff_0 7 rfl rfl)
theorem dX0_farOff_8 : decode cX0_farOff 8 = .ok (.isub, 1) := dk_100 (dk_at dksX0_farOff_0 8 rfl rfl)
theorem dX0_farOff_9 : decode cX0_farOff 9 = .ok (.iload_n 0, 1) := dk_26 (dk_at dksX0_farOff_0 9 rfl rfl)
theorem dX0_farOff_10 : decode cX0_farOff 10 = .ok (.bipush 8, 2) := dk_16 8 (dk_at dksX0_farOff_0 10 rfl rfl)
theorem dX0_farOff_12 : decode cX0_farOff 12 = .ok (.irem, 1) := dk_112 (dk_at dksX0_farOff_0 12 rfl rfl)
theorem dX0_farOff_13 : decode cX0_farOff 13 = .ok (.iload_n 1, 1) := dk_27 (dk_at dksX0_farOff_0 13 rfl rfl)
theorem dX0_farOff_14 : decode cX0_farOff 14 = .ok (.bipush 8, 2) := dk_16 8 (dk_at dksX0_farOff_0 14 rfl rfl)
theorem dX0_farOff_16 : decode cX0_farOff 16 = .ok (.irem, 1) := dk_112 (dk_at dksX0_farOff_0 16 rfl rfl)
theorem dX0_farOff_17 : decode cX0_farOff 17 = .ok (.isub, 1) := dk_100 (dk_at dksX0_farOff_0 17 rfl rfl)
theorem dX0_farOff_18 : decode cX0_farOff 18 = .ok (.imul, 1) := dk_104 (dk_at dksX0_farOff_0 18 rfl rfl)
theorem dX0_farOff_19 : decode cX0_farOff 19 = .ok (.iload_n 0, 1) := dk_26 (dk_at dksX0_farOff_0 19 rfl rfl)
theorem dX0_farOff_20 : decode cX0_farOff 20 = .ok (.bipush 8, 2) := dk_16 8 (dk_at dksX0_farOff_0 20 rfl rfl)
theorem dX0_farOff_22 : decode cX0_farOff 22 = .ok (.idiv, 1) := dk_108 (dk_at dksX0_farOff_0 22 rfl rfl)
theorem dX0_farOff_23 : decode cX0_farOff 23 = .ok (.iload_n 1, 1) := dk_27 (dk_at dksX0_farOff_0 23 rfl rfl)
theorem dX0_farOff_24 : decode cX0_farOff 24 = .ok (.bipush 8, 2) := dk_16 8 (dk_at dksX0_farOff_1 0 rfl rfl)
theorem dX0_farOff_26 : decode cX0_farOff 26 = .ok (.idiv, 1) := dk_108 (dk_at dksX0_farOff_1 2 rfl rfl)
theorem dX0_farOff_27 : decode cX0_farOff 27 = .ok (.isub, 1) := dk_100 (dk_at dksX0_farOff_1 3 rfl rfl)
theorem dX0_farOff_28 : decode cX0_farOff 28 = .ok (.iload_n 0, 1) := dk_26 (dk_at dksX0_farOff_1 4 rfl rfl)
theorem dX0_farOff_29 : decode cX0_farOff 29 = .ok (.bipush 8, 2) := dk_16 8 (dk_at dksX0_farOff_1 5 rfl rfl)
theorem dX0_farOff_31 : decode cX0_farOff 31 = .ok (.idiv, 1) := dk_108 (dk_at dksX0_farOff_1 7 rfl rfl)
theorem dX0_farOff_32 : decode cX0_farOff 32 = .ok (.iload_n 1, 1) := dk_27 (dk_at dksX0_farOff_1 8 rfl rfl)
theorem dX0_farOff_33 : decode cX0_farOff 33 = .ok (.bipush 8, 2) := dk_16 8 (dk_at dksX0_farOff_1 9 rfl rfl)
theorem dX0_farOff_35 : decode cX0_farOff 35 = .ok (.idiv, 1) := dk_108 (dk_at dksX0_farOff_1 11 rfl rfl)
theorem dX0_farOff_36 : decode cX0_farOff 36 = .ok (.isub, 1) := dk_100 (dk_at dksX0_farOff_1 12 rfl rfl)
theorem dX0_farOff_37 : decode cX0_farOff 37 = .ok (.imul, 1) := dk_104 (dk_at dksX0_farOff_1 13 rfl rfl)
theorem dX0_farOff_38 : decode cX0_farOff 38 = .ok (.iadd, 1) := dk_96 (dk_at dksX0_farOff_1 14 rfl rfl)
theorem dX0_farOff_39 : decode cX0_farOff 39 = .ok (.ireturn, 1) := dk_172 (dk_at dksX0_farOff_1 15 rfl rfl)
abbrev cX0_tripods : ByteArray := prog_1_method_50_code
def yX0_tripods : MethodName := ⟨RX0, "tripods", "()I"⟩
def dkwX0_tripods_4 : List UInt8 := [167, 255, 187, 132, 2, 1, 167, 255, 173, 27, 172]
abbrev dktX0_tripods_4 : List UInt8 := dkwX0_tripods_4 ++ []
def dkwX0_tripods_3 : List UInt8 := [184, 0, 242, 153, 0, 7, 4, 167, 0, 4, 3, 96, 60, 132, 4, 1, 167, 255, 201, 132, 3, 1]
abbrev dktX0_tripods_3 : List UInt8 := dkwX0_tripods_3 ++ dktX0_tripods_4
def dkwX0_tripods_2 : List UInt8 := [180, 0, 53, 29, 51, 153, 0, 37, 27, 42, 180, 0, 53, 21, 4, 51, 153, 0, 17, 28, 29, 21, 4]
abbrev dktX0_tripods_2 : List UInt8 := dkwX0_tripods_2 ++ dktX0_tripods_3
def dkwX0_tripods_1 : List UInt8 := [28, 162, 0, 70, 3, 54, 4, 21, 4, 29, 162, 0, 55, 42, 180, 0, 53, 28, 51, 153, 0, 46, 42]
abbrev dktX0_tripods_1 : List UInt8 := dkwX0_tripods_1 ++ dktX0_tripods_2
def dkwX0_tripods_0 : List UInt8 := [42, 180, 0, 65, 16, 31, 3, 182, 0, 180, 87, 3, 60, 3, 61, 28, 16, 48, 162, 0, 83, 3, 62, 29]
abbrev dktX0_tripods_0 : List UInt8 := dkwX0_tripods_0 ++ dktX0_tripods_1
theorem dksX0_tripods_0 : cX0_tripods.data.toList.drop 0 = dktX0_tripods_0 := by decide +kernel
theorem dksX0_tripods_1 : cX0_tripods.data.toList.drop 24 = dktX0_tripods_1 := dk_seg dksX0_tripods_0 24 rfl rfl
theorem dksX0_tripods_2 : cX0_tripods.data.toList.drop 47 = dktX0_tripods_2 := dk_seg dksX0_tripods_1 23 rfl rfl
theorem dksX0_tripods_3 : cX0_tripods.data.toList.drop 70 = dktX0_tripods_3 := dk_seg dksX0_tripods_2 23 rfl rfl
theorem dksX0_tripods_4 : cX0_tripods.data.toList.drop 92 = dktX0_tripods_4 := dk_seg dksX0_tripods_3 22 rfl rfl
theorem dX0_tripods_0 : decode cX0_tripods 0 = .ok (.aload_n 0, 1) := dk_42 (dk_at dksX0_tripods_0 0 rfl rfl)
theorem dX0_tripods_1 : decode cX0_tripods 1 = .ok (.getfield 65, 3) := dk_180 0 65 (dk_at dksX0_tripods_0 1 rfl rfl)
theorem dX0_tripods_4 : decode cX0_tripods 4 = .ok (.bipush 31, 2) := dk_16 31 (dk_at dksX0_tripods_0 4 rfl rfl)
theorem dX0_tripods_6 : decode cX0_tripods 6 = .ok (.iconst 0, 1) := dk_3 (dk_at dksX0_tripods_0 6 rfl rfl)
theorem dX0_tripods_7 : decode cX0_tripods 7 = .ok (.invokevirtual 180, 3) := dk_182 0 180 (dk_at dksX0_tripods_0 7 rfl rfl)
theorem dX0_tripods_10 : decode cX0_tripods 10 = .ok (.pop, 1) := dk_87 (dk_at dksX0_tripods_0 10 rfl rfl)
theorem dX0_tripods_11 : decode cX0_tripods 11 = .ok (.iconst 0, 1) := dk_3 (dk_at dksX0_tripods_0 11 rfl rfl)
theorem dX0_tripods_12 : decode cX0_tripods 12 = .ok (.istore_n 1, 1) := dk_60 (dk_at dksX0_tripods_0 12 rfl rfl)
theorem dX0_tripods_13 : decode cX0_tripods 13 = .ok (.iconst 0, 1) := dk_3 (dk_at dksX0_tripods_0 13 rfl rfl)
theorem dX0_tripods_14 : decode cX0_tripods 14 = .ok (.istore_n 2, 1) := dk_61 (dk_at dksX0_tripods_0 14 rfl rfl)
theorem dX0_tripods_15 : decode cX0_tripods 15 = .ok (.iload_n 2, 1) := dk_28 (dk_at dksX0_tripods_0 15 rfl rfl)
theorem dX0_tripods_16 : decode cX0_tripods 16 = .ok (.bipush 48, 2) := dk_16 48 (dk_at dksX0_tripods_0 16 rfl rfl)
theorem dX0_tripods_18 : decode cX0_tripods 18 = .ok (.if_icmp .ge 83, 3) := dk_162 0 83 (dk_at dksX0_tripods_0 18 rfl rfl)
theorem dX0_tripods_21 : decode cX0_tripods 21 = .ok (.iconst 0, 1) := dk_3 (dk_at dksX0_tripods_0 21 rfl rfl)
theorem dX0_tripods_22 : decode cX0_tripods 22 = .ok (.istore_n 3, 1) := dk_62 (dk_at dksX0_tripods_0 22 rfl rfl)
theorem dX0_tripods_23 : decode cX0_tripods 23 = .ok (.iload_n 3, 1) := dk_29 (dk_at dksX0_tripods_0 23 rfl rfl)
theorem dX0_tripods_24 : decode cX0_tripods 24 = .ok (.iload_n 2, 1) := dk_28 (dk_at dksX0_tripods_1 0 rfl rfl)
theorem dX0_tripods_25 : decode cX0_tripods 25 = .ok (.if_icmp .ge 70, 3) := dk_162 0 70 (dk_at dksX0_tripods_1 1 rfl rfl)
theorem dX0_tripods_28 : decode cX0_tripods 28 = .ok (.iconst 0, 1) := dk_3 (dk_at dksX0_tripods_1 4 rfl rfl)
theorem dX0_tripods_29 : decode cX0_tripods 29 = .ok (.istore 4, 2) := dk_54 4 (dk_at dksX0_tripods_1 5 rfl rfl)
theorem dX0_tripods_31 : decode cX0_tripods 31 = .ok (.iload 4, 2) := dk_21 4 (dk_at dksX0_tripods_1 7 rfl rfl)
theorem dX0_tripods_33 : decode cX0_tripods 33 = .ok (.iload_n 3, 1) := dk_29 (dk_at dksX0_tripods_1 9 rfl rfl)
theorem dX0_tripods_34 : decode cX0_tripods 34 = .ok (.if_icmp .ge 55, 3) := dk_162 0 55 (dk_at dksX0_tripods_1 10 rfl rfl)
theorem dX0_tripods_37 : decode cX0_tripods 37 = .ok (.aload_n 0, 1) := dk_42 (dk_at dksX0_tripods_1 13 rfl rfl)
theorem dX0_tripods_38 : decode cX0_tripods 38 = .ok (.getfield 53, 3) := dk_180 0 53 (dk_at dksX0_tripods_1 14 rfl rfl)
theorem dX0_tripods_41 : decode cX0_tripods 41 = .ok (.iload_n 2, 1) := dk_28 (dk_at dksX0_tripods_1 17 rfl rfl)
theorem dX0_tripods_42 : decode cX0_tripods 42 = .ok (.baload, 1) := dk_51 (dk_at dksX0_tripods_1 18 rfl rfl)
theorem dX0_tripods_43 : decode cX0_tripods 43 = .ok (.ifCond .eq 46, 3) := dk_153 0 46 (dk_at dksX0_tripods_1 19 rfl rfl)
theorem dX0_tripods_46 : decode cX0_tripods 46 = .ok (.aload_n 0, 1) := dk_42 (dk_at dksX0_tripods_1 22 rfl rfl)
theorem dX0_tripods_47 : decode cX0_tripods 47 = .ok (.getfield 53, 3) := dk_180 0 53 (dk_at dksX0_tripods_2 0 rfl rfl)
theorem dX0_tripods_50 : decode cX0_tripods 50 = .ok (.iload_n 3, 1) := dk_29 (dk_at dksX0_tripods_2 3 rfl rfl)
theorem dX0_tripods_51 : decode cX0_tripods 51 = .ok (.baload, 1) := dk_51 (dk_at dksX0_tripods_2 4 rfl rfl)
theorem dX0_tripods_52 : decode cX0_tripods 52 = .ok (.ifCond .eq 37, 3) := dk_153 0 37 (dk_at dksX0_tripods_2 5 rfl rfl)
theorem dX0_tripods_55 : decode cX0_tripods 55 = .ok (.iload_n 1, 1) := dk_27 (dk_at dksX0_tripods_2 8 rfl rfl)
theorem dX0_tripods_56 : decode cX0_tripods 56 = .ok (.aload_n 0, 1) := dk_42 (dk_at dksX0_tripods_2 9 rfl rfl)
theorem dX0_tripods_57 : decode cX0_tripods 57 = .ok (.getfield 53, 3) := dk_180 0 53 (dk_at dksX0_tripods_2 10 rfl rfl)
theorem dX0_tripods_60 : decode cX0_tripods 60 = .ok (.iload 4, 2) := dk_21 4 (dk_at dksX0_tripods_2 13 rfl rfl)
theorem dX0_tripods_62 : decode cX0_tripods 62 = .ok (.baload, 1) := dk_51 (dk_at dksX0_tripods_2 15 rfl rfl)
theorem dX0_tripods_63 : decode cX0_tripods 63 = .ok (.ifCond .eq 17, 3) := dk_153 0 17 (dk_at dksX0_tripods_2 16 rfl rfl)
theorem dX0_tripods_66 : decode cX0_tripods 66 = .ok (.iload_n 2, 1) := dk_28 (dk_at dksX0_tripods_2 19 rfl rfl)
theorem dX0_tripods_67 : decode cX0_tripods 67 = .ok (.iload_n 3, 1) := dk_29 (dk_at dksX0_tripods_2 20 rfl rfl)
theorem dX0_tripods_68 : decode cX0_tripods 68 = .ok (.iload 4, 2) := dk_21 4 (dk_at dksX0_tripods_2 21 rfl rfl)
theorem dX0_tripods_70 : decode cX0_tripods 70 = .ok (.invokestatic 242, 3) := dk_184 0 242 (dk_at dksX0_tripods_3 0 rfl rfl)
theorem dX0_tripods_73 : decode cX0_tripods 73 = .ok (.ifCond .eq 7, 3) := dk_153 0 7 (dk_at dksX0_tripods_3 3 rfl rfl)
theorem dX0_tripods_76 : decode cX0_tripods 76 = .ok (.iconst 1, 1) := dk_4 (dk_at dksX0_tripods_3 6 rfl rfl)
theorem dX0_tripods_77 : decode cX0_tripods 77 = .ok (.goto 4, 3) := dk_167 0 4 (dk_at dksX0_tripods_3 7 rfl rfl)
theorem dX0_tripods_80 : decode cX0_tripods 80 = .ok (.iconst 0, 1) := dk_3 (dk_at dksX0_tripods_3 10 rfl rfl)
theorem dX0_tripods_81 : decode cX0_tripods 81 = .ok (.iadd, 1) := dk_96 (dk_at dksX0_tripods_3 11 rfl rfl)
theorem dX0_tripods_82 : decode cX0_tripods 82 = .ok (.istore_n 1, 1) := dk_60 (dk_at dksX0_tripods_3 12 rfl rfl)
theorem dX0_tripods_83 : decode cX0_tripods 83 = .ok (.iinc 4 1, 3) := dk_132 4 1 (dk_at dksX0_tripods_3 13 rfl rfl)
theorem dX0_tripods_86 : decode cX0_tripods 86 = .ok (.goto (-55), 3) := dk_167 255 201 (dk_at dksX0_tripods_3 16 rfl rfl)
theorem dX0_tripods_89 : decode cX0_tripods 89 = .ok (.iinc 3 1, 3) := dk_132 3 1 (dk_at dksX0_tripods_3 19 rfl rfl)
theorem dX0_tripods_92 : decode cX0_tripods 92 = .ok (.goto (-69), 3) := dk_167 255 187 (dk_at dksX0_tripods_4 0 rfl rfl)
theorem dX0_tripods_95 : decode cX0_tripods 95 = .ok (.iinc 2 1, 3) := dk_132 2 1 (dk_at dksX0_tripods_4 3 rfl rfl)
theorem dX0_tripods_98 : decode cX0_tripods 98 = .ok (.goto (-83), 3) := dk_167 255 173 (dk_at dksX0_tripods_4 6 rfl rfl)
theorem dX0_tripods_101 : decode cX0_tripods 101 = .ok (.iload_n 1, 1) := dk_27 (dk_at dksX0_tripods_4 9 rfl rfl)
theorem dX0_tripods_102 : decode cX0_tripods 102 = .ok (.ireturn, 1) := dk_172 (dk_at dksX0_tripods_4 10 rfl rfl)
abbrev cX0_isTripod : ByteArray := prog_1_method_49_code
def yX0_isTripod : MethodName := ⟨RX0, "isTripod", "(III)Z"⟩
def dkwX0_isTripod_2 : List UInt8 := [157, 0, 17, 21, 4, 157, 0, 12, 21, 5, 157, 0, 7, 4, 167, 0, 4, 3, 172]
abbrev dktX0_isTripod_2 : List UInt8 := dkwX0_isTripod_2 ++ []
def dkwX0_isTripod_1 : List UInt8 := [28, 26, 184, 0, 239, 54, 5, 29, 155, 0, 13, 21, 4, 155, 0, 8, 21, 5, 156, 0, 17, 29]
abbrev dktX0_isTripod_1 : List UInt8 := dkwX0_isTripod_1 ++ dktX0_isTripod_2
def dkwX0_isTripod_0 : List UInt8 := [26, 27, 28, 184, 0, 226, 154, 0, 5, 3, 172, 26, 27, 184, 0, 239, 62, 27, 28, 184, 0, 239, 54, 4]
abbrev dktX0_isTripod_0 : List UInt8 := dkwX0_isTripod_0 ++ dktX0_isTripod_1
theorem dksX0_isTripod_0 : cX0_isTripod.data.toList.drop 0 = dktX0_isTripod_0 := by decide +kernel
theorem dksX0_isTripod_1 : cX0_isTripod.data.toList.drop 24 = dktX0_isTripod_1 := dk_seg dksX0_isTripod_0 24 rfl rfl
theorem dksX0_isTripod_2 : cX0_isTripod.data.toList.drop 46 = dktX0_isTripod_2 := dk_seg dksX0_isTripod_1 22 rfl rfl
theorem dX0_isTripod_0 : decode cX0_isTripod 0 = .ok (.iload_n 0, 1) := dk_26 (dk_at dksX0_isTripod_0 0 rfl rfl)
theorem dX0_isTripod_1 : decode cX0_isTripod 1 = .ok (.iload_n 1, 1) := dk_27 (dk_at dksX0_isTripod_0 1 rfl rfl)
theorem dX0_isTripod_2 : decode cX0_isTripod 2 = .ok (.iload_n 2, 1) := dk_28 (dk_at dksX0_isTripod_0 2 rfl rfl)
theorem dX0_isTripod_3 : decode cX0_isTripod 3 = .ok (.invokestatic 226, 3) := dk_184 0 226 (dk_at dksX0_isTripod_0 3 rfl rfl)
theorem dX0_isTripod_6 : decode cX0_isTripod 6 = .ok (.ifCond .ne 5, 3) := dk_154 0 5 (dk_at dksX0_isTripod_0 6 rfl rfl)
theorem dX0_isTripod_9 : decode cX0_isTripod 9 = .ok (.iconst 0, 1) := dk_3 (dk_at dksX0_isTripod_0 9 rfl rfl)
theorem dX0_isTripod_10 : decode cX0_isTripod 10 = .ok (.ireturn, 1) := dk_172 (dk_at dksX0_isTripod_0 10 rfl rfl)
theorem dX0_isTripod_11 : decode cX0_isTripod 11 = .ok (.iload_n 0, 1) := dk_26 (dk_at dksX0_isTripod_0 11 rfl rfl)
theorem dX0_isTripod_12 : decode cX0_isTripod 12 = .ok (.iload_n 1, 1) := dk_27 (dk_at dksX0_isTripod_0 12 rfl rfl)
theorem dX0_isTripod_13 : decode cX0_isTripod 13 = .ok (.invokestatic 239, 3) := dk_184 0 239 (dk_at dksX0_isTripod_0 13 rfl rfl)
theorem dX0_isTripod_16 : decode cX0_isTripod 16 = .ok (.istore_n 3, 1) := dk_62 (dk_at dksX0_isTripod_0 16 rfl rfl)
theorem dX0_isTripod_17 : decode cX0_isTripod 17 = .ok (.iload_n 1, 1) := dk_27 (dk_at dksX0_isTripod_0 17 rfl rfl)
theorem dX0_isTripod_18 : decode cX0_isTripod 18 = .ok (.iload_n 2, 1) := dk_28 (dk_at dksX0_isTripod_0 18 rfl rfl)
theorem dX0_isTripod_19 : decode cX0_isTripod 19 = .ok (.invokestatic 239, 3) := dk_184 0 239 (dk_at dksX0_isTripod_0 19 rfl rfl)
theorem dX0_isTripod_22 : decode cX0_isTripod 22 = .ok (.istore 4, 2) := dk_54 4 (dk_at dksX0_isTripod_0 22 rfl rfl)
theorem dX0_isTripod_24 : decode cX0_isTripod 24 = .ok (.iload_n 2, 1) := dk_28 (dk_at dksX0_isTripod_1 0 rfl rfl)
theorem dX0_isTripod_25 : decode cX0_isTripod 25 = .ok (.iload_n 0, 1) := dk_26 (dk_at dksX0_isTripod_1 1 rfl rfl)
theorem dX0_isTripod_26 : decode cX0_isTripod 26 = .ok (.invokestatic 239, 3) := dk_184 0 239 (dk_at dksX0_isTripod_1 2 rfl rfl)
theorem dX0_isTripod_29 : decode cX0_isTripod 29 = .ok (.istore 5, 2) := dk_54 5 (dk_at dksX0_isTripod_1 5 rfl rfl)
theorem dX0_isTripod_31 : decode cX0_isTripod 31 = .ok (.iload_n 3, 1) := dk_29 (dk_at dksX0_isTripod_1 7 rfl rfl)
theorem dX0_isTripod_32 : decode cX0_isTripod 32 = .ok (.ifCond .lt 13, 3) := dk_155 0 13 (dk_at dksX0_isTripod_1 8 rfl rfl)
theorem dX0_isTripod_35 : decode cX0_isTripod 35 = .ok (.iload 4, 2) := dk_21 4 (dk_at dksX0_isTripod_1 11 rfl rfl)
theorem dX0_isTripod_37 : decode cX0_isTripod 37 = .ok (.ifCond .lt 8, 3) := dk_155 0 8 (dk_at dksX0_isTripod_1 13 rfl rfl)
theorem dX0_isTripod_40 : decode cX0_isTripod 40 = .ok (.iload 5, 2) := dk_21 5 (dk_at dksX0_isTripod_1 16 rfl rfl)
theorem dX0_isTripod_42 : decode cX0_isTripod 42 = .ok (.ifCond .ge 17, 3) := dk_156 0 17 (dk_at dksX0_isTripod_1 18 rfl rfl)
theorem dX0_isTripod_45 : decode cX0_isTripod 45 = .ok (.iload_n 3, 1) := dk_29 (dk_at dksX0_isTripod_1 21 rfl rfl)
theorem dX0_isTripod_46 : decode cX0_isTripod 46 = .ok (.ifCond .gt 17, 3) := dk_157 0 17 (dk_at dksX0_isTripod_2 0 rfl rfl)
theorem dX0_isTripod_49 : decode cX0_isTripod 49 = .ok (.iload 4, 2) := dk_21 4 (dk_at dksX0_isTripod_2 3 rfl rfl)
theorem dX0_isTripod_51 : decode cX0_isTripod 51 = .ok (.ifCond .gt 12, 3) := dk_157 0 12 (dk_at dksX0_isTripod_2 5 rfl rfl)
theorem dX0_isTripod_54 : decode cX0_isTripod 54 = .ok (.iload 5, 2) := dk_21 5 (dk_at dksX0_isTripod_2 8 rfl rfl)
theorem dX0_isTripod_56 : decode cX0_isTripod 56 = .ok (.ifCond .gt 7, 3) := dk_157 0 7 (dk_at dksX0_isTripod_2 10 rfl rfl)
theorem dX0_isTripod_59 : decode cX0_isTripod 59 = .ok (.iconst 1, 1) := dk_4 (dk_at dksX0_isTripod_2 13 rfl rfl)
theorem dX0_isTripod_60 : decode cX0_isTripod 60 = .ok (.goto 4, 3) := dk_167 0 4 (dk_at dksX0_isTripod_2 14 rfl rfl)
theorem dX0_isTripod_63 : decode cX0_isTripod 63 = .ok (.iconst 0, 1) := dk_3 (dk_at dksX0_isTripod_2 17 rfl rfl)
theorem dX0_isTripod_64 : decode cX0_isTripod 64 = .ok (.ireturn, 1) := dk_172 (dk_at dksX0_isTripod_2 18 rfl rfl)
abbrev cX0_aboutMiddle : ByteArray := prog_1_method_48_code
def yX0_aboutMiddle : MethodName := ⟨RX0, "aboutMiddle", "(II)I"⟩
def dkwX0_aboutMiddle_1 : List UInt8 := [8, 100, 5, 27, 16, 8, 112, 104, 16, 7, 100, 104, 100, 172]
abbrev dktX0_aboutMiddle_1 : List UInt8 := dkwX0_aboutMiddle_1 ++ []
def dkwX0_aboutMiddle_0 : List UInt8 := [5, 26, 16, 8, 112, 104, 16, 7, 100, 5, 27, 16, 8, 108, 104, 8, 100, 104, 5, 26, 16, 8, 108, 104]
abbrev dktX0_aboutMiddle_0 : List UInt8 := dkwX0_aboutMiddle_0 ++ dktX0_aboutMiddle_1
theorem dksX0_aboutMiddle_0 : cX0_aboutMiddle.data.toList.drop 0 = dktX0_aboutMiddle_0 := by decide +kernel
theorem dksX0_aboutMiddle_1 : cX0_aboutMiddle.data.toList.drop 24 = dktX0_aboutMiddle_1 := dk_seg dksX0_aboutMiddle_0 24 rfl rfl
theorem dX0_aboutMiddle_0 : decode cX0_aboutMiddle 0 = .ok (.iconst 2, 1) := dk_5 (dk_at dksX0_aboutMiddle_0 0 rfl rfl)
theorem dX0_aboutMiddle_1 : decode cX0_aboutMiddle 1 = .ok (.iload_n 0, 1) := dk_26 (dk_at dksX0_aboutMiddle_0 1 rfl rfl)
theorem dX0_aboutMiddle_2 : decode cX0_aboutMiddle 2 = .ok (.bipush 8, 2) := dk_16 8 (dk_at dksX0_aboutMiddle_0 2 rfl rfl)
theorem dX0_aboutMiddle_4 : decode cX0_aboutMiddle 4 = .ok (.irem, 1) := dk_112 (dk_at dksX0_aboutMiddle_0 4 rfl rfl)
theorem dX0_aboutMiddle_5 : decode cX0_aboutMiddle 5 = .ok (.imul, 1) := dk_104 (dk_at dksX0_aboutMiddle_0 5 rfl rfl)
theorem dX0_aboutMiddle_6 : decode cX0_aboutMiddle 6 = .ok (.bipush 7, 2) := dk_16 7 (dk_at dksX0_aboutMiddle_0 6 rfl rfl)
theorem dX0_aboutMiddle_8 : decode cX0_aboutMiddle 8 = .ok (.isub, 1) := dk_100 (dk_at dksX0_aboutMiddle_0 8 rfl rfl)
theorem dX0_aboutMiddle_9 : decode cX0_aboutMiddle 9 = .ok (.iconst 2, 1) := dk_5 (dk_at dksX0_aboutMiddle_0 9 rfl rfl)
theorem dX0_aboutMiddle_10 : decode cX0_aboutMiddle 10 = .ok (.iload_n 1, 1) := dk_27 (dk_at dksX0_aboutMiddle_0 10 rfl rfl)
theorem dX0_aboutMiddle_11 : decode cX0_aboutMiddle 11 = .ok (.bipush 8, 2) := dk_16 8 (dk_at dksX0_aboutMiddle_0 11 rfl rfl)
theorem dX0_aboutMiddle_13 : decode cX0_aboutMiddle 13 = .ok (.idiv, 1) := dk_108 (dk_at dksX0_aboutMiddle_0 13 rfl rfl)
theorem dX0_aboutMiddle_14 : decode cX0_aboutMiddle 14 = .ok (.imul, 1) := dk_104 (dk_at dksX0_aboutMiddle_0 14 rfl rfl)
theorem dX0_aboutMiddle_15 : decode cX0_aboutMiddle 15 = .ok (.iconst 5, 1) := dk_8 (dk_at dksX0_aboutMiddle_0 15 rfl rfl)
theorem dX0_aboutMiddle_16 : decode cX0_aboutMiddle 16 = .ok (.isub, 1) := dk_100 (dk_at dksX0_aboutMiddle_0 16 rfl rfl)
theorem dX0_aboutMiddle_17 : decode cX0_aboutMiddle 17 = .ok (.imul, 1) := dk_104 (dk_at dksX0_aboutMiddle_0 17 rfl rfl)
theorem dX0_aboutMiddle_18 : decode cX0_aboutMiddle 18 = .ok (.iconst 2, 1) := dk_5 (dk_at dksX0_aboutMiddle_0 18 rfl rfl)
theorem dX0_aboutMiddle_19 : decode cX0_aboutMiddle 19 = .ok (.iload_n 0, 1) := dk_26 (dk_at dksX0_aboutMiddle_0 19 rfl rfl)
theorem dX0_aboutMiddle_20 : decode cX0_aboutMiddle 20 = .ok (.bipush 8, 2) := dk_16 8 (dk_at dksX0_aboutMiddle_0 20 rfl rfl)
theorem dX0_aboutMiddle_22 : decode cX0_aboutMiddle 22 = .ok (.idiv, 1) := dk_108 (dk_at dksX0_aboutMiddle_0 22 rfl rfl)
theorem dX0_aboutMiddle_23 : decode cX0_aboutMiddle 23 = .ok (.imul, 1) := dk_104 (dk_at dksX0_aboutMiddle_0 23 rfl rfl)
theorem dX0_aboutMiddle_24 : decode cX0_aboutMiddle 24 = .ok (.iconst 5, 1) := dk_8 (dk_at dksX0_aboutMiddle_1 0 rfl rfl)
theorem dX0_aboutMiddle_25 : decode cX0_aboutMiddle 25 = .ok (.isub, 1) := dk_100 (dk_at dksX0_aboutMiddle_1 1 rfl rfl)
theorem dX0_aboutMiddle_26 : decode cX0_aboutMiddle 26 = .ok (.iconst 2, 1) := dk_5 (dk_at dksX0_aboutMiddle_1 2 rfl rfl)
theorem dX0_aboutMiddle_27 : decode cX0_aboutMiddle 27 = .ok (.iload_n 1, 1) := dk_27 (dk_at dksX0_aboutMiddle_1 3 rfl rfl)
theorem dX0_aboutMiddle_28 : decode cX0_aboutMiddle 28 = .ok (.bipush 8, 2) := dk_16 8 (dk_at dksX0_aboutMiddle_1 4 rfl rfl)
theorem dX0_aboutMiddle_30 : decode cX0_aboutMiddle 30 = .ok (.irem, 1) := dk_112 (dk_at dksX0_aboutMiddle_1 6 rfl rfl)
theorem dX0_aboutMiddle_31 : decode cX0_aboutMiddle 31 = .ok (.imul, 1) := dk_104 (dk_at dksX0_aboutMiddle_1 7 rfl rfl)
theorem dX0_aboutMiddle_32 : decode cX0_aboutMiddle 32 = .ok (.bipush 7, 2) := dk_16 7 (dk_at dksX0_aboutMiddle_1 8 rfl rfl)
theorem dX0_aboutMiddle_34 : decode cX0_aboutMiddle 34 = .ok (.isub, 1) := dk_100 (dk_at dksX0_aboutMiddle_1 10 rfl rfl)
theorem dX0_aboutMiddle_35 : decode cX0_aboutMiddle 35 = .ok (.imul, 1) := dk_104 (dk_at dksX0_aboutMiddle_1 11 rfl rfl)
theorem dX0_aboutMiddle_36 : decode cX0_aboutMiddle 36 = .ok (.isub, 1) := dk_100 (dk_at dksX0_aboutMiddle_1 12 rfl rfl)
theorem dX0_aboutMiddle_37 : decode cX0_aboutMiddle 37 = .ok (.ireturn, 1) := dk_172 (dk_at dksX0_aboutMiddle_1 13 rfl rfl)
abbrev cX0_lean : ByteArray := prog_1_method_54_code
def yX0_lean : MethodName := ⟨RX0, "lean", "(I)I"⟩
def dkwX0_lean_3 : List UInt8 := [182, 0, 251, 172]
abbrev dktX0_lean_3 : List UInt8 := dkwX0_lean_3 ++ []
def dkwX0_lean_2 : List UInt8 := [164, 0, 5, 29, 61, 132, 3, 1, 167, 255, 216, 27, 154, 0, 9, 28, 6, 96, 167, 0, 8, 42, 28]
abbrev dktX0_lean_2 : List UInt8 := dkwX0_lean_2 ++ dktX0_lean_3
def dkwX0_lean_1 : List UInt8 := [182, 0, 251, 42, 28, 182, 0, 251, 164, 0, 6, 29, 116, 61, 42, 29, 182, 0, 251, 42, 28, 182, 0, 251]
abbrev dktX0_lean_1 : List UInt8 := dkwX0_lean_1 ++ dktX0_lean_2
def dkwX0_lean_0 : List UInt8 := [27, 5, 184, 0, 12, 154, 0, 5, 2, 172, 3, 61, 4, 62, 29, 6, 163, 0, 41, 42, 29, 116]
abbrev dktX0_lean_0 : List UInt8 := dkwX0_lean_0 ++ dktX0_lean_1
theorem dksX0_lean_0 : cX0_lean.data.toList.drop 0 = dktX0_lean_0 := by decide +kernel
theorem dksX0_lean_1 : cX0_lean.data.toList.drop 22 = dktX0_lean_1 := dk_seg dksX0_lean_0 22 rfl rfl
theorem dksX0_lean_2 : cX0_lean.data.toList.drop 46 = dktX0_lean_2 := dk_seg dksX0_lean_1 24 rfl rfl
theorem dksX0_lean_3 : cX0_lean.data.toList.drop 69 = dktX0_lean_3 := dk_seg dksX0_lean_2 23 rfl rfl
theorem dX0_lean_0 : decode cX0_lean 0 = .ok (.iload_n 1, 1) := dk_27 (dk_at dksX0_lean_0 0 rfl rfl)
theorem dX0_lean_1 : decode cX0_lean 1 = .ok (.iconst 2, 1) := dk_5 (dk_at dksX0_lean_0 1 rfl rfl)
theorem dX0_lean_2 : decode cX0_lean 2 = .ok (.invokestatic 12, 3) := dk_184 0 12 (dk_at dksX0_lean_0 2 rfl rfl)
theorem dX0_lean_5 : decode cX0_lean 5 = .ok (.ifCond .ne 5, 3) := dk_154 0 5 (dk_at dksX0_lean_0 5 rfl rfl)
theorem dX0_lean_8 : decode cX0_lean 8 = .ok (.iconst (-1), 1) := dk_2 (dk_at dksX0_lean_0 8 rfl rfl)
theorem dX0_lean_9 : decode cX0_lean 9 = .ok (.ireturn, 1) := dk_172 (dk_at dksX0_lean_0 9 rfl rfl)
theorem dX0_lean_10 : decode cX0_lean 10 = .ok (.iconst 0, 1) := dk_3 (dk_at dksX0_lean_0 10 rfl rfl)
theorem dX0_lean_11 : decode cX0_lean 11 = .ok (.istore_n 2, 1) := dk_61 (dk_at dksX0_lean_0 11 rfl rfl)
theorem dX0_lean_12 : decode cX0_lean 12 = .ok (.iconst 1, 1) := dk_4 (dk_at dksX0_lean_0 12 rfl rfl)
theorem dX0_lean_13 : decode cX0_lean 13 = .ok (.istore_n 3, 1) := dk_62 (dk_at dksX0_lean_0 13 rfl rfl)
theorem dX0_lean_14 : decode cX0_lean 14 = .ok (.iload_n 3, 1) := dk_29 (dk_at dksX0_lean_0 14 rfl rfl)
theorem dX0_lean_15 : decode cX0_lean 15 = .ok (.iconst 3, 1) := dk_6 (dk_at dksX0_lean_0 15 rfl rfl)
theorem dX0_lean_16 : decode cX0_lean 16 = .ok (.if_icmp .gt 41, 3) := dk_163 0 41 (dk_at dksX0_lean_0 16 rfl rfl)
theorem dX0_lean_19 : decode cX0_lean 19 = .ok (.aload_n 0, 1) := dk_42 (dk_at dksX0_lean_0 19 rfl rfl)
theorem dX0_lean_20 : decode cX0_lean 20 = .ok (.iload_n 3, 1) := dk_29 (dk_at dksX0_lean_0 20 rfl rfl)
theorem dX0_lean_21 : decode cX0_lean 21 = .ok (.ineg, 1) := dk_116 (dk_at dksX0_lean_0 21 rfl rfl)
theorem dX0_lean_22 : decode cX0_lean 22 = .ok (.invokevirtual 251, 3) := dk_182 0 251 (dk_at dksX0_lean_1 0 rfl rfl)
theorem dX0_lean_25 : decode cX0_lean 25 = .ok (.aload_n 0, 1) := dk_42 (dk_at dksX0_lean_1 3 rfl rfl)
theorem dX0_lean_26 : decode cX0_lean 26 = .ok (.iload_n 2, 1) := dk_28 (dk_at dksX0_lean_1 4 rfl rfl)
theorem dX0_lean_27 : decode cX0_lean 27 = .ok (.invokevirtual 251, 3) := dk_182 0 251 (dk_at dksX0_lean_1 5 rfl rfl)
theorem dX0_lean_30 : decode cX0_lean 30 = .ok (.if_icmp .le 6, 3) := dk_164 0 6 (dk_at dksX0_lean_1 8 rfl rfl)
theorem dX0_lean_33 : decode cX0_lean 33 = .ok (.iload_n 3, 1) := dk_29 (dk_at dksX0_lean_1 11 rfl rfl)
theorem dX0_lean_34 : decode cX0_lean 34 = .ok (.ineg, 1) := dk_116 (dk_at dksX0_lean_1 12 rfl rfl)
theorem dX0_lean_35 : decode cX0_lean 35 = .ok (.istore_n 2, 1) := dk_61 (dk_at dksX0_lean_1 13 rfl rfl)
theorem dX0_lean_36 : decode cX0_lean 36 = .ok (.aload_n 0, 1) := dk_42 (dk_at dksX0_lean_1 14 rfl rfl)
theorem dX0_lean_37 : decode cX0_lean 37 = .ok (.iload_n 3, 1) := dk_29 (dk_at dksX0_lean_1 15 rfl rfl)
theorem dX0_lean_38 : decode cX0_lean 38 = .ok (.invokevirtual 251, 3) := dk_182 0 251 (dk_at dksX0_lean_1 16 rfl rfl)
theorem dX0_lean_41 : decode cX0_lean 41 = .ok (.aload_n 0, 1) := dk_42 (dk_at dksX0_lean_1 19 rfl rfl)
theorem dX0_lean_42 : decode cX0_lean 42 = .ok (.iload_n 2, 1) := dk_28 (dk_at dksX0_lean_1 20 rfl rfl)
theorem dX0_lean_43 : decode cX0_lean 43 = .ok (.invokevirtual 251, 3) := dk_182 0 251 (dk_at dksX0_lean_1 21 rfl rfl)
theorem dX0_lean_46 : decode cX0_lean 46 = .ok (.if_icmp .le 5, 3) := dk_164 0 5 (dk_at dksX0_lean_2 0 rfl rfl)
theorem dX0_lean_49 : decode cX0_lean 49 = .ok (.iload_n 3, 1) := dk_29 (dk_at dksX0_lean_2 3 rfl rfl)
theorem dX0_lean_50 : decode cX0_lean 50 = .ok (.istore_n 2, 1) := dk_61 (dk_at dksX0_lean_2 4 rfl rfl)
theorem dX0_lean_51 : decode cX0_lean 51 = .ok (.iinc 3 1, 3) := dk_132 3 1 (dk_at dksX0_lean_2 5 rfl rfl)
theorem dX0_lean_54 : decode cX0_lean 54 = .ok (.goto (-40), 3) := dk_167 255 216 (dk_at dksX0_lean_2 8 rfl rfl)
theorem dX0_lean_57 : decode cX0_lean 57 = .ok (.iload_n 1, 1) := dk_27 (dk_at dksX0_lean_2 11 rfl rfl)
theorem dX0_lean_58 : decode cX0_lean 58 = .ok (.ifCond .ne 9, 3) := dk_154 0 9 (dk_at dksX0_lean_2 12 rfl rfl)
theorem dX0_lean_61 : decode cX0_lean 61 = .ok (.iload_n 2, 1) := dk_28 (dk_at dksX0_lean_2 15 rfl rfl)
theorem dX0_lean_62 : decode cX0_lean 62 = .ok (.iconst 3, 1) := dk_6 (dk_at dksX0_lean_2 16 rfl rfl)
theorem dX0_lean_63 : decode cX0_lean 63 = .ok (.iadd, 1) := dk_96 (dk_at dksX0_lean_2 17 rfl rfl)
theorem dX0_lean_64 : decode cX0_lean 64 = .ok (.goto 8, 3) := dk_167 0 8 (dk_at dksX0_lean_2 18 rfl rfl)
theorem dX0_lean_67 : decode cX0_lean 67 = .ok (.aload_n 0, 1) := dk_42 (dk_at dksX0_lean_2 21 rfl rfl)
theorem dX0_lean_68 : decode cX0_lean 68 = .ok (.iload_n 2, 1) := dk_28 (dk_at dksX0_lean_2 22 rfl rfl)
theorem dX0_lean_69 : decode cX0_lean 69 = .ok (.invokevirtual 251, 3) := dk_182 0 251 (dk_at dksX0_lean_3 0 rfl rfl)
theorem dX0_lean_72 : decode cX0_lean 72 = .ok (.ireturn, 1) := dk_172 (dk_at dksX0_lean_3 3 rfl rfl)
abbrev cX0_touchingBy : ByteArray := prog_1_method_53_code
def yX0_touchingBy : MethodName := ⟨RX0, "touchingBy", "(I)I"⟩
def dkwX0_touchingBy_1 : List UInt8 := [28, 16, 8, 112, 104, 96, 79, 132, 2, 1, 167, 255, 224, 42, 182, 0, 248, 172]
abbrev dktX0_touchingBy_1 : List UInt8 := dkwX0_touchingBy_1 ++ []
def dkwX0_touchingBy_0 : List UInt8 := [3, 61, 28, 16, 48, 162, 0, 32, 42, 180, 0, 104, 28, 42, 180, 0, 65, 28, 16, 31, 182, 0, 174, 27]
abbrev dktX0_touchingBy_0 : List UInt8 := dkwX0_touchingBy_0 ++ dktX0_touchingBy_1
theorem dksX0_touchingBy_0 : cX0_touchingBy.data.toList.drop 0 = dktX0_touchingBy_0 := by decide +kernel
theorem dksX0_touchingBy_1 : cX0_touchingBy.data.toList.drop 24 = dktX0_touchingBy_1 := dk_seg dksX0_touchingBy_0 24 rfl rfl
theorem dX0_touchingBy_0 : decode cX0_touchingBy 0 = .ok (.iconst 0, 1) := dk_3 (dk_at dksX0_touchingBy_0 0 rfl rfl)
theorem dX0_touchingBy_1 : decode cX0_touchingBy 1 = .ok (.istore_n 2, 1) := dk_61 (dk_at dksX0_touchingBy_0 1 rfl rfl)
theorem dX0_touchingBy_2 : decode cX0_touchingBy 2 = .ok (.iload_n 2, 1) := dk_28 (dk_at dksX0_touchingBy_0 2 rfl rfl)
theorem dX0_touchingBy_3 : decode cX0_touchingBy 3 = .ok (.bipush 48, 2) := dk_16 48 (dk_at dksX0_touchingBy_0 3 rfl rfl)
theorem dX0_touchingBy_5 : decode cX0_touchingBy 5 = .ok (.if_icmp .ge 32, 3) := dk_162 0 32 (dk_at dksX0_touchingBy_0 5 rfl rfl)
theorem dX0_touchingBy_8 : decode cX0_touchingBy 8 = .ok (.aload_n 0, 1) := dk_42 (dk_at dksX0_touchingBy_0 8 rfl rfl)
theorem dX0_touchingBy_9 : decode cX0_touchingBy 9 = .ok (.getfield 104, 3) := dk_180 0 104 (dk_at dksX0_touchingBy_0 9 rfl rfl)
theorem dX0_touchingBy_12 : decode cX0_touchingBy 12 = .ok (.iload_n 2, 1) := dk_28 (dk_at dksX0_touchingBy_0 12 rfl rfl)
theorem dX0_touchingBy_13 : decode cX0_touchingBy 13 = .ok (.aload_n 0, 1) := dk_42 (dk_at dksX0_touchingBy_0 13 rfl rfl)
theorem dX0_touchingBy_14 : decode cX0_touchingBy 14 = .ok (.getfield 65, 3) := dk_180 0 65 (dk_at dksX0_touchingBy_0 14 rfl rfl)
theorem dX0_touchingBy_17 : decode cX0_touchingBy 17 = .ok (.iload_n 2, 1) := dk_28 (dk_at dksX0_touchingBy_0 17 rfl rfl)
theorem dX0_touchingBy_18 : decode cX0_touchingBy 18 = .ok (.bipush 31, 2) := dk_16 31 (dk_at dksX0_touchingBy_0 18 rfl rfl)
theorem dX0_touchingBy_20 : decode cX0_touchingBy 20 = .ok (.invokevirtual 174, 3) := dk_182 0 174 (dk_at dksX0_touchingBy_0 20 rfl rfl)
theorem dX0_touchingBy_23 : decode cX0_touchingBy 23 = .ok (.iload_n 1, 1) := dk_27 (dk_at dksX0_touchingBy_0 23 rfl rfl)
theorem dX0_touchingBy_24 : decode cX0_touchingBy 24 = .ok (.iload_n 2, 1) := dk_28 (dk_at dksX0_touchingBy_1 0 rfl rfl)
theorem dX0_touchingBy_25 : decode cX0_touchingBy 25 = .ok (.bipush 8, 2) := dk_16 8 (dk_at dksX0_touchingBy_1 1 rfl rfl)
theorem dX0_touchingBy_27 : decode cX0_touchingBy 27 = .ok (.irem, 1) := dk_112 (dk_at dksX0_touchingBy_1 3 rfl rfl)
theorem dX0_touchingBy_28 : decode cX0_touchingBy 28 = .ok (.imul, 1) := dk_104 (dk_at dksX0_touchingBy_1 4 rfl rfl)
theorem dX0_touchingBy_29 : decode cX0_touchingBy 29 = .ok (.iadd, 1) := dk_96 (dk_at dksX0_touchingBy_1 5 rfl rfl)
theorem dX0_touchingBy_30 : decode cX0_touchingBy 30 = .ok (.iastore, 1) := dk_79 (dk_at dksX0_touchingBy_1 6 rfl rfl)
theorem dX0_touchingBy_31 : decode cX0_touchingBy 31 = .ok (.iinc 2 1, 3) := dk_132 2 1 (dk_at dksX0_touchingBy_1 7 rfl rfl)
theorem dX0_touchingBy_34 : decode cX0_touchingBy 34 = .ok (.goto (-32), 3) := dk_167 255 224 (dk_at dksX0_touchingBy_1 10 rfl rfl)
theorem dX0_touchingBy_37 : decode cX0_touchingBy 37 = .ok (.aload_n 0, 1) := dk_42 (dk_at dksX0_touchingBy_1 13 rfl rfl)
theorem dX0_touchingBy_38 : decode cX0_touchingBy 38 = .ok (.invokevirtual 248, 3) := dk_182 0 248 (dk_at dksX0_touchingBy_1 14 rfl rfl)
theorem dX0_touchingBy_41 : decode cX0_touchingBy 41 = .ok (.ireturn, 1) := dk_172 (dk_at dksX0_touchingBy_1 17 rfl rfl)
abbrev cX0_touching : ByteArray := prog_1_method_52_code
def yX0_touching : MethodName := ⟨RX0, "touching", "()I"⟩
def dkwX0_touching_2 : List UInt8 := [132, 5, 1, 167, 255, 226, 28, 172]
abbrev dktX0_touching_2 : List UInt8 := dkwX0_touching_2 ++ []
def dkwX0_touching_1 : List UInt8 := [162, 0, 29, 45, 21, 5, 46, 54, 6, 28, 21, 6, 27, 160, 0, 7, 4, 167, 0, 4, 3, 96, 61]
abbrev dktX0_touching_1 : List UInt8 := dkwX0_touching_1 ++ dktX0_touching_2
def dkwX0_touching_0 : List UInt8 := [42, 182, 0, 245, 60, 3, 61, 42, 180, 0, 104, 78, 45, 190, 54, 4, 3, 54, 5, 21, 5, 21, 4]
abbrev dktX0_touching_0 : List UInt8 := dkwX0_touching_0 ++ dktX0_touching_1
theorem dksX0_touching_0 : cX0_touching.data.toList.drop 0 = dktX0_touching_0 := by decide +kernel
theorem dksX0_touching_1 : cX0_touching.data.toList.drop 23 = dktX0_touching_1 := dk_seg dksX0_touching_0 23 rfl rfl
theorem dksX0_touching_2 : cX0_touching.data.toList.drop 46 = dktX0_touching_2 := dk_seg dksX0_touching_1 23 rfl rfl
theorem dX0_touching_0 : decode cX0_touching 0 = .ok (.aload_n 0, 1) := dk_42 (dk_at dksX0_touching_0 0 rfl rfl)
theorem dX0_touching_1 : decode cX0_touching 1 = .ok (.invokevirtual 245, 3) := dk_182 0 245 (dk_at dksX0_touching_0 1 rfl rfl)
theorem dX0_touching_4 : decode cX0_touching 4 = .ok (.istore_n 1, 1) := dk_60 (dk_at dksX0_touching_0 4 rfl rfl)
theorem dX0_touching_5 : decode cX0_touching 5 = .ok (.iconst 0, 1) := dk_3 (dk_at dksX0_touching_0 5 rfl rfl)
theorem dX0_touching_6 : decode cX0_touching 6 = .ok (.istore_n 2, 1) := dk_61 (dk_at dksX0_touching_0 6 rfl rfl)
theorem dX0_touching_7 : decode cX0_touching 7 = .ok (.aload_n 0, 1) := dk_42 (dk_at dksX0_touching_0 7 rfl rfl)
theorem dX0_touching_8 : decode cX0_touching 8 = .ok (.getfield 104, 3) := dk_180 0 104 (dk_at dksX0_touching_0 8 rfl rfl)
theorem dX0_touching_11 : decode cX0_touching 11 = .ok (.astore_n 3, 1) := dk_78 (dk_at dksX0_touching_0 11 rfl rfl)
theorem dX0_touching_12 : decode cX0_touching 12 = .ok (.aload_n 3, 1) := dk_45 (dk_at dksX0_touching_0 12 rfl rfl)
theorem dX0_touching_13 : decode cX0_touching 13 = .ok (.arraylength, 1) := dk_190 (dk_at dksX0_touching_0 13 rfl rfl)
theorem dX0_touching_14 : decode cX0_touching 14 = .ok (.istore 4, 2) := dk_54 4 (dk_at dksX0_touching_0 14 rfl rfl)
theorem dX0_touching_16 : decode cX0_touching 16 = .ok (.iconst 0, 1) := dk_3 (dk_at dksX0_touching_0 16 rfl rfl)
theorem dX0_touching_17 : decode cX0_touching 17 = .ok (.istore 5, 2) := dk_54 5 (dk_at dksX0_touching_0 17 rfl rfl)
theorem dX0_touching_19 : decode cX0_touching 19 = .ok (.iload 5, 2) := dk_21 5 (dk_at dksX0_touching_0 19 rfl rfl)
theorem dX0_touching_21 : decode cX0_touching 21 = .ok (.iload 4, 2) := dk_21 4 (dk_at dksX0_touching_0 21 rfl rfl)
theorem dX0_touching_23 : decode cX0_touching 23 = .ok (.if_icmp .ge 29, 3) := dk_162 0 29 (dk_at dksX0_touching_1 0 rfl rfl)
theorem dX0_touching_26 : decode cX0_touching 26 = .ok (.aload_n 3, 1) := dk_45 (dk_at dksX0_touching_1 3 rfl rfl)
theorem dX0_touching_27 : decode cX0_touching 27 = .ok (.iload 5, 2) := dk_21 5 (dk_at dksX0_touching_1 4 rfl rfl)
theorem dX0_touching_29 : decode cX0_touching 29 = .ok (.iaload, 1) := dk_46 (dk_at dksX0_touching_1 6 rfl rfl)
theorem dX0_touching_30 : decode cX0_touching 30 = .ok (.istore 6, 2) := dk_54 6 (dk_at dksX0_touching_1 7 rfl rfl)
theorem dX0_touching_32 : decode cX0_touching 32 = .ok (.iload_n 2, 1) := dk_28 (dk_at dksX0_touching_1 9 rfl rfl)
theorem dX0_touching_33 : decode cX0_touching 33 = .ok (.iload 6, 2) := dk_21 6 (dk_at dksX0_touching_1 10 rfl rfl)
theorem dX0_touching_35 : decode cX0_touching 35 = .ok (.iload_n 1, 1) := dk_27 (dk_at dksX0_touching_1 12 rfl rfl)
theorem dX0_touching_36 : decode cX0_touching 36 = .ok (.if_icmp .ne 7, 3) := dk_160 0 7 (dk_at dksX0_touching_1 13 rfl rfl)
theorem dX0_touching_39 : decode cX0_touching 39 = .ok (.iconst 1, 1) := dk_4 (dk_at dksX0_touching_1 16 rfl rfl)
theorem dX0_touching_40 : decode cX0_touching 40 = .ok (.goto 4, 3) := dk_167 0 4 (dk_at dksX0_touching_1 17 rfl rfl)
theorem dX0_touching_43 : decode cX0_touching 43 = .ok (.iconst 0, 1) := dk_3 (dk_at dksX0_touching_1 20 rfl rfl)
theorem dX0_touching_44 : decode cX0_touching 44 = .ok (.iadd, 1) := dk_96 (dk_at dksX0_touching_1 21 rfl rfl)
theorem dX0_touching_45 : decode cX0_touching 45 = .ok (.istore_n 2, 1) := dk_61 (dk_at dksX0_touching_1 22 rfl rfl)
theorem dX0_touching_46 : decode cX0_touching 46 = .ok (.iinc 5 1, 3) := dk_132 5 1 (dk_at dksX0_touching_2 0 rfl rfl)
theorem dX0_touching_49 : decode cX0_touching 49 = .ok (.goto (-30), 3) := dk_167 255 226 (dk_at dksX0_touching_2 3 rfl rfl)
theorem dX0_touching_52 : decode cX0_touching 52 = .ok (.iload_n 2, 1) := dk_28 (dk_at dksX0_touching_2 6 rfl rfl)
theorem dX0_touching_53 : decode cX0_touching 53 = .ok (.ireturn, 1) := dk_172 (dk_at dksX0_touching_2 7 rfl rfl)
abbrev cX0_greatestSum : ByteArray := prog_1_method_51_code
def yX0_greatestSum : MethodName := ⟨RX0, "greatestSum", "()I"⟩
def dkwX0_greatestSum_1 : List UInt8 := [44, 21, 4, 46, 54, 5, 27, 21, 5, 184, 0, 9, 60, 132, 4, 1, 167, 255, 234, 27, 172]
abbrev dktX0_greatestSum_1 : List UInt8 := dkwX0_greatestSum_1 ++ []
def dkwX0_greatestSum_0 : List UInt8 := [42, 180, 0, 104, 3, 46, 60, 42, 180, 0, 104, 77, 44, 190, 62, 3, 54, 4, 21, 4, 29, 162, 0, 22]
abbrev dktX0_greatestSum_0 : List UInt8 := dkwX0_greatestSum_0 ++ dktX0_greatestSum_1
theorem dksX0_greatestSum_0 : cX0_greatestSum.data.toList.drop 0 = dktX0_greatestSum_0 := by decide +kernel
theorem dksX0_greatestSum_1 : cX0_greatestSum.data.toList.drop 24 = dktX0_greatestSum_1 := dk_seg dksX0_greatestSum_0 24 rfl rfl
theorem dX0_greatestSum_0 : decode cX0_greatestSum 0 = .ok (.aload_n 0, 1) := dk_42 (dk_at dksX0_greatestSum_0 0 rfl rfl)
theorem dX0_greatestSum_1 : decode cX0_greatestSum 1 = .ok (.getfield 104, 3) := dk_180 0 104 (dk_at dksX0_greatestSum_0 1 rfl rfl)
theorem dX0_greatestSum_4 : decode cX0_greatestSum 4 = .ok (.iconst 0, 1) := dk_3 (dk_at dksX0_greatestSum_0 4 rfl rfl)
theorem dX0_greatestSum_5 : decode cX0_greatestSum 5 = .ok (.iaload, 1) := dk_46 (dk_at dksX0_greatestSum_0 5 rfl rfl)
theorem dX0_greatestSum_6 : decode cX0_greatestSum 6 = .ok (.istore_n 1, 1) := dk_60 (dk_at dksX0_greatestSum_0 6 rfl rfl)
theorem dX0_greatestSum_7 : decode cX0_greatestSum 7 = .ok (.aload_n 0, 1) := dk_42 (dk_at dksX0_greatestSum_0 7 rfl rfl)
theorem dX0_greatestSum_8 : decode cX0_greatestSum 8 = .ok (.getfield 104, 3) := dk_180 0 104 (dk_at dksX0_greatestSum_0 8 rfl rfl)
theorem dX0_greatestSum_11 : decode cX0_greatestSum 11 = .ok (.astore_n 2, 1) := dk_77 (dk_at dksX0_greatestSum_0 11 rfl rfl)
theorem dX0_greatestSum_12 : decode cX0_greatestSum 12 = .ok (.aload_n 2, 1) := dk_44 (dk_at dksX0_greatestSum_0 12 rfl rfl)
theorem dX0_greatestSum_13 : decode cX0_greatestSum 13 = .ok (.arraylength, 1) := dk_190 (dk_at dksX0_greatestSum_0 13 rfl rfl)
theorem dX0_greatestSum_14 : decode cX0_greatestSum 14 = .ok (.istore_n 3, 1) := dk_62 (dk_at dksX0_greatestSum_0 14 rfl rfl)
theorem dX0_greatestSum_15 : decode cX0_greatestSum 15 = .ok (.iconst 0, 1) := dk_3 (dk_at dksX0_greatestSum_0 15 rfl rfl)
theorem dX0_greatestSum_16 : decode cX0_greatestSum 16 = .ok (.istore 4, 2) := dk_54 4 (dk_at dksX0_greatestSum_0 16 rfl rfl)
theorem dX0_greatestSum_18 : decode cX0_greatestSum 18 = .ok (.iload 4, 2) := dk_21 4 (dk_at dksX0_greatestSum_0 18 rfl rfl)
theorem dX0_greatestSum_20 : decode cX0_greatestSum 20 = .ok (.iload_n 3, 1) := dk_29 (dk_at dksX0_greatestSum_0 20 rfl rfl)
theorem dX0_greatestSum_21 : decode cX0_greatestSum 21 = .ok (.if_icmp .ge 22, 3) := dk_162 0 22 (dk_at dksX0_greatestSum_0 21 rfl rfl)
theorem dX0_greatestSum_24 : decode cX0_greatestSum 24 = .ok (.aload_n 2, 1) := dk_44 (dk_at dksX0_greatestSum_1 0 rfl rfl)
theorem dX0_greatestSum_25 : decode cX0_greatestSum 25 = .ok (.iload 4, 2) := dk_21 4 (dk_at dksX0_greatestSum_1 1 rfl rfl)
theorem dX0_greatestSum_27 : decode cX0_greatestSum 27 = .ok (.iaload, 1) := dk_46 (dk_at dksX0_greatestSum_1 3 rfl rfl)
theorem dX0_greatestSum_28 : decode cX0_greatestSum 28 = .ok (.istore 5, 2) := dk_54 5 (dk_at dksX0_greatestSum_1 4 rfl rfl)
theorem dX0_greatestSum_30 : decode cX0_greatestSum 30 = .ok (.iload_n 1, 1) := dk_27 (dk_at dksX0_greatestSum_1 6 rfl rfl)
theorem dX0_greatestSum_31 : decode cX0_greatestSum 31 = .ok (.iload 5, 2) := dk_21 5 (dk_at dksX0_greatestSum_1 7 rfl rfl)
theorem dX0_greatestSum_33 : decode cX0_greatestSum 33 = .ok (.invokestatic 9, 3) := dk_184 0 9 (dk_at dksX0_greatestSum_1 9 rfl rfl)
theorem dX0_greatestSum_36 : decode cX0_greatestSum 36 = .ok (.istore_n 1, 1) := dk_60 (dk_at dksX0_greatestSum_1 12 rfl rfl)
theorem dX0_greatestSum_37 : decode cX0_greatestSum 37 = .ok (.iinc 4 1, 3) := dk_132 4 1 (dk_at dksX0_greatestSum_1 13 rfl rfl)
theorem dX0_greatestSum_40 : decode cX0_greatestSum 40 = .ok (.goto (-22), 3) := dk_167 255 234 (dk_at dksX0_greatestSum_1 16 rfl rfl)
theorem dX0_greatestSum_43 : decode cX0_greatestSum 43 = .ok (.iload_n 1, 1) := dk_27 (dk_at dksX0_greatestSum_1 19 rfl rfl)
theorem dX0_greatestSum_44 : decode cX0_greatestSum 44 = .ok (.ireturn, 1) := dk_172 (dk_at dksX0_greatestSum_1 20 rfl rfl)
abbrev cX0_splint : ByteArray := prog_1_method_55_code
def yX0_splint : MethodName := ⟨RX0, "splint", "(II)I"⟩
def dkwX0_splint_3 : List UInt8 := [180, 0, 65, 21, 5, 16, 31, 182, 0, 174, 100, 96, 54, 4, 132, 5, 1, 167, 255, 228, 21, 4, 172]
abbrev dktX0_splint_3 : List UInt8 := dkwX0_splint_3 ++ []
def dkwX0_splint_2 : List UInt8 := [16, 31, 182, 0, 174, 100, 172, 3, 54, 4, 3, 54, 5, 21, 5, 16, 48, 162, 0, 27, 21, 4, 29, 42]
abbrev dktX0_splint_2 : List UInt8 := dkwX0_splint_2 ++ dktX0_splint_3
def dkwX0_splint_1 : List UInt8 := [42, 180, 0, 65, 16, 31, 182, 0, 177, 27, 96, 62, 28, 2, 159, 0, 16, 29, 42, 180, 0, 65, 28]
abbrev dktX0_splint_1 : List UInt8 := dkwX0_splint_1 ++ dktX0_splint_2
def dkwX0_splint_0 : List UInt8 := [27, 3, 16, 20, 184, 0, 16, 153, 0, 15, 28, 2, 159, 0, 12, 28, 184, 0, 121, 154, 0, 5, 2, 172]
abbrev dktX0_splint_0 : List UInt8 := dkwX0_splint_0 ++ dktX0_splint_1
theorem dksX0_splint_0 : cX0_splint.data.toList.drop 0 = dktX0_splint_0 := by decide +kernel
theorem dksX0_splint_1 : cX0_splint.data.toList.drop 24 = dktX0_splint_1 := dk_seg dksX0_splint_0 24 rfl rfl
theorem dksX0_splint_2 : cX0_splint.data.toList.drop 47 = dktX0_splint_2 := dk_seg dksX0_splint_1 23 rfl rfl
theorem dksX0_splint_3 : cX0_splint.data.toList.drop 71 = dktX0_splint_3 := dk_seg dksX0_splint_2 24 rfl rfl
theorem dX0_splint_0 : decode cX0_splint 0 = .ok (.iload_n 1, 1) := dk_27 (dk_at dksX0_splint_0 0 rfl rfl)
theorem dX0_splint_1 : decode cX0_splint 1 = .ok (.iconst 0, 1) := dk_3 (dk_at dksX0_splint_0 1 rfl rfl)
theorem dX0_splint_2 : decode cX0_splint 2 = .ok (.bipush 20, 2) := dk_16 20 (dk_at dksX0_splint_0 2 rfl rfl)
theorem dX0_splint_4 : decode cX0_splint 4 = .ok (.invokestatic 16, 3) := dk_184 0 16 (dk_at dksX0_splint_0 4 rfl rfl)
theorem dX0_splint_7 : decode cX0_splint 7 = .ok (.ifCond .eq 15, 3) := dk_153 0 15 (dk_at dksX0_splint_0 7 rfl rfl)
theorem dX0_splint_10 : decode cX0_splint 10 = .ok (.iload_n 2, 1) := dk_28 (dk_at dksX0_splint_0 10 rfl rfl)
theorem dX0_splint_11 : decode cX0_splint 11 = .ok (.iconst (-1), 1) := dk_2 (dk_at dksX0_splint_0 11 rfl rfl)
theorem dX0_splint_12 : decode cX0_splint 12 = .ok (.if_icmp .eq 12, 3) := dk_159 0 12 (dk_at dksX0_splint_0 12 rfl rfl)
theorem dX0_splint_15 : decode cX0_splint 15 = .ok (.iload_n 2, 1) := dk_28 (dk_at dksX0_splint_0 15 rfl rfl)
theorem dX0_splint_16 : decode cX0_splint 16 = .ok (.invokestatic 121, 3) := dk_184 0 121 (dk_at dksX0_splint_0 16 rfl rfl)
theorem dX0_splint_19 : decode cX0_splint 19 = .ok (.ifCond .ne 5, 3) := dk_154 0 5 (dk_at dksX0_splint_0 19 rfl rfl)
theorem dX0_splint_22 : decode cX0_splint 22 = .ok (.iconst (-1), 1) := dk_2 (dk_at dksX0_splint_0 22 rfl rfl)
theorem dX0_splint_23 : decode cX0_splint 23 = .ok (.ireturn, 1) := dk_172 (dk_at dksX0_splint_0 23 rfl rfl)
theorem dX0_splint_24 : decode cX0_splint 24 = .ok (.aload_n 0, 1) := dk_42 (dk_at dksX0_splint_1 0 rfl rfl)
theorem dX0_splint_25 : decode cX0_splint 25 = .ok (.getfield 65, 3) := dk_180 0 65 (dk_at dksX0_splint_1 1 rfl rfl)
theorem dX0_splint_28 : decode cX0_splint 28 = .ok (.bipush 31, 2) := dk_16 31 (dk_at dksX0_splint_1 4 rfl rfl)
theorem dX0_splint_30 : decode cX0_splint 30 = .ok (.invokevirtual 177, 3) := dk_182 0 177 (dk_at dksX0_splint_1 6 rfl rfl)
theorem dX0_splint_33 : decode cX0_splint 33 = .ok (.iload_n 1, 1) := dk_27 (dk_at dksX0_splint_1 9 rfl rfl)
theorem dX0_splint_34 : decode cX0_splint 34 = .ok (.iadd, 1) := dk_96 (dk_at dksX0_splint_1 10 rfl rfl)
theorem dX0_splint_35 : decode cX0_splint 35 = .ok (.istore_n 3, 1) := dk_62 (dk_at dksX0_splint_1 11 rfl rfl)
theorem dX0_splint_36 : decode cX0_splint 36 = .ok (.iload_n 2, 1) := dk_28 (dk_at dksX0_splint_1 12 rfl rfl)
theorem dX0_splint_37 : decode cX0_splint 37 = .ok (.iconst (-1), 1) := dk_2 (dk_at dksX0_splint_1 13 rfl rfl)
theorem dX0_splint_38 : decode cX0_splint 38 = .ok (.if_icmp .eq 16, 3) := dk_159 0 16 (dk_at dksX0_splint_1 14 rfl rfl)
theorem dX0_splint_41 : decode cX0_splint 41 = .ok (.iload_n 3, 1) := dk_29 (dk_at dksX0_splint_1 17 rfl rfl)
theorem dX0_splint_42 : decode cX0_splint 42 = .ok (.aload_n 0, 1) := dk_42 (dk_at dksX0_splint_1 18 rfl rfl)
theorem dX0_splint_43 : decode cX0_splint 43 = .ok (.getfield 65, 3) := dk_180 0 65 (dk_at dksX0_splint_1 19 rfl rfl)
theorem dX0_splint_46 : decode cX0_splint 46 = .ok (.iload_n 2, 1) := dk_28 (dk_at dksX0_splint_1 22 rfl rfl)
theorem dX0_splint_47 : decode cX0_splint 47 = .ok (.bipush 31, 2) := dk_16 31 (dk_at dksX0_splint_2 0 rfl rfl)
theorem dX0_splint_49 : decode cX0_splint 49 = .ok (.invokevirtual 174, 3) := dk_182 0 174 (dk_at dksX0_splint_2 2 rfl rfl)
theorem dX0_splint_52 : decode cX0_splint 52 = .ok (.isub, 1) := dk_100 (dk_at dksX0_splint_2 5 rfl rfl)
theorem dX0_splint_53 : decode cX0_splint 53 = .ok (.ireturn, 1) := dk_172 (dk_at dksX0_splint_2 6 rfl rfl)
theorem dX0_splint_54 : decode cX0_splint 54 = .ok (.iconst 0, 1) := dk_3 (dk_at dksX0_splint_2 7 rfl rfl)
theorem dX0_splint_55 : decode cX0_splint 55 = .ok (.istore 4, 2) := dk_54 4 (dk_at dksX0_splint_2 8 rfl rfl)
theorem dX0_splint_57 : decode cX0_splint 57 = .ok (.iconst 0, 1) := dk_3 (dk_at dksX0_splint_2 10 rfl rfl)
theorem dX0_splint_58 : decode cX0_splint 58 = .ok (.istore 5, 2) := dk_54 5 (dk_at dksX0_splint_2 11 rfl rfl)
theorem dX0_splint_60 : decode cX0_splint 60 = .ok (.iload 5, 2) := dk_21 5 (dk_at dksX0_splint_2 13 rfl rfl)
theorem dX0_splint_62 : decode cX0_splint 62 = .ok (.bipush 48, 2) := dk_16 48 (dk_at dksX0_splint_2 15 rfl rfl)
theorem dX0_splint_64 : decode cX0_splint 64 = .ok (.if_icmp .ge 27, 3) := dk_162 0 27 (dk_at dksX0_splint_2 17 rfl rfl)
theorem dX0_splint_67 : decode cX0_splint 67 = .ok (.iload 4, 2) := dk_21 4 (dk_at dksX0_splint_2 20 rfl rfl)
theorem dX0_splint_69 : decode cX0_splint 69 = .ok (.iload_n 3, 1) := dk_29 (dk_at dksX0_splint_2 22 rfl rfl)
theorem dX0_splint_70 : decode cX0_splint 70 = .ok (.aload_n 0, 1) := dk_42 (dk_at dksX0_splint_2 23 rfl rfl)
theorem dX0_splint_71 : decode cX0_splint 71 = .ok (.getfield 65, 3) := dk_180 0 65 (dk_at dksX0_splint_3 0 rfl rfl)
theorem dX0_splint_74 : decode cX0_splint 74 = .ok (.iload 5, 2) := dk_21 5 (dk_at dksX0_splint_3 3 rfl rfl)
theorem dX0_splint_76 : decode cX0_splint 76 = .ok (.bipush 31, 2) := dk_16 31 (dk_at dksX0_splint_3 5 rfl rfl)
theorem dX0_splint_78 : decode cX0_splint 78 = .ok (.invokevirtual 174, 3) := dk_182 0 174 (dk_at dksX0_splint_3 7 rfl rfl)
theorem dX0_splint_81 : decode cX0_splint 81 = .ok (.isub, 1) := dk_100 (dk_at dksX0_splint_3 10 rfl rfl)
theorem dX0_splint_82 : decode cX0_splint 82 = .ok (.iadd, 1) := dk_96 (dk_at dksX0_splint_3 11 rfl rfl)
theorem dX0_splint_83 : decode cX0_splint 83 = .ok (.istore 4, 2) := dk_54 4 (dk_at dksX0_splint_3 12 rfl rfl)
theorem dX0_splint_85 : decode cX0_splint 85 = .ok (.iinc 5 1, 3) := dk_132 5 1 (dk_at dksX0_splint_3 14 rfl rfl)
theorem dX0_splint_88 : decode cX0_splint 88 = .ok (.goto (-28), 3) := dk_167 255 228 (dk_at dksX0_splint_3 17 rfl rfl)
theorem dX0_splint_91 : decode cX0_splint 91 = .ok (.iload 4, 2) := dk_21 4 (dk_at dksX0_splint_3 20 rfl rfl)
theorem dX0_splint_93 : decode cX0_splint 93 = .ok (.ireturn, 1) := dk_172 (dk_at dksX0_splint_3 22 rfl rfl)
abbrev cX0_turnedOver : ByteArray := prog_1_method_56_code
def yX0_turnedOver : MethodName := ⟨RX0, "turnedOver", "(I)I"⟩
def dkwX0_turnedOver_3 : List UInt8 := [182, 0, 245, 167, 0, 7, 42, 182, 0, 248, 172]
abbrev dktX0_turnedOver_3 : List UInt8 := dkwX0_turnedOver_3 ++ []
def dkwX0_turnedOver_2 : List UInt8 := [112, 100, 28, 16, 8, 108, 184, 0, 27, 46, 96, 79, 132, 2, 1, 167, 255, 205, 27, 154, 0, 10, 42]
abbrev dktX0_turnedOver_2 : List UInt8 := dkwX0_turnedOver_2 ++ dktX0_turnedOver_3
def dkwX0_turnedOver_1 : List UInt8 := [180, 0, 65, 180, 0, 124, 4, 50, 28, 46, 42, 180, 0, 65, 180, 0, 124, 3, 50, 16, 7, 28, 16, 8]
abbrev dktX0_turnedOver_1 : List UInt8 := dkwX0_turnedOver_1 ++ dktX0_turnedOver_2
def dkwX0_turnedOver_0 : List UInt8 := [27, 5, 184, 0, 12, 154, 0, 5, 2, 172, 3, 61, 28, 16, 48, 162, 0, 51, 42, 180, 0, 104, 28, 42]
abbrev dktX0_turnedOver_0 : List UInt8 := dkwX0_turnedOver_0 ++ dktX0_turnedOver_1
theorem dksX0_turnedOver_0 : cX0_turnedOver.data.toList.drop 0 = dktX0_turnedOver_0 := by decide +kernel
theorem dksX0_turnedOver_1 : cX0_turnedOver.data.toList.drop 24 = dktX0_turnedOver_1 := dk_seg dksX0_turnedOver_0 24 rfl rfl
theorem dksX0_turnedOver_2 : cX0_turnedOver.data.toList.drop 48 = dktX0_turnedOver_2 := dk_seg dksX0_turnedOver_1 24 rfl rfl
theorem dksX0_turnedOver_3 : cX0_turnedOver.data.toList.drop 71 = dktX0_turnedOver_3 := dk_seg dksX0_turnedOver_2 23 rfl rfl
theorem dX0_turnedOver_0 : decode cX0_turnedOver 0 = .ok (.iload_n 1, 1) := dk_27 (dk_at dksX0_turnedOver_0 0 rfl rfl)
theorem dX0_turnedOver_1 : decode cX0_turnedOver 1 = .ok (.iconst 2, 1) := dk_5 (dk_at dksX0_turnedOver_0 1 rfl rfl)
theorem dX0_turnedOver_2 : decode cX0_turnedOver 2 = .ok (.invokestatic 12, 3) := dk_184 0 12 (dk_at dksX0_turnedOver_0 2 rfl rfl)
theorem dX0_turnedOver_5 : decode cX0_turnedOver 5 = .ok (.ifCond .ne 5, 3) := dk_154 0 5 (dk_at dksX0_turnedOver_0 5 rfl rfl)
theorem dX0_turnedOver_8 : decode cX0_turnedOver 8 = .ok (.iconst (-1), 1) := dk_2 (dk_at dksX0_turnedOver_0 8 rfl rfl)
theorem dX0_turnedOver_9 : decode cX0_turnedOver 9 = .ok (.ireturn, 1) := dk_172 (dk_at dksX0_turnedOver_0 9 rfl rfl)
theorem dX0_turnedOver_10 : decode cX0_turnedOver 10 = .ok (.iconst 0, 1) := dk_3 (dk_at dksX0_turnedOver_0 10 rfl rfl)
theorem dX0_turnedOver_11 : decode cX0_turnedOver 11 = .ok (.istore_n 2, 1) := dk_61 (dk_at dksX0_turnedOver_0 11 rfl rfl)
theorem dX0_turnedOver_12 : decode cX0_turnedOver 12 = .ok (.iload_n 2, 1) := dk_28 (dk_at dksX0_turnedOver_0 12 rfl rfl)
theorem dX0_turnedOver_13 : decode cX0_turnedOver 13 = .ok (.bipush 48, 2) := dk_16 48 (dk_at dksX0_turnedOver_0 13 rfl rfl)
theorem dX0_turnedOver_15 : decode cX0_turnedOver 15 = .ok (.if_icmp .ge 51, 3) := dk_162 0 51 (dk_at dksX0_turnedOver_0 15 rfl rfl)
theorem dX0_turnedOver_18 : decode cX0_turnedOver 18 = .ok (.aload_n 0, 1) := dk_42 (dk_at dksX0_turnedOver_0 18 rfl rfl)
theorem dX0_turnedOver_19 : decode cX0_turnedOver 19 = .ok (.getfield 104, 3) := dk_180 0 104 (dk_at dksX0_turnedOver_0 19 rfl rfl)
theorem dX0_turnedOver_22 : decode cX0_turnedOver 22 = .ok (.iload_n 2, 1) := dk_28 (dk_at dksX0_turnedOver_0 22 rfl rfl)
theorem dX0_turnedOver_23 : decode cX0_turnedOver 23 = .ok (.aload_n 0, 1) := dk_42 (dk_at dksX0_turnedOver_0 23 rfl rfl)
theorem dX0_turnedOver_24 : decode cX0_turnedOver 24 = .ok (.getfield 65, 3) := dk_180 0 65 (dk_at dksX0_turnedOver_1 0 rfl rfl)
theorem dX0_turnedOver_27 : decode cX0_turnedOver 27 = .ok (.getfield 124, 3) := dk_180 0 124 (dk_at dksX0_turnedOver_1 3 rfl rfl)
theorem dX0_turnedOver_30 : decode cX0_turnedOver 30 = .ok (.iconst 1, 1) := dk_4 (dk_at dksX0_turnedOver_1 6 rfl rfl)
theorem dX0_turnedOver_31 : decode cX0_turnedOver 31 = .ok (.aaload, 1) := dk_50 (dk_at dksX0_turnedOver_1 7 rfl rfl)
theorem dX0_turnedOver_32 : decode cX0_turnedOver 32 = .ok (.iload_n 2, 1) := dk_28 (dk_at dksX0_turnedOver_1 8 rfl rfl)
theorem dX0_turnedOver_33 : decode cX0_turnedOver 33 = .ok (.iaload, 1) := dk_46 (dk_at dksX0_turnedOver_1 9 rfl rfl)
theorem dX0_turnedOver_34 : decode cX0_turnedOver 34 = .ok (.aload_n 0, 1) := dk_42 (dk_at dksX0_turnedOver_1 10 rfl rfl)
theorem dX0_turnedOver_35 : decode cX0_turnedOver 35 = .ok (.getfield 65, 3) := dk_180 0 65 (dk_at dksX0_turnedOver_1 11 rfl rfl)
theorem dX0_turnedOver_38 : decode cX0_turnedOver 38 = .ok (.getfield 124, 3) := dk_180 0 124 (dk_at dksX0_turnedOver_1 14 rfl rfl)
theorem dX0_turnedOver_41 : decode cX0_turnedOver 41 = .ok (.iconst 0, 1) := dk_3 (dk_at dksX0_turnedOver_1 17 rfl rfl)
theorem dX0_turnedOver_42 : decode cX0_turnedOver 42 = .ok (.aaload, 1) := dk_50 (dk_at dksX0_turnedOver_1 18 rfl rfl)
theorem dX0_turnedOver_43 : decode cX0_turnedOver 43 = .ok (.bipush 7, 2) := dk_16 7 (dk_at dksX0_turnedOver_1 19 rfl rfl)
theorem dX0_turnedOver_45 : decode cX0_turnedOver 45 = .ok (.iload_n 2, 1) := dk_28 (dk_at dksX0_turnedOver_1 21 rfl rfl)
theorem dX0_turnedOver_46 : decode cX0_turnedOver 46 = .ok (.bipush 8, 2) := dk_16 8 (dk_at dksX0_turnedOver_1 22 rfl rfl)
theorem dX0_turnedOver_48 : decode cX0_turnedOver 48 = .ok (.irem, 1) := dk_112 (dk_at dksX0_turnedOver_2 0 rfl rfl)
theorem dX0_turnedOver_49 : decode cX0_turnedOver 49 = .ok (.isub, 1) := dk_100 (dk_at dksX0_turnedOver_2 1 rfl rfl)
theorem dX0_turnedOver_50 : decode cX0_turnedOver 50 = .ok (.iload_n 2, 1) := dk_28 (dk_at dksX0_turnedOver_2 2 rfl rfl)
theorem dX0_turnedOver_51 : decode cX0_turnedOver 51 = .ok (.bipush 8, 2) := dk_16 8 (dk_at dksX0_turnedOver_2 3 rfl rfl)
theorem dX0_turnedOver_53 : decode cX0_turnedOver 53 = .ok (.idiv, 1) := dk_108 (dk_at dksX0_turnedOver_2 5 rfl rfl)
theorem dX0_turnedOver_54 : decode cX0_turnedOver 54 = .ok (.invokestatic 27, 3) := dk_184 0 27 (dk_at dksX0_turnedOver_2 6 rfl rfl)
theorem dX0_turnedOver_57 : decode cX0_turnedOver 57 = .ok (.iaload, 1) := dk_46 (dk_at dksX0_turnedOver_2 9 rfl rfl)
theorem dX0_turnedOver_58 : decode cX0_turnedOver 58 = .ok (.iadd, 1) := dk_96 (dk_at dksX0_turnedOver_2 10 rfl rfl)
theorem dX0_turnedOver_59 : decode cX0_turnedOver 59 = .ok (.iastore, 1) := dk_79 (dk_at dksX0_turnedOver_2 11 rfl rfl)
theorem dX0_turnedOver_60 : decode cX0_turnedOver 60 = .ok (.iinc 2 1, 3) := dk_132 2 1 (dk_at dksX0_turnedOver_2 12 rfl rfl)
theorem dX0_turnedOver_63 : decode cX0_turnedOver 63 = .ok (.goto (-51), 3) := dk_167 255 205 (dk_at dksX0_turnedOver_2 15 rfl rfl)
theorem dX0_turnedOver_66 : decode cX0_turnedOver 66 = .ok (.iload_n 1, 1) := dk_27 (dk_at dksX0_turnedOver_2 18 rfl rfl)
theorem dX0_turnedOver_67 : decode cX0_turnedOver 67 = .ok (.ifCond .ne 10, 3) := dk_154 0 10 (dk_at dksX0_turnedOver_2 19 rfl rfl)
theorem dX0_turnedOver_70 : decode cX0_turnedOver 70 = .ok (.aload_n 0, 1) := dk_42 (dk_at dksX0_turnedOver_2 22 rfl rfl)
theorem dX0_turnedOver_71 : decode cX0_turnedOver 71 = .ok (.invokevirtual 245, 3) := dk_182 0 245 (dk_at dksX0_turnedOver_3 0 rfl rfl)
theorem dX0_turnedOver_74 : decode cX0_turnedOver 74 = .ok (.goto 7, 3) := dk_167 0 7 (dk_at dksX0_turnedOver_3 3 rfl rfl)
theorem dX0_turnedOver_77 : decode cX0_turnedOver 77 = .ok (.aload_n 0, 1) := dk_42 (dk_at dksX0_turnedOver_3 6 rfl rfl)
theorem dX0_turnedOver_78 : decode cX0_turnedOver 78 = .ok (.invokevirtual 248, 3) := dk_182 0 248 (dk_at dksX0_turnedOver_3 7 rfl rfl)
theorem dX0_turnedOver_81 : decode cX0_turnedOver 81 = .ok (.ireturn, 1) := dk_172 (dk_at dksX0_turnedOver_3 10 rfl rfl)
abbrev cX0_castIs : ByteArray := prog_1_method_61_code
def yX0_castIs : MethodName := ⟨RX0, "castIs", "(II)I"⟩
def dkwX0_castIs_3 : List UInt8 := [182, 1, 6, 172, 42, 180, 0, 65, 180, 0, 154, 27, 46, 172, 2, 172]
abbrev dktX0_castIs_3 : List UInt8 := dkwX0_castIs_3 ++ []
def dkwX0_castIs_2 : List UInt8 := [42, 27, 4, 182, 1, 2, 172, 42, 27, 3, 182, 1, 2, 172, 42, 27, 3, 182, 0, 207, 172, 42, 27]
abbrev dktX0_castIs_2 : List UInt8 := dkwX0_castIs_2 ++ dktX0_castIs_3
def dkwX0_castIs_1 : List UInt8 := [170, 0, 0, 0, 0, 71, 0, 0, 0, 0, 0, 0, 0, 4, 0, 0, 0, 34, 0, 0, 0, 41, 0, 0, 0, 48, 0, 0, 0, 55, 0, 0, 0, 61]
abbrev dktX0_castIs_1 : List UInt8 := dkwX0_castIs_1 ++ dktX0_castIs_2
def dkwX0_castIs_0 : List UInt8 := [27, 184, 0, 117, 154, 0, 5, 2, 172, 28]
abbrev dktX0_castIs_0 : List UInt8 := dkwX0_castIs_0 ++ dktX0_castIs_1
theorem dksX0_castIs_0 : cX0_castIs.data.toList.drop 0 = dktX0_castIs_0 := by decide +kernel
theorem dksX0_castIs_1 : cX0_castIs.data.toList.drop 10 = dktX0_castIs_1 := dk_seg dksX0_castIs_0 10 rfl rfl
theorem dksX0_castIs_2 : cX0_castIs.data.toList.drop 44 = dktX0_castIs_2 := dk_seg dksX0_castIs_1 34 rfl rfl
theorem dksX0_castIs_3 : cX0_castIs.data.toList.drop 67 = dktX0_castIs_3 := dk_seg dksX0_castIs_2 23 rfl rfl
theorem dX0_castIs_0 : decode cX0_castIs 0 = .ok (.iload_n 1, 1) := dk_27 (dk_at dksX0_castIs_0 0 rfl rfl)
theorem dX0_castIs_1 : decode cX0_castIs 1 = .ok (.invokestatic 117, 3) := dk_184 0 117 (dk_at dksX0_castIs_0 1 rfl rfl)
theorem dX0_castIs_4 : decode cX0_castIs 4 = .ok (.ifCond .ne 5, 3) := dk_154 0 5 (dk_at dksX0_castIs_0 4 rfl rfl)
theorem dX0_castIs_7 : decode cX0_castIs 7 = .ok (.iconst (-1), 1) := dk_2 (dk_at dksX0_castIs_0 7 rfl rfl)
theorem dX0_castIs_8 : decode cX0_castIs 8 = .ok (.ireturn, 1) := dk_172 (dk_at dksX0_castIs_0 8 rfl rfl)
theorem dX0_castIs_9 : decode cX0_castIs 9 = .ok (.iload_n 2, 1) := dk_28 (dk_at dksX0_castIs_0 9 rfl rfl)
theorem dX0_castIs_10 : decode cX0_castIs 10 = .ok (.tableswitch 71 0 4 #[34, 41, 48, 55, 61], 34) := by decide +kernel
theorem dX0_castIs_44 : decode cX0_castIs 44 = .ok (.aload_n 0, 1) := dk_42 (dk_at dksX0_castIs_2 0 rfl rfl)
theorem dX0_castIs_45 : decode cX0_castIs 45 = .ok (.iload_n 1, 1) := dk_27 (dk_at dksX0_castIs_2 1 rfl rfl)
theorem dX0_castIs_46 : decode cX0_castIs 46 = .ok (.iconst 1, 1) := dk_4 (dk_at dksX0_castIs_2 2 rfl rfl)
theorem dX0_castIs_47 : decode cX0_castIs 47 = .ok (.invokevirtual 258, 3) := dk_182 1 2 (dk_at dksX0_castIs_2 3 rfl rfl)
theorem dX0_castIs_50 : decode cX0_castIs 50 = .ok (.ireturn, 1) := dk_172 (dk_at dksX0_castIs_2 6 rfl rfl)
theorem dX0_castIs_51 : decode cX0_castIs 51 = .ok (.aload_n 0, 1) := dk_42 (dk_at dksX0_castIs_2 7 rfl rfl)
theorem dX0_castIs_52 : decode cX0_castIs 52 = .ok (.iload_n 1, 1) := dk_27 (dk_at dksX0_castIs_2 8 rfl rfl)
theorem dX0_castIs_53 : decode cX0_castIs 53 = .ok (.iconst 0, 1) := dk_3 (dk_at dksX0_castIs_2 9 rfl rfl)
theorem dX0_castIs_54 : decode cX0_castIs 54 = .ok (.invokevirtual 258, 3) := dk_182 1 2 (dk_at dksX0_castIs_2 10 rfl rfl)
theorem dX0_castIs_57 : decode cX0_castIs 57 = .ok (.ireturn, 1) := dk_172 (dk_at dksX0_castIs_2 13 rfl rfl)
theorem dX0_castIs_58 : decode cX0_castIs 58 = .ok (.aload_n 0, 1) := dk_42 (dk_at dksX0_castIs_2 14 rfl rfl)
theorem dX0_castIs_59 : decode cX0_castIs 59 = .ok (.iload_n 1, 1) := dk_27 (dk_at dksX0_castIs_2 15 rfl rfl)
theorem dX0_castIs_60 : decode cX0_castIs 60 = .ok (.iconst 0, 1) := dk_3 (dk_at dksX0_castIs_2 16 rfl rfl)
theorem dX0_castIs_61 : decode cX0_castIs 61 = .ok (.invokevirtual 207, 3) := dk_182 0 207 (dk_at dksX0_castIs_2 17 rfl rfl)
theorem dX0_castIs_64 : decode cX0_castIs 64 = .ok (.ireturn, 1) := dk_172 (dk_at dksX0_castIs_2 20 rfl rfl)
theorem dX0_castIs_65 : decode cX0_castIs 65 = .ok (.aload_n 0, 1) := dk_42 (dk_at dksX0_castIs_2 21 rfl rfl)
theorem dX0_castIs_66 : decode cX0_castIs 66 = .ok (.iload_n 1, 1) := dk_27 (dk_at dksX0_castIs_2 22 rfl rfl)
theorem dX0_castIs_67 : decode cX0_castIs 67 = .ok (.invokevirtual 262, 3) := dk_182 1 6 (dk_at dksX0_castIs_3 0 rfl rfl)
theorem dX0_castIs_70 : decode cX0_castIs 70 = .ok (.ireturn, 1) := dk_172 (dk_at dksX0_castIs_3 3 rfl rfl)
theorem dX0_castIs_71 : decode cX0_castIs 71 = .ok (.aload_n 0, 1) := dk_42 (dk_at dksX0_castIs_3 4 rfl rfl)
theorem dX0_castIs_72 : decode cX0_castIs 72 = .ok (.getfield 65, 3) := dk_180 0 65 (dk_at dksX0_castIs_3 5 rfl rfl)
theorem dX0_castIs_75 : decode cX0_castIs 75 = .ok (.getfield 154, 3) := dk_180 0 154 (dk_at dksX0_castIs_3 8 rfl rfl)
theorem dX0_castIs_78 : decode cX0_castIs 78 = .ok (.iload_n 1, 1) := dk_27 (dk_at dksX0_castIs_3 11 rfl rfl)
theorem dX0_castIs_79 : decode cX0_castIs 79 = .ok (.iaload, 1) := dk_46 (dk_at dksX0_castIs_3 12 rfl rfl)
theorem dX0_castIs_80 : decode cX0_castIs 80 = .ok (.ireturn, 1) := dk_172 (dk_at dksX0_castIs_3 13 rfl rfl)
theorem dX0_castIs_81 : decode cX0_castIs 81 = .ok (.iconst (-1), 1) := dk_2 (dk_at dksX0_castIs_3 14 rfl rfl)
theorem dX0_castIs_82 : decode cX0_castIs 82 = .ok (.ireturn, 1) := dk_172 (dk_at dksX0_castIs_3 15 rfl rfl)
abbrev cX0_extremes : ByteArray := prog_1_method_59_code
def yX0_extremes : MethodName := ⟨RX0, "extremes", "(IZ)I"⟩
def dkwX0_extremes_1 : List UInt8 := [4, 167, 0, 4, 3, 96, 62, 132, 4, 1, 167, 255, 227, 29, 172]
abbrev dktX0_extremes_1 : List UInt8 := dkwX0_extremes_1 ++ []
def dkwX0_extremes_0 : List UInt8 := [3, 62, 3, 54, 4, 21, 4, 16, 48, 162, 0, 28, 29, 42, 27, 21, 4, 28, 182, 0, 254, 153, 0, 7]
abbrev dktX0_extremes_0 : List UInt8 := dkwX0_extremes_0 ++ dktX0_extremes_1
theorem dksX0_extremes_0 : cX0_extremes.data.toList.drop 0 = dktX0_extremes_0 := by decide +kernel
theorem dksX0_extremes_1 : cX0_extremes.data.toList.drop 24 = dktX0_extremes_1 := dk_seg dksX0_extremes_0 24 rfl rfl
theorem dX0_extremes_0 : decode cX0_extremes 0 = .ok (.iconst 0, 1) := dk_3 (dk_at dksX0_extremes_0 0 rfl rfl)
theorem dX0_extremes_1 : decode cX0_extremes 1 = .ok (.istore_n 3, 1) := dk_62 (dk_at dksX0_extremes_0 1 rfl rfl)
theorem dX0_extremes_2 : decode cX0_extremes 2 = .ok (.iconst 0, 1) := dk_3 (dk_at dksX0_extremes_0 2 rfl rfl)
theorem dX0_extremes_3 : decode cX0_extremes 3 = .ok (.istore 4, 2) := dk_54 4 (dk_at dksX0_extremes_0 3 rfl rfl)
theorem dX0_extremes_5 : decode cX0_extremes 5 = .ok (.iload 4, 2) := dk_21 4 (dk_at dksX0_extremes_0 5 rfl rfl)
theorem dX0_extremes_7 : decode cX0_extremes 7 = .ok (.bipush 48, 2) := dk_16 48 (dk_at dksX0_extremes_0 7 rfl rfl)
theorem dX0_extremes_9 : decode cX0_extremes 9 = .ok (.if_icmp .ge 28, 3) := dk_162 0 28 (dk_at dksX0_extremes_0 9 rfl rfl)
theorem dX0_extremes_12 : decode cX0_extremes 12 = .ok (.iload_n 3, 1) := dk_29 (dk_at dksX0_extremes_0 12 rfl rfl)
theorem dX0_extremes_13 : decode cX0_extremes 13 = .ok (.aload_n 0, 1) := dk_42 (dk_at dksX0_extremes_0 13 rfl rfl)
theorem dX0_extremes_14 : decode cX0_extremes 14 = .ok (.iload_n 1, 1) := dk_27 (dk_at dksX0_extremes_0 14 rfl rfl)
theorem dX0_extremes_15 : decode cX0_extremes 15 = .ok (.iload 4, 2) := dk_21 4 (dk_at dksX0_extremes_0 15 rfl rfl)
theorem dX0_extremes_17 : decode cX0_extremes 17 = .ok (.iload_n 2, 1) := dk_28 (dk_at dksX0_extremes_0 17 rfl rfl)
theorem dX0_extremes_18 : decode cX0_extremes 18 = .ok (.invokevirtual 254, 3) := dk_182 0 254 (dk_at dksX0_extremes_0 18 rfl rfl)
theorem dX0_extremes_21 : decode cX0_extremes 21 = .ok (.ifCond .eq 7, 3) := dk_153 0 7 (dk_at dksX0_extremes_0 21 rfl rfl)
theorem dX0_extremes_24 : decode cX0_extremes 24 = .ok (.iconst 1, 1) := dk_4 (dk_at dksX0_extremes_1 0 rfl rfl)
theorem dX0_extremes_25 : decode cX0_extremes 25 = .ok (.goto 4, 3) := dk_167 0 4 (dk_at dksX0_extremes_1 1 rfl rfl)
theorem dX0_extremes_28 : decode cX0_extremes 28 = .ok (.iconst 0, 1) := dk_3 (dk_at dksX0_extremes_1 4 rfl rfl)
theorem dX0_extremes_29 : decode cX0_extremes 29 = .ok (.iadd, 1) := dk_96 (dk_at dksX0_extremes_1 5 rfl rfl)
theorem dX0_extremes_30 : decode cX0_extremes 30 = .ok (.istore_n 3, 1) := dk_62 (dk_at dksX0_extremes_1 6 rfl rfl)
theorem dX0_extremes_31 : decode cX0_extremes 31 = .ok (.iinc 4 1, 3) := dk_132 4 1 (dk_at dksX0_extremes_1 7 rfl rfl)
theorem dX0_extremes_34 : decode cX0_extremes 34 = .ok (.goto (-29), 3) := dk_167 255 227 (dk_at dksX0_extremes_1 10 rfl rfl)
theorem dX0_extremes_37 : decode cX0_extremes 37 = .ok (.iload_n 3, 1) := dk_29 (dk_at dksX0_extremes_1 13 rfl rfl)
theorem dX0_extremes_38 : decode cX0_extremes 38 = .ok (.ireturn, 1) := dk_172 (dk_at dksX0_extremes_1 14 rfl rfl)
abbrev cX0_isAbove : ByteArray := prog_1_method_58_code
def yX0_isAbove : MethodName := ⟨RX0, "isAbove", "(IIZ)Z"⟩
def dkwX0_isAbove_3 : List UInt8 := [21, 6, 155, 0, 5, 3, 172, 132, 4, 1, 167, 255, 178, 4, 172]
abbrev dktX0_isAbove_3 : List UInt8 := dkwX0_isAbove_3 ++ []
def dkwX0_isAbove_2 : List UInt8 := [21, 5, 46, 100, 54, 6, 21, 5, 2, 159, 0, 22, 29, 153, 0, 11, 21, 6, 157, 0, 13, 167, 0, 8]
abbrev dktX0_isAbove_2 : List UInt8 := dkwX0_isAbove_2 ++ dktX0_isAbove_3
def dkwX0_isAbove_1 : List UInt8 := [167, 0, 27, 42, 180, 0, 65, 180, 0, 124, 27, 50, 28, 46, 42, 180, 0, 65, 180, 0, 124, 27, 50]
abbrev dktX0_isAbove_1 : List UInt8 := dkwX0_isAbove_1 ++ dktX0_isAbove_2
def dkwX0_isAbove_0 : List UInt8 := [3, 54, 4, 21, 4, 7, 162, 0, 78, 28, 21, 4, 184, 0, 217, 54, 5, 21, 5, 2, 160, 0, 7, 3]
abbrev dktX0_isAbove_0 : List UInt8 := dkwX0_isAbove_0 ++ dktX0_isAbove_1
theorem dksX0_isAbove_0 : cX0_isAbove.data.toList.drop 0 = dktX0_isAbove_0 := by decide +kernel
theorem dksX0_isAbove_1 : cX0_isAbove.data.toList.drop 24 = dktX0_isAbove_1 := dk_seg dksX0_isAbove_0 24 rfl rfl
theorem dksX0_isAbove_2 : cX0_isAbove.data.toList.drop 47 = dktX0_isAbove_2 := dk_seg dksX0_isAbove_1 23 rfl rfl
theorem dksX0_isAbove_3 : cX0_isAbove.data.toList.drop 71 = dktX0_isAbove_3 := dk_seg dksX0_isAbove_2 24 rfl rfl
theorem dX0_isAbove_0 : decode cX0_isAbove 0 = .ok (.iconst 0, 1) := dk_3 (dk_at dksX0_isAbove_0 0 rfl rfl)
theorem dX0_isAbove_1 : decode cX0_isAbove 1 = .ok (.istore 4, 2) := dk_54 4 (dk_at dksX0_isAbove_0 1 rfl rfl)
theorem dX0_isAbove_3 : decode cX0_isAbove 3 = .ok (.iload 4, 2) := dk_21 4 (dk_at dksX0_isAbove_0 3 rfl rfl)
theorem dX0_isAbove_5 : decode cX0_isAbove 5 = .ok (.iconst 4, 1) := dk_7 (dk_at dksX0_isAbove_0 5 rfl rfl)
theorem dX0_isAbove_6 : decode cX0_isAbove 6 = .ok (.if_icmp .ge 78, 3) := dk_162 0 78 (dk_at dksX0_isAbove_0 6 rfl rfl)
theorem dX0_isAbove_9 : decode cX0_isAbove 9 = .ok (.iload_n 2, 1) := dk_28 (dk_at dksX0_isAbove_0 9 rfl rfl)
theorem dX0_isAbove_10 : decode cX0_isAbove 10 = .ok (.iload 4, 2) := dk_21 4 (dk_at dksX0_isAbove_0 10 rfl rfl)
theorem dX0_isAbove_12 : decode cX0_isAbove 12 = .ok (.invokestatic 217, 3) := dk_184 0 217 (dk_at dksX0_isAbove_0 12 rfl rfl)
theorem dX0_isAbove_15 : decode cX0_isAbove 15 = .ok (.istore 5, 2) := dk_54 5 (dk_at dksX0_isAbove_0 15 rfl rfl)
theorem dX0_isAbove_17 : decode cX0_isAbove 17 = .ok (.iload 5, 2) := dk_21 5 (dk_at dksX0_isAbove_0 17 rfl rfl)
theorem dX0_isAbove_19 : decode cX0_isAbove 19 = .ok (.iconst (-1), 1) := dk_2 (dk_at dksX0_isAbove_0 19 rfl rfl)
theorem dX0_isAbove_20 : decode cX0_isAbove 20 = .ok (.if_icmp .ne 7, 3) := dk_160 0 7 (dk_at dksX0_isAbove_0 20 rfl rfl)
theorem dX0_isAbove_23 : decode cX0_isAbove 23 = .ok (.iconst 0, 1) := dk_3 (dk_at dksX0_isAbove_0 23 rfl rfl)
theorem dX0_isAbove_24 : decode cX0_isAbove 24 = .ok (.goto 27, 3) := dk_167 0 27 (dk_at dksX0_isAbove_1 0 rfl rfl)
theorem dX0_isAbove_27 : decode cX0_isAbove 27 = .ok (.aload_n 0, 1) := dk_42 (dk_at dksX0_isAbove_1 3 rfl rfl)
theorem dX0_isAbove_28 : decode cX0_isAbove 28 = .ok (.getfield 65, 3) := dk_180 0 65 (dk_at dksX0_isAbove_1 4 rfl rfl)
theorem dX0_isAbove_31 : decode cX0_isAbove 31 = .ok (.getfield 124, 3) := dk_180 0 124 (dk_at dksX0_isAbove_1 7 rfl rfl)
theorem dX0_isAbove_34 : decode cX0_isAbove 34 = .ok (.iload_n 1, 1) := dk_27 (dk_at dksX0_isAbove_1 10 rfl rfl)
theorem dX0_isAbove_35 : decode cX0_isAbove 35 = .ok (.aaload, 1) := dk_50 (dk_at dksX0_isAbove_1 11 rfl rfl)
theorem dX0_isAbove_36 : decode cX0_isAbove 36 = .ok (.iload_n 2, 1) := dk_28 (dk_at dksX0_isAbove_1 12 rfl rfl)
theorem dX0_isAbove_37 : decode cX0_isAbove 37 = .ok (.iaload, 1) := dk_46 (dk_at dksX0_isAbove_1 13 rfl rfl)
theorem dX0_isAbove_38 : decode cX0_isAbove 38 = .ok (.aload_n 0, 1) := dk_42 (dk_at dksX0_isAbove_1 14 rfl rfl)
theorem dX0_isAbove_39 : decode cX0_isAbove 39 = .ok (.getfield 65, 3) := dk_180 0 65 (dk_at dksX0_isAbove_1 15 rfl rfl)
theorem dX0_isAbove_42 : decode cX0_isAbove 42 = .ok (.getfield 124, 3) := dk_180 0 124 (dk_at dksX0_isAbove_1 18 rfl rfl)
theorem dX0_isAbove_45 : decode cX0_isAbove 45 = .ok (.iload_n 1, 1) := dk_27 (dk_at dksX0_isAbove_1 21 rfl rfl)
theorem dX0_isAbove_46 : decode cX0_isAbove 46 = .ok (.aaload, 1) := dk_50 (dk_at dksX0_isAbove_1 22 rfl rfl)
theorem dX0_isAbove_47 : decode cX0_isAbove 47 = .ok (.iload 5, 2) := dk_21 5 (dk_at dksX0_isAbove_2 0 rfl rfl)
theorem dX0_isAbove_49 : decode cX0_isAbove 49 = .ok (.iaload, 1) := dk_46 (dk_at dksX0_isAbove_2 2 rfl rfl)
theorem dX0_isAbove_50 : decode cX0_isAbove 50 = .ok (.isub, 1) := dk_100 (dk_at dksX0_isAbove_2 3 rfl rfl)
theorem dX0_isAbove_51 : decode cX0_isAbove 51 = .ok (.istore 6, 2) := dk_54 6 (dk_at dksX0_isAbove_2 4 rfl rfl)
theorem dX0_isAbove_53 : decode cX0_isAbove 53 = .ok (.iload 5, 2) := dk_21 5 (dk_at dksX0_isAbove_2 6 rfl rfl)
theorem dX0_isAbove_55 : decode cX0_isAbove 55 = .ok (.iconst (-1), 1) := dk_2 (dk_at dksX0_isAbove_2 8 rfl rfl)
theorem dX0_isAbove_56 : decode cX0_isAbove 56 = .ok (.if_icmp .eq 22, 3) := dk_159 0 22 (dk_at dksX0_isAbove_2 9 rfl rfl)
theorem dX0_isAbove_59 : decode cX0_isAbove 59 = .ok (.iload_n 3, 1) := dk_29 (dk_at dksX0_isAbove_2 12 rfl rfl)
theorem dX0_isAbove_60 : decode cX0_isAbove 60 = .ok (.ifCond .eq 11, 3) := dk_153 0 11 (dk_at dksX0_isAbove_2 13 rfl rfl)
theorem dX0_isAbove_63 : decode cX0_isAbove 63 = .ok (.iload 6, 2) := dk_21 6 (dk_at dksX0_isAbove_2 16 rfl rfl)
theorem dX0_isAbove_65 : decode cX0_isAbove 65 = .ok (.ifCond .gt 13, 3) := dk_157 0 13 (dk_at dksX0_isAbove_2 18 rfl rfl)
theorem dX0_isAbove_68 : decode cX0_isAbove 68 = .ok (.goto 8, 3) := dk_167 0 8 (dk_at dksX0_isAbove_2 21 rfl rfl)
theorem dX0_isAbove_71 : decode cX0_isAbove 71 = .ok (.iload 6, 2) := dk_21 6 (dk_at dksX0_isAbove_3 0 rfl rfl)
theorem dX0_isAbove_73 : decode cX0_isAbove 73 = .ok (.ifCond .lt 5, 3) := dk_155 0 5 (dk_at dksX0_isAbove_3 2 rfl rfl)
theorem dX0_isAbove_76 : decode cX0_isAbove 76 = .ok (.iconst 0, 1) := dk_3 (dk_at dksX0_isAbove_3 5 rfl rfl)
theorem dX0_isAbove_77 : decode cX0_isAbove 77 = .ok (.ireturn, 1) := dk_172 (dk_at dksX0_isAbove_3 6 rfl rfl)
theorem dX0_isAbove_78 : decode cX0_isAbove 78 = .ok (.iinc 4 1, 3) := dk_132 4 1 (dk_at dksX0_isAbove_3 7 rfl rfl)
theorem dX0_isAbove_81 : decode cX0_isAbove 81 = .ok (.goto (-78), 3) := dk_167 255 178 (dk_at dksX0_isAbove_3 10 rfl rfl)
theorem dX0_isAbove_84 : decode cX0_isAbove 84 = .ok (.iconst 1, 1) := dk_4 (dk_at dksX0_isAbove_3 13 rfl rfl)
theorem dX0_isAbove_85 : decode cX0_isAbove 85 = .ok (.ireturn, 1) := dk_172 (dk_at dksX0_isAbove_3 14 rfl rfl)
abbrev cX0_highestPlace : ByteArray := prog_1_method_60_code
def yX0_highestPlace : MethodName := ⟨RX0, "highestPlace", "(I)I"⟩
def dkwX0_highestPlace_1 : List UInt8 := [180, 0, 65, 180, 0, 124, 27, 50, 28, 46, 164, 0, 5, 29, 61, 132, 3, 1, 167, 255, 220, 28, 172]
abbrev dktX0_highestPlace_1 : List UInt8 := dkwX0_highestPlace_1 ++ []
def dkwX0_highestPlace_0 : List UInt8 := [3, 61, 4, 62, 29, 16, 48, 162, 0, 36, 42, 180, 0, 65, 180, 0, 124, 27, 50, 29, 46, 42]
abbrev dktX0_highestPlace_0 : List UInt8 := dkwX0_highestPlace_0 ++ dktX0_highestPlace_1
theorem dksX0_highestPlace_0 : cX0_highestPlace.data.toList.drop 0 = dktX0_highestPlace_0 := by decide +kernel
theorem dksX0_highestPlace_1 : cX0_highestPlace.data.toList.drop 22 = dktX0_highestPlace_1 := dk_seg dksX0_highestPlace_0 22 rfl rfl
theorem dX0_highestPlace_0 : decode cX0_highestPlace 0 = .ok (.iconst 0, 1) := dk_3 (dk_at dksX0_highestPlace_0 0 rfl rfl)
theorem dX0_highestPlace_1 : decode cX0_highestPlace 1 = .ok (.istore_n 2, 1) := dk_61 (dk_at dksX0_highestPlace_0 1 rfl rfl)
theorem dX0_highestPlace_2 : decode cX0_highestPlace 2 = .ok (.iconst 1, 1) := dk_4 (dk_at dksX0_highestPlace_0 2 rfl rfl)
theorem dX0_highestPlace_3 : decode cX0_highestPlace 3 = .ok (.istore_n 3, 1) := dk_62 (dk_at dksX0_highestPlace_0 3 rfl rfl)
theorem dX0_highestPlace_4 : decode cX0_highestPlace 4 = .ok (.iload_n 3, 1) := dk_29 (dk_at dksX0_highestPlace_0 4 rfl rfl)
theorem dX0_highestPlace_5 : decode cX0_highestPlace 5 = .ok (.bipush 48, 2) := dk_16 48 (dk_at dksX0_highestPlace_0 5 rfl rfl)
theorem dX0_highestPlace_7 : decode cX0_highestPlace 7 = .ok (.if_icmp .ge 36, 3) := dk_162 0 36 (dk_at dksX0_highestPlace_0 7 rfl rfl)
theorem dX0_highestPlace_10 : decode cX0_highestPlace 10 = .ok (.aload_n 0, 1) := dk_42 (dk_at dksX0_highestPlace_0 10 rfl rfl)
theorem dX0_highestPlace_11 : decode cX0_highestPlace 11 = .ok (.getfield 65, 3) := dk_180 0 65 (dk_at dksX0_highestPlace_0 11 rfl rfl)
theorem dX0_highestPlace_14 : decode cX0_highestPlace 14 = .ok (.getfield 124, 3) := dk_180 0 124 (dk_at dksX0_highestPlace_0 14 rfl rfl)
theorem dX0_highestPlace_17 : decode cX0_highestPlace 17 = .ok (.iload_n 1, 1) := dk_27 (dk_at dksX0_highestPlace_0 17 rfl rfl)
theorem dX0_highestPlace_18 : decode cX0_highestPlace 18 = .ok (.aaload, 1) := dk_50 (dk_at dksX0_highestPlace_0 18 rfl rfl)
theorem dX0_highestPlace_19 : decode cX0_highestPlace 19 = .ok (.iload_n 3, 1) := dk_29 (dk_at dksX0_highestPlace_0 19 rfl rfl)
theorem dX0_highestPlace_20 : decode cX0_highestPlace 20 = .ok (.iaload, 1) := dk_46 (dk_at dksX0_highestPlace_0 20 rfl rfl)
theorem dX0_highestPlace_21 : decode cX0_highestPlace 21 = .ok (.aload_n 0, 1) := dk_42 (dk_at dksX0_highestPlace_0 21 rfl rfl)
theorem dX0_highestPlace_22 : decode cX0_highestPlace 22 = .ok (.getfield 65, 3) := dk_180 0 65 (dk_at dksX0_highestPlace_1 0 rfl rfl)
theorem dX0_highestPlace_25 : decode cX0_highestPlace 25 = .ok (.getfield 124, 3) := dk_180 0 124 (dk_at dksX0_highestPlace_1 3 rfl rfl)
theorem dX0_highestPlace_28 : decode cX0_highestPlace 28 = .ok (.iload_n 1, 1) := dk_27 (dk_at dksX0_highestPlace_1 6 rfl rfl)
theorem dX0_highestPlace_29 : decode cX0_highestPlace 29 = .ok (.aaload, 1) := dk_50 (dk_at dksX0_highestPlace_1 7 rfl rfl)
theorem dX0_highestPlace_30 : decode cX0_highestPlace 30 = .ok (.iload_n 2, 1) := dk_28 (dk_at dksX0_highestPlace_1 8 rfl rfl)
theorem dX0_highestPlace_31 : decode cX0_highestPlace 31 = .ok (.iaload, 1) := dk_46 (dk_at dksX0_highestPlace_1 9 rfl rfl)
theorem dX0_highestPlace_32 : decode cX0_highestPlace 32 = .ok (.if_icmp .le 5, 3) := dk_164 0 5 (dk_at dksX0_highestPlace_1 10 rfl rfl)
theorem dX0_highestPlace_35 : decode cX0_highestPlace 35 = .ok (.iload_n 3, 1) := dk_29 (dk_at dksX0_highestPlace_1 13 rfl rfl)
theorem dX0_highestPlace_36 : decode cX0_highestPlace 36 = .ok (.istore_n 2, 1) := dk_61 (dk_at dksX0_highestPlace_1 14 rfl rfl)
theorem dX0_highestPlace_37 : decode cX0_highestPlace 37 = .ok (.iinc 3 1, 3) := dk_132 3 1 (dk_at dksX0_highestPlace_1 15 rfl rfl)
theorem dX0_highestPlace_40 : decode cX0_highestPlace 40 = .ok (.goto (-36), 3) := dk_167 255 220 (dk_at dksX0_highestPlace_1 18 rfl rfl)
theorem dX0_highestPlace_43 : decode cX0_highestPlace 43 = .ok (.iload_n 2, 1) := dk_28 (dk_at dksX0_highestPlace_1 21 rfl rfl)
theorem dX0_highestPlace_44 : decode cX0_highestPlace 44 = .ok (.ireturn, 1) := dk_172 (dk_at dksX0_highestPlace_1 22 rfl rfl)
abbrev cX0_climb : ByteArray := prog_1_method_63_code
def yX0_climb : MethodName := ⟨RX0, "climb", "(II)I"⟩
def dkwX0_climb_3 : List UInt8 := [132, 4, 1, 167, 255, 227, 28, 154, 0, 12, 42, 27, 29, 182, 1, 9, 167, 0, 4, 29, 172]
abbrev dktX0_climb_3 : List UInt8 := dkwX0_climb_3 ++ []
def dkwX0_climb_2 : List UInt8 := [16, 48, 162, 0, 28, 42, 27, 21, 4, 182, 1, 9, 42, 27, 29, 182, 1, 9, 164, 0, 6, 21, 4, 62]
abbrev dktX0_climb_2 : List UInt8 := dkwX0_climb_2 ++ dktX0_climb_3
def dkwX0_climb_1 : List UInt8 := [162, 0, 16, 42, 180, 0, 107, 29, 3, 79, 132, 3, 1, 167, 255, 240, 3, 62, 4, 54, 4, 21, 4]
abbrev dktX0_climb_1 : List UInt8 := dkwX0_climb_1 ++ dktX0_climb_2
def dkwX0_climb_0 : List UInt8 := [27, 184, 0, 117, 153, 0, 11, 28, 5, 184, 0, 12, 154, 0, 5, 2, 172, 3, 62, 29, 16, 48]
abbrev dktX0_climb_0 : List UInt8 := dkwX0_climb_0 ++ dktX0_climb_1
theorem dksX0_climb_0 : cX0_climb.data.toList.drop 0 = dktX0_climb_0 := by decide +kernel
theorem dksX0_climb_1 : cX0_climb.data.toList.drop 22 = dktX0_climb_1 := dk_seg dksX0_climb_0 22 rfl rfl
theorem dksX0_climb_2 : cX0_climb.data.toList.drop 45 = dktX0_climb_2 := dk_seg dksX0_climb_1 23 rfl rfl
theorem dksX0_climb_3 : cX0_climb.data.toList.drop 69 = dktX0_climb_3 := dk_seg dksX0_climb_2 24 rfl rfl
theorem dX0_climb_0 : decode cX0_climb 0 = .ok (.iload_n 1, 1) := dk_27 (dk_at dksX0_climb_0 0 rfl rfl)
theorem dX0_climb_1 : decode cX0_climb 1 = .ok (.invokestatic 117, 3) := dk_184 0 117 (dk_at dksX0_climb_0 1 rfl rfl)
theorem dX0_climb_4 : decode cX0_climb 4 = .ok (.ifCond .eq 11, 3) := dk_153 0 11 (dk_at dksX0_climb_0 4 rfl rfl)
theorem dX0_climb_7 : decode cX0_climb 7 = .ok (.iload_n 2, 1) := dk_28 (dk_at dksX0_climb_0 7 rfl rfl)
theorem dX0_climb_8 : decode cX0_climb 8 = .ok (.iconst 2, 1) := dk_5 (dk_at dksX0_climb_0 8 rfl rfl)
theorem dX0_climb_9 : decode cX0_climb 9 = .ok (.invokestatic 12, 3) := dk_184 0 12 (dk_at dksX0_climb_0 9 rfl rfl)
theorem dX0_climb_12 : decode cX0_climb 12 = .ok (.ifCond .ne 5, 3) := dk_154 0 5 (dk_at dksX0_climb_0 12 rfl rfl)
theorem dX0_climb_15 : decode cX0_climb 15 = .ok (.iconst (-1), 1) := dk_2 (dk_at dksX0_climb_0 15 rfl rfl)
theorem dX0_climb_16 : decode cX0_climb 16 = .ok (.ireturn, 1) := dk_172 (dk_at dksX0_climb_0 16 rfl rfl)
theorem dX0_climb_17 : decode cX0_climb 17 = .ok (.iconst 0, 1) := dk_3 (dk_at dksX0_climb_0 17 rfl rfl)
theorem dX0_climb_18 : decode cX0_climb 18 = .ok (.istore_n 3, 1) := dk_62 (dk_at dksX0_climb_0 18 rfl rfl)
theorem dX0_climb_19 : decode cX0_climb 19 = .ok (.iload_n 3, 1) := dk_29 (dk_at dksX0_climb_0 19 rfl rfl)
theorem dX0_climb_20 : decode cX0_climb 20 = .ok (.bipush 48, 2) := dk_16 48 (dk_at dksX0_climb_0 20 rfl rfl)
theorem dX0_climb_22 : decode cX0_climb 22 = .ok (.if_icmp .ge 16, 3) := dk_162 0 16 (dk_at dksX0_climb_1 0 rfl rfl)
theorem dX0_climb_25 : decode cX0_climb 25 = .ok (.aload_n 0, 1) := dk_42 (dk_at dksX0_climb_1 3 rfl rfl)
theorem dX0_climb_26 : decode cX0_climb 26 = .ok (.getfield 107, 3) := dk_180 0 107 (dk_at dksX0_climb_1 4 rfl rfl)
theorem dX0_climb_29 : decode cX0_climb 29 = .ok (.iload_n 3, 1) := dk_29 (dk_at dksX0_climb_1 7 rfl rfl)
theorem dX0_climb_30 : decode cX0_climb 30 = .ok (.iconst 0, 1) := dk_3 (dk_at dksX0_climb_1 8 rfl rfl)
theorem dX0_climb_31 : decode cX0_climb 31 = .ok (.iastore, 1) := dk_79 (dk_at dksX0_climb_1 9 rfl rfl)
theorem dX0_climb_32 : decode cX0_climb 32 = .ok (.iinc 3 1, 3) := dk_132 3 1 (dk_at dksX0_climb_1 10 rfl rfl)
theorem dX0_climb_35 : decode cX0_climb 35 = .ok (.goto (-16), 3) := dk_167 255 240 (dk_at dksX0_climb_1 13 rfl rfl)
theorem dX0_climb_38 : decode cX0_climb 38 = .ok (.iconst 0, 1) := dk_3 (dk_at dksX0_climb_1 16 rfl rfl)
theorem dX0_climb_39 : decode cX0_climb 39 = .ok (.istore_n 3, 1) := dk_62 (dk_at dksX0_climb_1 17 rfl rfl)
theorem dX0_climb_40 : decode cX0_climb 40 = .ok (.iconst 1, 1) := dk_4 (dk_at dksX0_climb_1 18 rfl rfl)
theorem dX0_climb_41 : decode cX0_climb 41 = .ok (.istore 4, 2) := dk_54 4 (dk_at dksX0_climb_1 19 rfl rfl)
theorem dX0_climb_43 : decode cX0_climb 43 = .ok (.iload 4, 2) := dk_21 4 (dk_at dksX0_climb_1 21 rfl rfl)
theorem dX0_climb_45 : decode cX0_climb 45 = .ok (.bipush 48, 2) := dk_16 48 (dk_at dksX0_climb_2 0 rfl rfl)
theorem dX0_climb_47 : decode cX0_climb 47 = .ok (.if_icmp .ge 28, 3) := dk_162 0 28 (dk_at dksX0_climb_2 2 rfl rfl)
theorem dX0_climb_50 : decode cX0_climb 50 = .ok (.aload_n 0, 1) := dk_42 (dk_at dksX0_climb_2 5 rfl rfl)
theorem dX0_climb_51 : decode cX0_climb 51 = .ok (.iload_n 1, 1) := dk_27 (dk_at dksX0_climb_2 6 rfl rfl)
theorem dX0_climb_52 : decode cX0_climb 52 = .ok (.iload 4, 2) := dk_21 4 (dk_at dksX0_climb_2 7 rfl rfl)
theorem dX0_climb_54 : decode cX0_climb 54 = .ok (.invokevirtual 265, 3) := dk_182 1 9 (dk_at dksX0_climb_2 9 rfl rfl)
theorem dX0_climb_57 : decode cX0_climb 57 = .ok (.aload_n 0, 1) := dk_42 (dk_at dksX0_climb_2 12 rfl rfl)
theorem dX0_climb_58 : decode cX0_climb 58 = .ok (.iload_n 1, 1) := dk_27 (dk_at dksX0_climb_2 13 rfl rfl)
theorem dX0_climb_59 : decode cX0_climb 59 = .ok (.iload_n 3, 1) := dk_29 (dk_at dksX0_climb_2 14 rfl rfl)
theorem dX0_climb_60 : decode cX0_climb 60 = .ok (.invokevirtual 265, 3) := dk_182 1 9 (dk_at dksX0_climb_2 15 rfl rfl)
theorem dX0_climb_63 : decode cX0_climb 63 = .ok (.if_icmp .le 6, 3) := dk_164 0 6 (dk_at dksX0_climb_2 18 rfl rfl)
theorem dX0_climb_66 : decode cX0_climb 66 = .ok (.iload 4, 2) := dk_21 4 (dk_at dksX0_climb_2 21 rfl rfl)
theorem dX0_climb_68 : decode cX0_climb 68 = .ok (.istore_n 3, 1) := dk_62 (dk_at dksX0_climb_2 23 rfl rfl)
theorem dX0_climb_69 : decode cX0_climb 69 = .ok (.iinc 4 1, 3) := dk_132 4 1 (dk_at dksX0_climb_3 0 rfl rfl)
theorem dX0_climb_72 : decode cX0_climb 72 = .ok (.goto (-29), 3) := dk_167 255 227 (dk_at dksX0_climb_3 3 rfl rfl)
theorem dX0_climb_75 : decode cX0_climb 75 = .ok (.iload_n 2, 1) := dk_28 (dk_at dksX0_climb_3 6 rfl rfl)
theorem dX0_climb_76 : decode cX0_climb 76 = .ok (.ifCond .ne 12, 3) := dk_154 0 12 (dk_at dksX0_climb_3 7 rfl rfl)
theorem dX0_climb_79 : decode cX0_climb 79 = .ok (.aload_n 0, 1) := dk_42 (dk_at dksX0_climb_3 10 rfl rfl)
theorem dX0_climb_80 : decode cX0_climb 80 = .ok (.iload_n 1, 1) := dk_27 (dk_at dksX0_climb_3 11 rfl rfl)
theorem dX0_climb_81 : decode cX0_climb 81 = .ok (.iload_n 3, 1) := dk_29 (dk_at dksX0_climb_3 12 rfl rfl)
theorem dX0_climb_82 : decode cX0_climb 82 = .ok (.invokevirtual 265, 3) := dk_182 1 9 (dk_at dksX0_climb_3 13 rfl rfl)
theorem dX0_climb_85 : decode cX0_climb 85 = .ok (.goto 4, 3) := dk_167 0 4 (dk_at dksX0_climb_3 16 rfl rfl)
theorem dX0_climb_88 : decode cX0_climb 88 = .ok (.iload_n 3, 1) := dk_29 (dk_at dksX0_climb_3 19 rfl rfl)
theorem dX0_climb_89 : decode cX0_climb 89 = .ok (.ireturn, 1) := dk_172 (dk_at dksX0_climb_3 20 rfl rfl)
abbrev cX0_climbFrom : ByteArray := prog_1_method_62_code
def yX0_climbFrom : MethodName := ⟨RX0, "climbFrom", "(II)I"⟩
def dkwX0_climbFrom_4 : List UInt8 := [172]
abbrev dktX0_climbFrom_4 : List UInt8 := dkwX0_climbFrom_4 ++ []
def dkwX0_climbFrom_3 : List UInt8 := [21, 5, 182, 1, 9, 96, 184, 0, 9, 62, 132, 4, 1, 167, 255, 193, 42, 180, 0, 107, 28, 29, 79, 29]
abbrev dktX0_climbFrom_3 : List UInt8 := dkwX0_climbFrom_3 ++ dktX0_climbFrom_4
def dkwX0_climbFrom_2 : List UInt8 := [27, 50, 21, 5, 46, 42, 180, 0, 65, 180, 0, 124, 27, 50, 28, 46, 164, 0, 17, 29, 4, 42, 27]
abbrev dktX0_climbFrom_2 : List UInt8 := dkwX0_climbFrom_2 ++ dktX0_climbFrom_3
def dkwX0_climbFrom_1 : List UInt8 := [162, 0, 63, 28, 21, 4, 184, 0, 217, 54, 5, 21, 5, 2, 159, 0, 43, 42, 180, 0, 65, 180, 0, 124]
abbrev dktX0_climbFrom_1 : List UInt8 := dkwX0_climbFrom_1 ++ dktX0_climbFrom_2
def dkwX0_climbFrom_0 : List UInt8 := [42, 180, 0, 107, 28, 46, 158, 0, 10, 42, 180, 0, 107, 28, 46, 172, 4, 62, 3, 54, 4, 21, 4, 7]
abbrev dktX0_climbFrom_0 : List UInt8 := dkwX0_climbFrom_0 ++ dktX0_climbFrom_1
theorem dksX0_climbFrom_0 : cX0_climbFrom.data.toList.drop 0 = dktX0_climbFrom_0 := by decide +kernel
theorem dksX0_climbFrom_1 : cX0_climbFrom.data.toList.drop 24 = dktX0_climbFrom_1 := dk_seg dksX0_climbFrom_0 24 rfl rfl
theorem dksX0_climbFrom_2 : cX0_climbFrom.data.toList.drop 48 = dktX0_climbFrom_2 := dk_seg dksX0_climbFrom_1 24 rfl rfl
theorem dksX0_climbFrom_3 : cX0_climbFrom.data.toList.drop 71 = dktX0_climbFrom_3 := dk_seg dksX0_climbFrom_2 23 rfl rfl
theorem dksX0_climbFrom_4 : cX0_climbFrom.data.toList.drop 95 = dktX0_climbFrom_4 := dk_seg dksX0_climbFrom_3 24 rfl rfl
theorem dX0_climbFrom_0 : decode cX0_climbFrom 0 = .ok (.aload_n 0, 1) := dk_42 (dk_at dksX0_climbFrom_0 0 rfl rfl)
theorem dX0_climbFrom_1 : decode cX0_climbFrom 1 = .ok (.getfield 107, 3) := dk_180 0 107 (dk_at dksX0_climbFrom_0 1 rfl rfl)
theorem dX0_climbFrom_4 : decode cX0_climbFrom 4 = .ok (.iload_n 2, 1) := dk_28 (dk_at dksX0_climbFrom_0 4 rfl rfl)
theorem dX0_climbFrom_5 : decode cX0_climbFrom 5 = .ok (.iaload, 1) := dk_46 (dk_at dksX0_climbFrom_0 5 rfl rfl)
theorem dX0_climbFrom_6 : decode cX0_climbFrom 6 = .ok (.ifCond .le 10, 3) := dk_158 0 10 (dk_at dksX0_climbFrom_0 6 rfl rfl)
theorem dX0_climbFrom_9 : decode cX0_climbFrom 9 = .ok (.aload_n 0, 1) := dk_42 (dk_at dksX0_climbFrom_0 9 rfl rfl)
theorem dX0_climbFrom_10 : decode cX0_climbFrom 10 = .ok (.getfield 107, 3) := dk_180 0 107 (dk_at dksX0_climbFrom_0 10 rfl rfl)
theorem dX0_climbFrom_13 : decode cX0_climbFrom 13 = .ok (.iload_n 2, 1) := dk_28 (dk_at dksX0_climbFrom_0 13 rfl rfl)
theorem dX0_climbFrom_14 : decode cX0_climbFrom 14 = .ok (.iaload, 1) := dk_46 (dk_at dksX0_climbFrom_0 14 rfl rfl)
theorem dX0_climbFrom_15 : decode cX0_climbFrom 15 = .ok (.ireturn, 1) := dk_172 (dk_at dksX0_climbFrom_0 15 rfl rfl)
theorem dX0_climbFrom_16 : decode cX0_climbFrom 16 = .ok (.iconst 1, 1) := dk_4 (dk_at dksX0_climbFrom_0 16 rfl rfl)
theorem dX0_climbFrom_17 : decode cX0_climbFrom 17 = .ok (.istore_n 3, 1) := dk_62 (dk_at dksX0_climbFrom_0 17 rfl rfl)
theorem dX0_climbFrom_18 : decode cX0_climbFrom 18 = .ok (.iconst 0, 1) := dk_3 (dk_at dksX0_climbFrom_0 18 rfl rfl)
theorem dX0_climbFrom_19 : decode cX0_climbFrom 19 = .ok (.istore 4, 2) := dk_54 4 (dk_at dksX0_climbFrom_0 19 rfl rfl)
theorem dX0_climbFrom_21 : decode cX0_climbFrom 21 = .ok (.iload 4, 2) := dk_21 4 (dk_at dksX0_climbFrom_0 21 rfl rfl)
theorem dX0_climbFrom_23 : decode cX0_climbFrom 23 = .ok (.iconst 4, 1) := dk_7 (dk_at dksX0_climbFrom_0 23 rfl rfl)
theorem dX0_climbFrom_24 : decode cX0_climbFrom 24 = .ok (.if_icmp .ge 63, 3) := dk_162 0 63 (dk_at dksX0_climbFrom_1 0 rfl rfl)
theorem dX0_climbFrom_27 : decode cX0_climbFrom 27 = .ok (.iload_n 2, 1) := dk_28 (dk_at dksX0_climbFrom_1 3 rfl rfl)
theorem dX0_climbFrom_28 : decode cX0_climbFrom 28 = .ok (.iload 4, 2) := dk_21 4 (dk_at dksX0_climbFrom_1 4 rfl rfl)
theorem dX0_climbFrom_30 : decode cX0_climbFrom 30 = .ok (.invokestatic 217, 3) := dk_184 0 217 (dk_at dksX0_climbFrom_1 6 rfl rfl)
theorem dX0_climbFrom_33 : decode cX0_climbFrom 33 = .ok (.istore 5, 2) := dk_54 5 (dk_at dksX0_climbFrom_1 9 rfl rfl)
theorem dX0_climbFrom_35 : decode cX0_climbFrom 35 = .ok (.iload 5, 2) := dk_21 5 (dk_at dksX0_climbFrom_1 11 rfl rfl)
theorem dX0_climbFrom_37 : decode cX0_climbFrom 37 = .ok (.iconst (-1), 1) := dk_2 (dk_at dksX0_climbFrom_1 13 rfl rfl)
theorem dX0_climbFrom_38 : decode cX0_climbFrom 38 = .ok (.if_icmp .eq 43, 3) := dk_159 0 43 (dk_at dksX0_climbFrom_1 14 rfl rfl)
theorem dX0_climbFrom_41 : decode cX0_climbFrom 41 = .ok (.aload_n 0, 1) := dk_42 (dk_at dksX0_climbFrom_1 17 rfl rfl)
theorem dX0_climbFrom_42 : decode cX0_climbFrom 42 = .ok (.getfield 65, 3) := dk_180 0 65 (dk_at dksX0_climbFrom_1 18 rfl rfl)
theorem dX0_climbFrom_45 : decode cX0_climbFrom 45 = .ok (.getfield 124, 3) := dk_180 0 124 (dk_at dksX0_climbFrom_1 21 rfl rfl)
theorem dX0_climbFrom_48 : decode cX0_climbFrom 48 = .ok (.iload_n 1, 1) := dk_27 (dk_at dksX0_climbFrom_2 0 rfl rfl)
theorem dX0_climbFrom_49 : decode cX0_climbFrom 49 = .ok (.aaload, 1) := dk_50 (dk_at dksX0_climbFrom_2 1 rfl rfl)
theorem dX0_climbFrom_50 : decode cX0_climbFrom 50 = .ok (.iload 5, 2) := dk_21 5 (dk_at dksX0_climbFrom_2 2 rfl rfl)
theorem dX0_climbFrom_52 : decode cX0_climbFrom 52 = .ok (.iaload, 1) := dk_46 (dk_at dksX0_climbFrom_2 4 rfl rfl)
theorem dX0_climbFrom_53 : decode cX0_climbFrom 53 = .ok (.aload_n 0, 1) := dk_42 (dk_at dksX0_climbFrom_2 5 rfl rfl)
theorem dX0_climbFrom_54 : decode cX0_climbFrom 54 = .ok (.getfield 65, 3) := dk_180 0 65 (dk_at dksX0_climbFrom_2 6 rfl rfl)
theorem dX0_climbFrom_57 : decode cX0_climbFrom 57 = .ok (.getfield 124, 3) := dk_180 0 124 (dk_at dksX0_climbFrom_2 9 rfl rfl)
theorem dX0_climbFrom_60 : decode cX0_climbFrom 60 = .ok (.iload_n 1, 1) := dk_27 (dk_at dksX0_climbFrom_2 12 rfl rfl)
theorem dX0_climbFrom_61 : decode cX0_climbFrom 61 = .ok (.aaload, 1) := dk_50 (dk_at dksX0_climbFrom_2 13 rfl rfl)
theorem dX0_climbFrom_62 : decode cX0_climbFrom 62 = .ok (.iload_n 2, 1) := dk_28 (dk_at dksX0_climbFrom_2 14 rfl rfl)
theorem dX0_climbFrom_63 : decode cX0_climbFrom 63 = .ok (.iaload, 1) := dk_46 (dk_at dksX0_climbFrom_2 15 rfl rfl)
theorem dX0_climbFrom_64 : decode cX0_climbFrom 64 = .ok (.if_icmp .le 17, 3) := dk_164 0 17 (dk_at dksX0_climbFrom_2 16 rfl rfl)
theorem dX0_climbFrom_67 : decode cX0_climbFrom 67 = .ok (.iload_n 3, 1) := dk_29 (dk_at dksX0_climbFrom_2 19 rfl rfl)
theorem dX0_climbFrom_68 : decode cX0_climbFrom 68 = .ok (.iconst 1, 1) := dk_4 (dk_at dksX0_climbFrom_2 20 rfl rfl)
theorem dX0_climbFrom_69 : decode cX0_climbFrom 69 = .ok (.aload_n 0, 1) := dk_42 (dk_at dksX0_climbFrom_2 21 rfl rfl)
theorem dX0_climbFrom_70 : decode cX0_climbFrom 70 = .ok (.iload_n 1, 1) := dk_27 (dk_at dksX0_climbFrom_2 22 rfl rfl)
theorem dX0_climbFrom_71 : decode cX0_climbFrom 71 = .ok (.iload 5, 2) := dk_21 5 (dk_at dksX0_climbFrom_3 0 rfl rfl)
theorem dX0_climbFrom_73 : decode cX0_climbFrom 73 = .ok (.invokevirtual 265, 3) := dk_182 1 9 (dk_at dksX0_climbFrom_3 2 rfl rfl)
theorem dX0_climbFrom_76 : decode cX0_climbFrom 76 = .ok (.iadd, 1) := dk_96 (dk_at dksX0_climbFrom_3 5 rfl rfl)
theorem dX0_climbFrom_77 : decode cX0_climbFrom 77 = .ok (.invokestatic 9, 3) := dk_184 0 9 (dk_at dksX0_climbFrom_3 6 rfl rfl)
theorem dX0_climbFrom_80 : decode cX0_climbFrom 80 = .ok (.istore_n 3, 1) := dk_62 (dk_at dksX0_climbFrom_3 9 rfl rfl)
theorem dX0_climbFrom_81 : decode cX0_climbFrom 81 = .ok (.iinc 4 1, 3) := dk_132 4 1 (dk_at dksX0_climbFrom_3 10 rfl rfl)
theorem dX0_climbFrom_84 : decode cX0_climbFrom 84 = .ok (.goto (-63), 3) := dk_167 255 193 (dk_at dksX0_climbFrom_3 13 rfl rfl)
theorem dX0_climbFrom_87 : decode cX0_climbFrom 87 = .ok (.aload_n 0, 1) := dk_42 (dk_at dksX0_climbFrom_3 16 rfl rfl)
theorem dX0_climbFrom_88 : decode cX0_climbFrom 88 = .ok (.getfield 107, 3) := dk_180 0 107 (dk_at dksX0_climbFrom_3 17 rfl rfl)
theorem dX0_climbFrom_91 : decode cX0_climbFrom 91 = .ok (.iload_n 2, 1) := dk_28 (dk_at dksX0_climbFrom_3 20 rfl rfl)
theorem dX0_climbFrom_92 : decode cX0_climbFrom 92 = .ok (.iload_n 3, 1) := dk_29 (dk_at dksX0_climbFrom_3 21 rfl rfl)
theorem dX0_climbFrom_93 : decode cX0_climbFrom 93 = .ok (.iastore, 1) := dk_79 (dk_at dksX0_climbFrom_3 22 rfl rfl)
theorem dX0_climbFrom_94 : decode cX0_climbFrom 94 = .ok (.iload_n 3, 1) := dk_29 (dk_at dksX0_climbFrom_3 23 rfl rfl)
theorem dX0_climbFrom_95 : decode cX0_climbFrom 95 = .ok (.ireturn, 1) := dk_172 (dk_at dksX0_climbFrom_4 0 rfl rfl)
abbrev cX0_rolls : ByteArray := prog_1_method_65_code
def yX0_rolls : MethodName := ⟨RX0, "rolls", "(II)I"⟩
def dkwX0_rolls_1 : List UInt8 := [29, 159, 0, 13, 42, 27, 29, 182, 1, 12, 62, 167, 255, 239, 29, 172]
abbrev dktX0_rolls_1 : List UInt8 := dkwX0_rolls_1 ++ []
def dkwX0_rolls_0 : List UInt8 := [27, 184, 0, 117, 153, 0, 10, 28, 184, 0, 121, 154, 0, 5, 2, 172, 28, 62, 42, 27, 29, 182, 1, 12]
abbrev dktX0_rolls_0 : List UInt8 := dkwX0_rolls_0 ++ dktX0_rolls_1
theorem dksX0_rolls_0 : cX0_rolls.data.toList.drop 0 = dktX0_rolls_0 := by decide +kernel
theorem dksX0_rolls_1 : cX0_rolls.data.toList.drop 24 = dktX0_rolls_1 := dk_seg dksX0_rolls_0 24 rfl rfl
theorem dX0_rolls_0 : decode cX0_rolls 0 = .ok (.iload_n 1, 1) := dk_27 (dk_at dksX0_rolls_0 0 rfl rfl)
theorem dX0_rolls_1 : decode cX0_rolls 1 = .ok (.invokestatic 117, 3) := dk_184 0 117 (dk_at dksX0_rolls_0 1 rfl rfl)
theorem dX0_rolls_4 : decode cX0_rolls 4 = .ok (.ifCond .eq 10, 3) := dk_153 0 10 (dk_at dksX0_rolls_0 4 rfl rfl)
theorem dX0_rolls_7 : decode cX0_rolls 7 = .ok (.iload_n 2, 1) := dk_28 (dk_at dksX0_rolls_0 7 rfl rfl)
theorem dX0_rolls_8 : decode cX0_rolls 8 = .ok (.invokestatic 121, 3) := dk_184 0 121 (dk_at dksX0_rolls_0 8 rfl rfl)
theorem dX0_rolls_11 : decode cX0_rolls 11 = .ok (.ifCond .ne 5, 3) := dk_154 0 5 (dk_at dksX0_rolls_0 11 rfl rfl)
theorem dX0_rolls_14 : decode cX0_rolls 14 = .ok (.iconst (-1), 1) := dk_2 (dk_at dksX0_rolls_0 14 rfl rfl)
theorem dX0_rolls_15 : decode cX0_rolls 15 = .ok (.ireturn, 1) := dk_172 (dk_at dksX0_rolls_0 15 rfl rfl)
theorem dX0_rolls_16 : decode cX0_rolls 16 = .ok (.iload_n 2, 1) := dk_28 (dk_at dksX0_rolls_0 16 rfl rfl)
theorem dX0_rolls_17 : decode cX0_rolls 17 = .ok (.istore_n 3, 1) := dk_62 (dk_at dksX0_rolls_0 17 rfl rfl)
theorem dX0_rolls_18 : decode cX0_rolls 18 = .ok (.aload_n 0, 1) := dk_42 (dk_at dksX0_rolls_0 18 rfl rfl)
theorem dX0_rolls_19 : decode cX0_rolls 19 = .ok (.iload_n 1, 1) := dk_27 (dk_at dksX0_rolls_0 19 rfl rfl)
theorem dX0_rolls_20 : decode cX0_rolls 20 = .ok (.iload_n 3, 1) := dk_29 (dk_at dksX0_rolls_0 20 rfl rfl)
theorem dX0_rolls_21 : decode cX0_rolls 21 = .ok (.invokevirtual 268, 3) := dk_182 1 12 (dk_at dksX0_rolls_0 21 rfl rfl)
theorem dX0_rolls_24 : decode cX0_rolls 24 = .ok (.iload_n 3, 1) := dk_29 (dk_at dksX0_rolls_1 0 rfl rfl)
theorem dX0_rolls_25 : decode cX0_rolls 25 = .ok (.if_icmp .eq 13, 3) := dk_159 0 13 (dk_at dksX0_rolls_1 1 rfl rfl)
theorem dX0_rolls_28 : decode cX0_rolls 28 = .ok (.aload_n 0, 1) := dk_42 (dk_at dksX0_rolls_1 4 rfl rfl)
theorem dX0_rolls_29 : decode cX0_rolls 29 = .ok (.iload_n 1, 1) := dk_27 (dk_at dksX0_rolls_1 5 rfl rfl)
theorem dX0_rolls_30 : decode cX0_rolls 30 = .ok (.iload_n 3, 1) := dk_29 (dk_at dksX0_rolls_1 6 rfl rfl)
theorem dX0_rolls_31 : decode cX0_rolls 31 = .ok (.invokevirtual 268, 3) := dk_182 1 12 (dk_at dksX0_rolls_1 7 rfl rfl)
theorem dX0_rolls_34 : decode cX0_rolls 34 = .ok (.istore_n 3, 1) := dk_62 (dk_at dksX0_rolls_1 10 rfl rfl)
theorem dX0_rolls_35 : decode cX0_rolls 35 = .ok (.goto (-17), 3) := dk_167 255 239 (dk_at dksX0_rolls_1 11 rfl rfl)
theorem dX0_rolls_38 : decode cX0_rolls 38 = .ok (.iload_n 3, 1) := dk_29 (dk_at dksX0_rolls_1 14 rfl rfl)
theorem dX0_rolls_39 : decode cX0_rolls 39 = .ok (.ireturn, 1) := dk_172 (dk_at dksX0_rolls_1 15 rfl rfl)
abbrev cX0_lowestBeside : ByteArray := prog_1_method_64_code
def yX0_lowestBeside : MethodName := ⟨RX0, "lowestBeside", "(II)I"⟩
def dkwX0_lowestBeside_2 : List UInt8 := [162, 0, 6, 21, 4, 62, 132, 4, 1, 167, 255, 207, 29, 172]
abbrev dktX0_lowestBeside_2 : List UInt8 := dkwX0_lowestBeside_2 ++ []
def dkwX0_lowestBeside_1 : List UInt8 := [180, 0, 65, 180, 0, 124, 27, 50, 21, 4, 46, 42, 180, 0, 65, 180, 0, 124, 27, 50, 29, 46]
abbrev dktX0_lowestBeside_1 : List UInt8 := dkwX0_lowestBeside_1 ++ dktX0_lowestBeside_2
def dkwX0_lowestBeside_0 : List UInt8 := [28, 62, 3, 54, 4, 21, 4, 16, 48, 162, 0, 48, 21, 4, 28, 184, 0, 230, 4, 160, 0, 32, 42]
abbrev dktX0_lowestBeside_0 : List UInt8 := dkwX0_lowestBeside_0 ++ dktX0_lowestBeside_1
theorem dksX0_lowestBeside_0 : cX0_lowestBeside.data.toList.drop 0 = dktX0_lowestBeside_0 := by decide +kernel
theorem dksX0_lowestBeside_1 : cX0_lowestBeside.data.toList.drop 23 = dktX0_lowestBeside_1 := dk_seg dksX0_lowestBeside_0 23 rfl rfl
theorem dksX0_lowestBeside_2 : cX0_lowestBeside.data.toList.drop 45 = dktX0_lowestBeside_2 := dk_seg dksX0_lowestBeside_1 22 rfl rfl
theorem dX0_lowestBeside_0 : decode cX0_lowestBeside 0 = .ok (.iload_n 2, 1) := dk_28 (dk_at dksX0_lowestBeside_0 0 rfl rfl)
theorem dX0_lowestBeside_1 : decode cX0_lowestBeside 1 = .ok (.istore_n 3, 1) := dk_62 (dk_at dksX0_lowestBeside_0 1 rfl rfl)
theorem dX0_lowestBeside_2 : decode cX0_lowestBeside 2 = .ok (.iconst 0, 1) := dk_3 (dk_at dksX0_lowestBeside_0 2 rfl rfl)
theorem dX0_lowestBeside_3 : decode cX0_lowestBeside 3 = .ok (.istore 4, 2) := dk_54 4 (dk_at dksX0_lowestBeside_0 3 rfl rfl)
theorem dX0_lowestBeside_5 : decode cX0_lowestBeside 5 = .ok (.iload 4, 2) := dk_21 4 (dk_at dksX0_lowestBeside_0 5 rfl rfl)
theorem dX0_lowestBeside_7 : decode cX0_lowestBeside 7 = .ok (.bipush 48, 2) := dk_16 48 (dk_at dksX0_lowestBeside_0 7 rfl rfl)
theorem dX0_lowestBeside_9 : decode cX0_lowestBeside 9 = .ok (.if_icmp .ge 48, 3) := dk_162 0 48 (dk_at dksX0_lowestBeside_0 9 rfl rfl)
theorem dX0_lowestBeside_12 : decode cX0_lowestBeside 12 = .ok (.iload 4, 2) := dk_21 4 (dk_at dksX0_lowestBeside_0 12 rfl rfl)
theorem dX0_lowestBeside_14 : decode cX0_lowestBeside 14 = .ok (.iload_n 2, 1) := dk_28 (dk_at dksX0_lowestBeside_0 14 rfl rfl)
theorem dX0_lowestBeside_15 : decode cX0_lowestBeside 15 = .ok (.invokestatic 230, 3) := dk_184 0 230 (dk_at dksX0_lowestBeside_0 15 rfl rfl)
theorem dX0_lowestBeside_18 : decode cX0_lowestBeside 18 = .ok (.iconst 1, 1) := dk_4 (dk_at dksX0_lowestBeside_0 18 rfl rfl)
theorem dX0_lowestBeside_19 : decode cX0_lowestBeside 19 = .ok (.if_icmp .ne 32, 3) := dk_160 0 32 (dk_at dksX0_lowestBeside_0 19 rfl rfl)
theorem dX0_lowestBeside_22 : decode cX0_lowestBeside 22 = .ok (.aload_n 0, 1) := dk_42 (dk_at dksX0_lowestBeside_0 22 rfl rfl)
theorem dX0_lowestBeside_23 : decode cX0_lowestBeside 23 = .ok (.getfield 65, 3) := dk_180 0 65 (dk_at dksX0_lowestBeside_1 0 rfl rfl)
theorem dX0_lowestBeside_26 : decode cX0_lowestBeside 26 = .ok (.getfield 124, 3) := dk_180 0 124 (dk_at dksX0_lowestBeside_1 3 rfl rfl)
theorem dX0_lowestBeside_29 : decode cX0_lowestBeside 29 = .ok (.iload_n 1, 1) := dk_27 (dk_at dksX0_lowestBeside_1 6 rfl rfl)
theorem dX0_lowestBeside_30 : decode cX0_lowestBeside 30 = .ok (.aaload, 1) := dk_50 (dk_at dksX0_lowestBeside_1 7 rfl rfl)
theorem dX0_lowestBeside_31 : decode cX0_lowestBeside 31 = .ok (.iload 4, 2) := dk_21 4 (dk_at dksX0_lowestBeside_1 8 rfl rfl)
theorem dX0_lowestBeside_33 : decode cX0_lowestBeside 33 = .ok (.iaload, 1) := dk_46 (dk_at dksX0_lowestBeside_1 10 rfl rfl)
theorem dX0_lowestBeside_34 : decode cX0_lowestBeside 34 = .ok (.aload_n 0, 1) := dk_42 (dk_at dksX0_lowestBeside_1 11 rfl rfl)
theorem dX0_lowestBeside_35 : decode cX0_lowestBeside 35 = .ok (.getfield 65, 3) := dk_180 0 65 (dk_at dksX0_lowestBeside_1 12 rfl rfl)
theorem dX0_lowestBeside_38 : decode cX0_lowestBeside 38 = .ok (.getfield 124, 3) := dk_180 0 124 (dk_at dksX0_lowestBeside_1 15 rfl rfl)
theorem dX0_lowestBeside_41 : decode cX0_lowestBeside 41 = .ok (.iload_n 1, 1) := dk_27 (dk_at dksX0_lowestBeside_1 18 rfl rfl)
theorem dX0_lowestBeside_42 : decode cX0_lowestBeside 42 = .ok (.aaload, 1) := dk_50 (dk_at dksX0_lowestBeside_1 19 rfl rfl)
theorem dX0_lowestBeside_43 : decode cX0_lowestBeside 43 = .ok (.iload_n 3, 1) := dk_29 (dk_at dksX0_lowestBeside_1 20 rfl rfl)
theorem dX0_lowestBeside_44 : decode cX0_lowestBeside 44 = .ok (.iaload, 1) := dk_46 (dk_at dksX0_lowestBeside_1 21 rfl rfl)
theorem dX0_lowestBeside_45 : decode cX0_lowestBeside 45 = .ok (.if_icmp .ge 6, 3) := dk_162 0 6 (dk_at dksX0_lowestBeside_2 0 rfl rfl)
theorem dX0_lowestBeside_48 : decode cX0_lowestBeside 48 = .ok (.iload 4, 2) := dk_21 4 (dk_at dksX0_lowestBeside_2 3 rfl rfl)
theorem dX0_lowestBeside_50 : decode cX0_lowestBeside 50 = .ok (.istore_n 3, 1) := dk_62 (dk_at dksX0_lowestBeside_2 5 rfl rfl)
theorem dX0_lowestBeside_51 : decode cX0_lowestBeside 51 = .ok (.iinc 4 1, 3) := dk_132 4 1 (dk_at dksX0_lowestBeside_2 6 rfl rfl)
theorem dX0_lowestBeside_54 : decode cX0_lowestBeside 54 = .ok (.goto (-49), 3) := dk_167 255 207 (dk_at dksX0_lowestBeside_2 9 rfl rfl)
theorem dX0_lowestBeside_57 : decode cX0_lowestBeside 57 = .ok (.iload_n 3, 1) := dk_29 (dk_at dksX0_lowestBeside_2 12 rfl rfl)
theorem dX0_lowestBeside_58 : decode cX0_lowestBeside 58 = .ok (.ireturn, 1) := dk_172 (dk_at dksX0_lowestBeside_2 13 rfl rfl)
abbrev cX0_pieces : ByteArray := prog_1_method_66_code
def yX0_pieces : MethodName := ⟨RX0, "pieces", "(III)I"⟩
def dkwX0_pieces_3 : List UInt8 := [167, 255, 218, 42, 29, 182, 0, 223, 172]
abbrev dktX0_pieces_3 : List UInt8 := dkwX0_pieces_3 ++ []
def dkwX0_pieces_2 : List UInt8 := [180, 0, 65, 180, 0, 124, 27, 50, 21, 4, 46, 28, 161, 0, 7, 4, 167, 0, 4, 3, 84, 132, 4, 1]
abbrev dktX0_pieces_2 : List UInt8 := dkwX0_pieces_2 ++ dktX0_pieces_3
def dkwX0_pieces_1 : List UInt8 := [154, 0, 5, 2, 172, 3, 54, 4, 21, 4, 16, 48, 162, 0, 37, 42, 180, 0, 53, 21, 4, 42]
abbrev dktX0_pieces_1 : List UInt8 := dkwX0_pieces_1 ++ dktX0_pieces_2
def dkwX0_pieces_0 : List UInt8 := [27, 184, 0, 117, 153, 0, 21, 28, 3, 16, 25, 184, 0, 16, 153, 0, 11, 29, 5, 184, 0, 12]
abbrev dktX0_pieces_0 : List UInt8 := dkwX0_pieces_0 ++ dktX0_pieces_1
theorem dksX0_pieces_0 : cX0_pieces.data.toList.drop 0 = dktX0_pieces_0 := by decide +kernel
theorem dksX0_pieces_1 : cX0_pieces.data.toList.drop 22 = dktX0_pieces_1 := dk_seg dksX0_pieces_0 22 rfl rfl
theorem dksX0_pieces_2 : cX0_pieces.data.toList.drop 44 = dktX0_pieces_2 := dk_seg dksX0_pieces_1 22 rfl rfl
theorem dksX0_pieces_3 : cX0_pieces.data.toList.drop 68 = dktX0_pieces_3 := dk_seg dksX0_pieces_2 24 rfl rfl
theorem dX0_pieces_0 : decode cX0_pieces 0 = .ok (.iload_n 1, 1) := dk_27 (dk_at dksX0_pieces_0 0 rfl rfl)
theorem dX0_pieces_1 : decode cX0_pieces 1 = .ok (.invokestatic 117, 3) := dk_184 0 117 (dk_at dksX0_pieces_0 1 rfl rfl)
theorem dX0_pieces_4 : decode cX0_pieces 4 = .ok (.ifCond .eq 21, 3) := dk_153 0 21 (dk_at dksX0_pieces_0 4 rfl rfl)
theorem dX0_pieces_7 : decode cX0_pieces 7 = .ok (.iload_n 2, 1) := dk_28 (dk_at dksX0_pieces_0 7 rfl rfl)
theorem dX0_pieces_8 : decode cX0_pieces 8 = .ok (.iconst 0, 1) := dk_3 (dk_at dksX0_pieces_0 8 rfl rfl)
theorem dX0_pieces_9 : decode cX0_pieces 9 = .ok (.bipush 25, 2) := dk_16 25 (dk_at dksX0_pieces_0 9 rfl rfl)
theorem dX0_pieces_11 : decode cX0_pieces 11 = .ok (.invokestatic 16, 3) := dk_184 0 16 (dk_at dksX0_pieces_0 11 rfl rfl)
theorem dX0_pieces_14 : decode cX0_pieces 14 = .ok (.ifCond .eq 11, 3) := dk_153 0 11 (dk_at dksX0_pieces_0 14 rfl rfl)
theorem dX0_pieces_17 : decode cX0_pieces 17 = .ok (.iload_n 3, 1) := dk_29 (dk_at dksX0_pieces_0 17 rfl rfl)
theorem dX0_pieces_18 : decode cX0_pieces 18 = .ok (.iconst 2, 1) := dk_5 (dk_at dksX0_pieces_0 18 rfl rfl)
theorem dX0_pieces_19 : decode cX0_pieces 19 = .ok (.invokestatic 12, 3) := dk_184 0 12 (dk_at dksX0_pieces_0 19 rfl rfl)
theorem dX0_pieces_22 : decode cX0_pieces 22 = .ok (.ifCond .ne 5, 3) := dk_154 0 5 (dk_at dksX0_pieces_1 0 rfl rfl)
theorem dX0_pieces_25 : decode cX0_pieces 25 = .ok (.iconst (-1), 1) := dk_2 (dk_at dksX0_pieces_1 3 rfl rfl)
theorem dX0_pieces_26 : decode cX0_pieces 26 = .ok (.ireturn, 1) := dk_172 (dk_at dksX0_pieces_1 4 rfl rfl)
theorem dX0_pieces_27 : decode cX0_pieces 27 = .ok (.iconst 0, 1) := dk_3 (dk_at dksX0_pieces_1 5 rfl rfl)
theorem dX0_pieces_28 : decode cX0_pieces 28 = .ok (.istore 4, 2) := dk_54 4 (dk_at dksX0_pieces_1 6 rfl rfl)
theorem dX0_pieces_30 : decode cX0_pieces 30 = .ok (.iload 4, 2) := dk_21 4 (dk_at dksX0_pieces_1 8 rfl rfl)
theorem dX0_pieces_32 : decode cX0_pieces 32 = .ok (.bipush 48, 2) := dk_16 48 (dk_at dksX0_pieces_1 10 rfl rfl)
theorem dX0_pieces_34 : decode cX0_pieces 34 = .ok (.if_icmp .ge 37, 3) := dk_162 0 37 (dk_at dksX0_pieces_1 12 rfl rfl)
theorem dX0_pieces_37 : decode cX0_pieces 37 = .ok (.aload_n 0, 1) := dk_42 (dk_at dksX0_pieces_1 15 rfl rfl)
theorem dX0_pieces_38 : decode cX0_pieces 38 = .ok (.getfield 53, 3) := dk_180 0 53 (dk_at dksX0_pieces_1 16 rfl rfl)
theorem dX0_pieces_41 : decode cX0_pieces 41 = .ok (.iload 4, 2) := dk_21 4 (dk_at dksX0_pieces_1 19 rfl rfl)
theorem dX0_pieces_43 : decode cX0_pieces 43 = .ok (.aload_n 0, 1) := dk_42 (dk_at dksX0_pieces_1 21 rfl rfl)
theorem dX0_pieces_44 : decode cX0_pieces 44 = .ok (.getfield 65, 3) := dk_180 0 65 (dk_at dksX0_pieces_2 0 rfl rfl)
theorem dX0_pieces_47 : decode cX0_pieces 47 = .ok (.getfield 124, 3) := dk_180 0 124 (dk_at dksX0_pieces_2 3 rfl rfl)
theorem dX0_pieces_50 : decode cX0_pieces 50 = .ok (.iload_n 1, 1) := dk_27 (dk_at dksX0_pieces_2 6 rfl rfl)
theorem dX0_pieces_51 : decode cX0_pieces 51 = .ok (.aaload, 1) := dk_50 (dk_at dksX0_pieces_2 7 rfl rfl)
theorem dX0_pieces_52 : decode cX0_pieces 52 = .ok (.iload 4, 2) := dk_21 4 (dk_at dksX0_pieces_2 8 rfl rfl)
theorem dX0_pieces_54 : decode cX0_pieces 54 = .ok (.iaload, 1) := dk_46 (dk_at dksX0_pieces_2 10 rfl rfl)
theorem dX0_pieces_55 : decode cX0_pieces 55 = .ok (.iload_n 2, 1) := dk_28 (dk_at dksX0_pieces_2 11 rfl rfl)
theorem dX0_pieces_56 : decode cX0_pieces 56 = .ok (.if_icmp .lt 7, 3) := dk_161 0 7 (dk_at dksX0_pieces_2 12 rfl rfl)
theorem dX0_pieces_59 : decode cX0_pieces 59 = .ok (.iconst 1, 1) := dk_4 (dk_at dksX0_pieces_2 15 rfl rfl)
theorem dX0_pieces_60 : decode cX0_pieces 60 = .ok (.goto 4, 3) := dk_167 0 4 (dk_at dksX0_pieces_2 16 rfl rfl)
theorem dX0_pieces_63 : decode cX0_pieces 63 = .ok (.iconst 0, 1) := dk_3 (dk_at dksX0_pieces_2 19 rfl rfl)
theorem dX0_pieces_64 : decode cX0_pieces 64 = .ok (.bastore, 1) := dk_84 (dk_at dksX0_pieces_2 20 rfl rfl)
theorem dX0_pieces_65 : decode cX0_pieces 65 = .ok (.iinc 4 1, 3) := dk_132 4 1 (dk_at dksX0_pieces_2 21 rfl rfl)
theorem dX0_pieces_68 : decode cX0_pieces 68 = .ok (.goto (-38), 3) := dk_167 255 218 (dk_at dksX0_pieces_3 0 rfl rfl)
theorem dX0_pieces_71 : decode cX0_pieces 71 = .ok (.aload_n 0, 1) := dk_42 (dk_at dksX0_pieces_3 3 rfl rfl)
theorem dX0_pieces_72 : decode cX0_pieces 72 = .ok (.iload_n 3, 1) := dk_29 (dk_at dksX0_pieces_3 4 rfl rfl)
theorem dX0_pieces_73 : decode cX0_pieces 73 = .ok (.invokevirtual 223, 3) := dk_182 0 223 (dk_at dksX0_pieces_3 5 rfl rfl)
theorem dX0_pieces_76 : decode cX0_pieces 76 = .ok (.ireturn, 1) := dk_172 (dk_at dksX0_pieces_3 8 rfl rfl)
abbrev cX0_heightOf : ByteArray := prog_1_method_67_code
def yX0_heightOf : MethodName := ⟨RX0, "heightOf", "(II)I"⟩
def dkwX0_heightOf_1 : List UInt8 := [46, 167, 0, 4, 2, 172]
abbrev dktX0_heightOf_1 : List UInt8 := dkwX0_heightOf_1 ++ []
def dkwX0_heightOf_0 : List UInt8 := [27, 184, 0, 117, 153, 0, 24, 28, 184, 0, 121, 153, 0, 17, 42, 180, 0, 65, 180, 0, 124, 27, 50, 28]
abbrev dktX0_heightOf_0 : List UInt8 := dkwX0_heightOf_0 ++ dktX0_heightOf_1
theorem dksX0_heightOf_0 : cX0_heightOf.data.toList.drop 0 = dktX0_heightOf_0 := by decide +kernel
theorem dksX0_heightOf_1 : cX0_heightOf.data.toList.drop 24 = dktX0_heightOf_1 := dk_seg dksX0_heightOf_0 24 rfl rfl
theorem dX0_heightOf_0 : decode cX0_heightOf 0 = .ok (.iload_n 1, 1) := dk_27 (dk_at dksX0_heightOf_0 0 rfl rfl)
theorem dX0_heightOf_1 : decode cX0_heightOf 1 = .ok (.invokestatic 117, 3) := dk_184 0 117 (dk_at dksX0_heightOf_0 1 rfl rfl)
theorem dX0_heightOf_4 : decode cX0_heightOf 4 = .ok (.ifCond .eq 24, 3) := dk_153 0 24 (dk_at dksX0_heightOf_0 4 rfl rfl)
theorem dX0_heightOf_7 : decode cX0_heightOf 7 = .ok (.iload_n 2, 1) := dk_28 (dk_at dksX0_heightOf_0 7 rfl rfl)
theorem dX0_heightOf_8 : decode cX0_heightOf 8 = .ok (.invokestatic 121, 3) := dk_184 0 121 (dk_at dksX0_heightOf_0 8 rfl rfl)
theorem dX0_heightOf_11 : decode cX0_heightOf 11 = .ok (.ifCond .eq 17, 3) := dk_153 0 17 (dk_at dksX0_heightOf_0 11 rfl rfl)
theorem dX0_heightOf_14 : decode cX0_heightOf 14 = .ok (.aload_n 0, 1) := dk_42 (dk_at dksX0_heightOf_0 14 rfl rfl)
theorem dX0_heightOf_15 : decode cX0_heightOf 15 = .ok (.getfield 65, 3) := dk_180 0 65 (dk_at dksX0_heightOf_0 15 rfl rfl)
theorem dX0_heightOf_18 : decode cX0_heightOf 18 = .ok (.getfield 124, 3) := dk_180 0 124 (dk_at dksX0_heightOf_0 18 rfl rfl)
theorem dX0_heightOf_21 : decode cX0_heightOf 21 = .ok (.iload_n 1, 1) := dk_27 (dk_at dksX0_heightOf_0 21 rfl rfl)
theorem dX0_heightOf_22 : decode cX0_heightOf 22 = .ok (.aaload, 1) := dk_50 (dk_at dksX0_heightOf_0 22 rfl rfl)
theorem dX0_heightOf_23 : decode cX0_heightOf 23 = .ok (.iload_n 2, 1) := dk_28 (dk_at dksX0_heightOf_0 23 rfl rfl)
theorem dX0_heightOf_24 : decode cX0_heightOf 24 = .ok (.iaload, 1) := dk_46 (dk_at dksX0_heightOf_1 0 rfl rfl)
theorem dX0_heightOf_25 : decode cX0_heightOf 25 = .ok (.goto 4, 3) := dk_167 0 4 (dk_at dksX0_heightOf_1 1 rfl rfl)
theorem dX0_heightOf_28 : decode cX0_heightOf 28 = .ok (.iconst (-1), 1) := dk_2 (dk_at dksX0_heightOf_1 4 rfl rfl)
theorem dX0_heightOf_29 : decode cX0_heightOf 29 = .ok (.ireturn, 1) := dk_172 (dk_at dksX0_heightOf_1 5 rfl rfl)
abbrev cX0_pools : ByteArray := prog_1_method_70_code
def yX0_pools : MethodName := ⟨RX0, "pools", "(II)I"⟩
def dkwX0_pools_4 : List UInt8 := [172]
abbrev dktX0_pools_4 : List UInt8 := dkwX0_pools_4 ++ []
def dkwX0_pools_3 : List UInt8 := [21, 5, 167, 0, 13, 21, 5, 158, 0, 7, 4, 167, 0, 4, 3, 96, 62, 132, 4, 1, 167, 255, 202, 29]
abbrev dktX0_pools_3 : List UInt8 := dkwX0_pools_3 ++ dktX0_pools_4
def dkwX0_pools_2 : List UInt8 := [21, 4, 46, 42, 180, 0, 65, 180, 0, 124, 27, 50, 21, 4, 46, 100, 54, 5, 29, 28, 154, 0, 8]
abbrev dktX0_pools_2 : List UInt8 := dkwX0_pools_2 ++ dktX0_pools_3
def dkwX0_pools_1 : List UInt8 := [180, 0, 124, 27, 50, 182, 1, 18, 3, 62, 3, 54, 4, 21, 4, 16, 48, 162, 0, 53, 42, 180, 0, 110]
abbrev dktX0_pools_1 : List UInt8 := dkwX0_pools_1 ++ dktX0_pools_2
def dkwX0_pools_0 : List UInt8 := [27, 184, 0, 117, 153, 0, 11, 28, 5, 184, 0, 12, 154, 0, 5, 2, 172, 42, 42, 180, 0, 65]
abbrev dktX0_pools_0 : List UInt8 := dkwX0_pools_0 ++ dktX0_pools_1
theorem dksX0_pools_0 : cX0_pools.data.toList.drop 0 = dktX0_pools_0 := by decide +kernel
theorem dksX0_pools_1 : cX0_pools.data.toList.drop 22 = dktX0_pools_1 := dk_seg dksX0_pools_0 22 rfl rfl
theorem dksX0_pools_2 : cX0_pools.data.toList.drop 46 = dktX0_pools_2 := dk_seg dksX0_pools_1 24 rfl rfl
theorem dksX0_pools_3 : cX0_pools.data.toList.drop 69 = dktX0_pools_3 := dk_seg dksX0_pools_2 23 rfl rfl
theorem dksX0_pools_4 : cX0_pools.data.toList.drop 93 = dktX0_pools_4 := dk_seg dksX0_pools_3 24 rfl rfl
theorem dX0_pools_0 : decode cX0_pools 0 = .ok (.iload_n 1, 1) := dk_27 (dk_at dksX0_pools_0 0 rfl rfl)
theorem dX0_pools_1 : decode cX0_pools 1 = .ok (.invokestatic 117, 3) := dk_184 0 117 (dk_at dksX0_pools_0 1 rfl rfl)
theorem dX0_pools_4 : decode cX0_pools 4 = .ok (.ifCond .eq 11, 3) := dk_153 0 11 (dk_at dksX0_pools_0 4 rfl rfl)
theorem dX0_pools_7 : decode cX0_pools 7 = .ok (.iload_n 2, 1) := dk_28 (dk_at dksX0_pools_0 7 rfl rfl)
theorem dX0_pools_8 : decode cX0_pools 8 = .ok (.iconst 2, 1) := dk_5 (dk_at dksX0_pools_0 8 rfl rfl)
theorem dX0_pools_9 : decode cX0_pools 9 = .ok (.invokestatic 12, 3) := dk_184 0 12 (dk_at dksX0_pools_0 9 rfl rfl)
theorem dX0_pools_12 : decode cX0_pools 12 = .ok (.ifCond .ne 5, 3) := dk_154 0 5 (dk_at dksX0_pools_0 12 rfl rfl)
theorem dX0_pools_15 : decode cX0_pools 15 = .ok (.iconst (-1), 1) := dk_2 (dk_at dksX0_pools_0 15 rfl rfl)
theorem dX0_pools_16 : decode cX0_pools 16 = .ok (.ireturn, 1) := dk_172 (dk_at dksX0_pools_0 16 rfl rfl)
theorem dX0_pools_17 : decode cX0_pools 17 = .ok (.aload_n 0, 1) := dk_42 (dk_at dksX0_pools_0 17 rfl rfl)
theorem dX0_pools_18 : decode cX0_pools 18 = .ok (.aload_n 0, 1) := dk_42 (dk_at dksX0_pools_0 18 rfl rfl)
theorem dX0_pools_19 : decode cX0_pools 19 = .ok (.getfield 65, 3) := dk_180 0 65 (dk_at dksX0_pools_0 19 rfl rfl)
theorem dX0_pools_22 : decode cX0_pools 22 = .ok (.getfield 124, 3) := dk_180 0 124 (dk_at dksX0_pools_1 0 rfl rfl)
theorem dX0_pools_25 : decode cX0_pools 25 = .ok (.iload_n 1, 1) := dk_27 (dk_at dksX0_pools_1 3 rfl rfl)
theorem dX0_pools_26 : decode cX0_pools 26 = .ok (.aaload, 1) := dk_50 (dk_at dksX0_pools_1 4 rfl rfl)
theorem dX0_pools_27 : decode cX0_pools 27 = .ok (.invokevirtual 274, 3) := dk_182 1 18 (dk_at dksX0_pools_1 5 rfl rfl)
theorem dX0_pools_30 : decode cX0_pools 30 = .ok (.iconst 0, 1) := dk_3 (dk_at dksX0_pools_1 8 rfl rfl)
theorem dX0_pools_31 : decode cX0_pools 31 = .ok (.istore_n 3, 1) := dk_62 (dk_at dksX0_pools_1 9 rfl rfl)
theorem dX0_pools_32 : decode cX0_pools 32 = .ok (.iconst 0, 1) := dk_3 (dk_at dksX0_pools_1 10 rfl rfl)
theorem dX0_pools_33 : decode cX0_pools 33 = .ok (.istore 4, 2) := dk_54 4 (dk_at dksX0_pools_1 11 rfl rfl)
theorem dX0_pools_35 : decode cX0_pools 35 = .ok (.iload 4, 2) := dk_21 4 (dk_at dksX0_pools_1 13 rfl rfl)
theorem dX0_pools_37 : decode cX0_pools 37 = .ok (.bipush 48, 2) := dk_16 48 (dk_at dksX0_pools_1 15 rfl rfl)
theorem dX0_pools_39 : decode cX0_pools 39 = .ok (.if_icmp .ge 53, 3) := dk_162 0 53 (dk_at dksX0_pools_1 17 rfl rfl)
theorem dX0_pools_42 : decode cX0_pools 42 = .ok (.aload_n 0, 1) := dk_42 (dk_at dksX0_pools_1 20 rfl rfl)
theorem dX0_pools_43 : decode cX0_pools 43 = .ok (.getfield 110, 3) := dk_180 0 110 (dk_at dksX0_pools_1 21 rfl rfl)
theorem dX0_pools_46 : decode cX0_pools 46 = .ok (.iload 4, 2) := dk_21 4 (dk_at dksX0_pools_2 0 rfl rfl)
theorem dX0_pools_48 : decode cX0_pools 48 = .ok (.iaload, 1) := dk_46 (dk_at dksX0_pools_2 2 rfl rfl)
theorem dX0_pools_49 : decode cX0_pools 49 = .ok (.aload_n 0, 1) := dk_42 (dk_at dksX0_pools_2 3 rfl rfl)
theorem dX0_pools_50 : decode cX0_pools 50 = .ok (.getfield 65, 3) := dk_180 0 65 (dk_at dksX0_pools_2 4 rfl rfl)
theorem dX0_pools_53 : decode cX0_pools 53 = .ok (.getfield 124, 3) := dk_180 0 124 (dk_at dksX0_pools_2 7 rfl rfl)
theorem dX0_pools_56 : decode cX0_pools 56 = .ok (.iload_n 1, 1) := dk_27 (dk_at dksX0_pools_2 10 rfl rfl)
theorem dX0_pools_57 : decode cX0_pools 57 = .ok (.aaload, 1) := dk_50 (dk_at dksX0_pools_2 11 rfl rfl)
theorem dX0_pools_58 : decode cX0_pools 58 = .ok (.iload 4, 2) := dk_21 4 (dk_at dksX0_pools_2 12 rfl rfl)
theorem dX0_pools_60 : decode cX0_pools 60 = .ok (.iaload, 1) := dk_46 (dk_at dksX0_pools_2 14 rfl rfl)
theorem dX0_pools_61 : decode cX0_pools 61 = .ok (.isub, 1) := dk_100 (dk_at dksX0_pools_2 15 rfl rfl)
theorem dX0_pools_62 : decode cX0_pools 62 = .ok (.istore 5, 2) := dk_54 5 (dk_at dksX0_pools_2 16 rfl rfl)
theorem dX0_pools_64 : decode cX0_pools 64 = .ok (.iload_n 3, 1) := dk_29 (dk_at dksX0_pools_2 18 rfl rfl)
theorem dX0_pools_65 : decode cX0_pools 65 = .ok (.iload_n 2, 1) := dk_28 (dk_at dksX0_pools_2 19 rfl rfl)
theorem dX0_pools_66 : decode cX0_pools 66 = .ok (.ifCond .ne 8, 3) := dk_154 0 8 (dk_at dksX0_pools_2 20 rfl rfl)
theorem dX0_pools_69 : decode cX0_pools 69 = .ok (.iload 5, 2) := dk_21 5 (dk_at dksX0_pools_3 0 rfl rfl)
theorem dX0_pools_71 : decode cX0_pools 71 = .ok (.goto 13, 3) := dk_167 0 13 (dk_at dksX0_pools_3 2 rfl rfl)
theorem dX0_pools_74 : decode cX0_pools 74 = .ok (.iload 5, 2) := dk_21 5 (dk_at dksX0_pools_3 5 rfl rfl)
theorem dX0_pools_76 : decode cX0_pools 76 = .ok (.ifCond .le 7, 3) := dk_158 0 7 (dk_at dksX0_pools_3 7 rfl rfl)
theorem dX0_pools_79 : decode cX0_pools 79 = .ok (.iconst 1, 1) := dk_4 (dk_at dksX0_pools_3 10 rfl rfl)
theorem dX0_pools_80 : decode cX0_pools 80 = .ok (.goto 4, 3) := dk_167 0 4 (dk_at dksX0_pools_3 11 rfl rfl)
theorem dX0_pools_83 : decode cX0_pools 83 = .ok (.iconst 0, 1) := dk_3 (dk_at dksX0_pools_3 14 rfl rfl)
theorem dX0_pools_84 : decode cX0_pools 84 = .ok (.iadd, 1) := dk_96 (dk_at dksX0_pools_3 15 rfl rfl)
theorem dX0_pools_85 : decode cX0_pools 85 = .ok (.istore_n 3, 1) := dk_62 (dk_at dksX0_pools_3 16 rfl rfl)
theorem dX0_pools_86 : decode cX0_pools 86 = .ok (.iinc 4 1, 3) := dk_132 4 1 (dk_at dksX0_pools_3 17 rfl rfl)
theorem dX0_pools_89 : decode cX0_pools 89 = .ok (.goto (-54), 3) := dk_167 255 202 (dk_at dksX0_pools_3 20 rfl rfl)
theorem dX0_pools_92 : decode cX0_pools 92 = .ok (.iload_n 3, 1) := dk_29 (dk_at dksX0_pools_3 23 rfl rfl)
theorem dX0_pools_93 : decode cX0_pools 93 = .ok (.ireturn, 1) := dk_172 (dk_at dksX0_pools_4 0 rfl rfl)
abbrev cX0_laysLevels : ByteArray := prog_1_method_69_code
def yX0_laysLevels : MethodName := ⟨RX0, "laysLevels", "([I)V"⟩
def dkwX0_laysLevels_5 : List UInt8 := [132, 3, 1, 167, 255, 182, 167, 255, 171, 177]
abbrev dktX0_laysLevels_5 : List UInt8 := dkwX0_laysLevels_5 ++ []
def dkwX0_laysLevels_4 : List UInt8 := [161, 0, 6, 167, 0, 13, 42, 180, 0, 110, 29, 21, 5, 79, 4, 61, 132, 4, 1, 167, 255, 197]
abbrev dktX0_laysLevels_4 : List UInt8 := dkwX0_laysLevels_4 ++ dktX0_laysLevels_5
def dkwX0_laysLevels_3 : List UInt8 := [42, 180, 0, 110, 29, 21, 4, 184, 0, 217, 46, 184, 0, 9, 54, 5, 21, 5, 42, 180, 0, 110, 29, 46]
abbrev dktX0_laysLevels_3 : List UInt8 := dkwX0_laysLevels_3 ++ dktX0_laysLevels_4
def dkwX0_laysLevels_2 : List UInt8 := [16, 48, 162, 0, 74, 3, 54, 4, 21, 4, 7, 162, 0, 59, 29, 184, 1, 15, 154, 0, 52, 43, 29, 46]
abbrev dktX0_laysLevels_2 : List UInt8 := dkwX0_laysLevels_2 ++ dktX0_laysLevels_3
def dkwX0_laysLevels_1 : List UInt8 := [167, 0, 5, 18, 173, 79, 132, 2, 1, 167, 255, 226, 4, 61, 28, 153, 0, 87, 3, 61, 3, 62, 29]
abbrev dktX0_laysLevels_1 : List UInt8 := dkwX0_laysLevels_1 ++ dktX0_laysLevels_2
def dkwX0_laysLevels_0 : List UInt8 := [3, 61, 28, 16, 48, 162, 0, 30, 42, 180, 0, 110, 28, 28, 184, 1, 15, 153, 0, 9, 43, 28, 46]
abbrev dktX0_laysLevels_0 : List UInt8 := dkwX0_laysLevels_0 ++ dktX0_laysLevels_1
theorem dksX0_laysLevels_0 : cX0_laysLevels.data.toList.drop 0 = dktX0_laysLevels_0 := by decide +kernel
theorem dksX0_laysLevels_1 : cX0_laysLevels.data.toList.drop 23 = dktX0_laysLevels_1 := dk_seg dksX0_laysLevels_0 23 rfl rfl
theorem dksX0_laysLevels_2 : cX0_laysLevels.data.toList.drop 46 = dktX0_laysLevels_2 := dk_seg dksX0_laysLevels_1 23 rfl rfl
theorem dksX0_laysLevels_3 : cX0_laysLevels.data.toList.drop 70 = dktX0_laysLevels_3 := dk_seg dksX0_laysLevels_2 24 rfl rfl
theorem dksX0_laysLevels_4 : cX0_laysLevels.data.toList.drop 94 = dktX0_laysLevels_4 := dk_seg dksX0_laysLevels_3 24 rfl rfl
theorem dksX0_laysLevels_5 : cX0_laysLevels.data.toList.drop 116 = dktX0_laysLevels_5 := dk_seg dksX0_laysLevels_4 22 rfl rfl
theorem dX0_laysLevels_0 : decode cX0_laysLevels 0 = .ok (.iconst 0, 1) := dk_3 (dk_at dksX0_laysLevels_0 0 rfl rfl)
theorem dX0_laysLevels_1 : decode cX0_laysLevels 1 = .ok (.istore_n 2, 1) := dk_61 (dk_at dksX0_laysLevels_0 1 rfl rfl)
theorem dX0_laysLevels_2 : decode cX0_laysLevels 2 = .ok (.iload_n 2, 1) := dk_28 (dk_at dksX0_laysLevels_0 2 rfl rfl)
theorem dX0_laysLevels_3 : decode cX0_laysLevels 3 = .ok (.bipush 48, 2) := dk_16 48 (dk_at dksX0_laysLevels_0 3 rfl rfl)
theorem dX0_laysLevels_5 : decode cX0_laysLevels 5 = .ok (.if_icmp .ge 30, 3) := dk_162 0 30 (dk_at dksX0_laysLevels_0 5 rfl rfl)
theorem dX0_laysLevels_8 : decode cX0_laysLevels 8 = .ok (.aload_n 0, 1) := dk_42 (dk_at dksX0_laysLevels_0 8 rfl rfl)
theorem dX0_laysLevels_9 : decode cX0_laysLevels 9 = .ok (.getfield 110, 3) := dk_180 0 110 (dk_at dksX0_laysLevels_0 9 rfl rfl)
theorem dX0_laysLevels_12 : decode cX0_laysLevels 12 = .ok (.iload_n 2, 1) := dk_28 (dk_at dksX0_laysLevels_0 12 rfl rfl)
theorem dX0_laysLevels_13 : decode cX0_laysLevels 13 = .ok (.iload_n 2, 1) := dk_28 (dk_at dksX0_laysLevels_0 13 rfl rfl)
theorem dX0_laysLevels_14 : decode cX0_laysLevels 14 = .ok (.invokestatic 271, 3) := dk_184 1 15 (dk_at dksX0_laysLevels_0 14 rfl rfl)
theorem dX0_laysLevels_17 : decode cX0_laysLevels 17 = .ok (.ifCond .eq 9, 3) := dk_153 0 9 (dk_at dksX0_laysLevels_0 17 rfl rfl)
theorem dX0_laysLevels_20 : decode cX0_laysLevels 20 = .ok (.aload_n 1, 1) := dk_43 (dk_at dksX0_laysLevels_0 20 rfl rfl)
theorem dX0_laysLevels_21 : decode cX0_laysLevels 21 = .ok (.iload_n 2, 1) := dk_28 (dk_at dksX0_laysLevels_0 21 rfl rfl)
theorem dX0_laysLevels_22 : decode cX0_laysLevels 22 = .ok (.iaload, 1) := dk_46 (dk_at dksX0_laysLevels_0 22 rfl rfl)
theorem dX0_laysLevels_23 : decode cX0_laysLevels 23 = .ok (.goto 5, 3) := dk_167 0 5 (dk_at dksX0_laysLevels_1 0 rfl rfl)
theorem dX0_laysLevels_26 : decode cX0_laysLevels 26 = .ok (.ldc 173, 2) := dk_18 173 (dk_at dksX0_laysLevels_1 3 rfl rfl)
theorem dX0_laysLevels_28 : decode cX0_laysLevels 28 = .ok (.iastore, 1) := dk_79 (dk_at dksX0_laysLevels_1 5 rfl rfl)
theorem dX0_laysLevels_29 : decode cX0_laysLevels 29 = .ok (.iinc 2 1, 3) := dk_132 2 1 (dk_at dksX0_laysLevels_1 6 rfl rfl)
theorem dX0_laysLevels_32 : decode cX0_laysLevels 32 = .ok (.goto (-30), 3) := dk_167 255 226 (dk_at dksX0_laysLevels_1 9 rfl rfl)
theorem dX0_laysLevels_35 : decode cX0_laysLevels 35 = .ok (.iconst 1, 1) := dk_4 (dk_at dksX0_laysLevels_1 12 rfl rfl)
theorem dX0_laysLevels_36 : decode cX0_laysLevels 36 = .ok (.istore_n 2, 1) := dk_61 (dk_at dksX0_laysLevels_1 13 rfl rfl)
theorem dX0_laysLevels_37 : decode cX0_laysLevels 37 = .ok (.iload_n 2, 1) := dk_28 (dk_at dksX0_laysLevels_1 14 rfl rfl)
theorem dX0_laysLevels_38 : decode cX0_laysLevels 38 = .ok (.ifCond .eq 87, 3) := dk_153 0 87 (dk_at dksX0_laysLevels_1 15 rfl rfl)
theorem dX0_laysLevels_41 : decode cX0_laysLevels 41 = .ok (.iconst 0, 1) := dk_3 (dk_at dksX0_laysLevels_1 18 rfl rfl)
theorem dX0_laysLevels_42 : decode cX0_laysLevels 42 = .ok (.istore_n 2, 1) := dk_61 (dk_at dksX0_laysLevels_1 19 rfl rfl)
theorem dX0_laysLevels_43 : decode cX0_laysLevels 43 = .ok (.iconst 0, 1) := dk_3 (dk_at dksX0_laysLevels_1 20 rfl rfl)
theorem dX0_laysLevels_44 : decode cX0_laysLevels 44 = .ok (.istore_n 3, 1) := dk_62 (dk_at dksX0_laysLevels_1 21 rfl rfl)
theorem dX0_laysLevels_45 : decode cX0_laysLevels 45 = .ok (.iload_n 3, 1) := dk_29 (dk_at dksX0_laysLevels_1 22 rfl rfl)
theorem dX0_laysLevels_46 : decode cX0_laysLevels 46 = .ok (.bipush 48, 2) := dk_16 48 (dk_at dksX0_laysLevels_2 0 rfl rfl)
theorem dX0_laysLevels_48 : decode cX0_laysLevels 48 = .ok (.if_icmp .ge 74, 3) := dk_162 0 74 (dk_at dksX0_laysLevels_2 2 rfl rfl)
theorem dX0_laysLevels_51 : decode cX0_laysLevels 51 = .ok (.iconst 0, 1) := dk_3 (dk_at dksX0_laysLevels_2 5 rfl rfl)
theorem dX0_laysLevels_52 : decode cX0_laysLevels 52 = .ok (.istore 4, 2) := dk_54 4 (dk_at dksX0_laysLevels_2 6 rfl rfl)
theorem dX0_laysLevels_54 : decode cX0_laysLevels 54 = .ok (.iload 4, 2) := dk_21 4 (dk_at dksX0_laysLevels_2 8 rfl rfl)
theorem dX0_laysLevels_56 : decode cX0_laysLevels 56 = .ok (.iconst 4, 1) := dk_7 (dk_at dksX0_laysLevels_2 10 rfl rfl)
theorem dX0_laysLevels_57 : decode cX0_laysLevels 57 = .ok (.if_icmp .ge 59, 3) := dk_162 0 59 (dk_at dksX0_laysLevels_2 11 rfl rfl)
theorem dX0_laysLevels_60 : decode cX0_laysLevels 60 = .ok (.iload_n 3, 1) := dk_29 (dk_at dksX0_laysLevels_2 14 rfl rfl)
theorem dX0_laysLevels_61 : decode cX0_laysLevels 61 = .ok (.invokestatic 271, 3) := dk_184 1 15 (dk_at dksX0_laysLevels_2 15 rfl rfl)
theorem dX0_laysLevels_64 : decode cX0_laysLevels 64 = .ok (.ifCond .ne 52, 3) := dk_154 0 52 (dk_at dksX0_laysLevels_2 18 rfl rfl)
theorem dX0_laysLevels_67 : decode cX0_laysLevels 67 = .ok (.aload_n 1, 1) := dk_43 (dk_at dksX0_laysLevels_2 21 rfl rfl)
theorem dX0_laysLevels_68 : decode cX0_laysLevels 68 = .ok (.iload_n 3, 1) := dk_29 (dk_at dksX0_laysLevels_2 22 rfl rfl)
theorem dX0_laysLevels_69 : decode cX0_laysLevels 69 = .ok (.iaload, 1) := dk_46 (dk_at dksX0_laysLevels_2 23 rfl rfl)
theorem dX0_laysLevels_70 : decode cX0_laysLevels 70 = .ok (.aload_n 0, 1) := dk_42 (dk_at dksX0_laysLevels_3 0 rfl rfl)
theorem dX0_laysLevels_71 : decode cX0_laysLevels 71 = .ok (.getfield 110, 3) := dk_180 0 110 (dk_at dksX0_laysLevels_3 1 rfl rfl)
theorem dX0_laysLevels_74 : decode cX0_laysLevels 74 = .ok (.iload_n 3, 1) := dk_29 (dk_at dksX0_laysLevels_3 4 rfl rfl)
theorem dX0_laysLevels_75 : decode cX0_laysLevels 75 = .ok (.iload 4, 2) := dk_21 4 (dk_at dksX0_laysLevels_3 5 rfl rfl)
theorem dX0_laysLevels_77 : decode cX0_laysLevels 77 = .ok (.invokestatic 217, 3) := dk_184 0 217 (dk_at dksX0_laysLevels_3 7 rfl rfl)
theorem dX0_laysLevels_80 : decode cX0_laysLevels 80 = .ok (.iaload, 1) := dk_46 (dk_at dksX0_laysLevels_3 10 rfl rfl)
theorem dX0_laysLevels_81 : decode cX0_laysLevels 81 = .ok (.invokestatic 9, 3) := dk_184 0 9 (dk_at dksX0_laysLevels_3 11 rfl rfl)
theorem dX0_laysLevels_84 : decode cX0_laysLevels 84 = .ok (.istore 5, 2) := dk_54 5 (dk_at dksX0_laysLevels_3 14 rfl rfl)
theorem dX0_laysLevels_86 : decode cX0_laysLevels 86 = .ok (.iload 5, 2) := dk_21 5 (dk_at dksX0_laysLevels_3 16 rfl rfl)
theorem dX0_laysLevels_88 : decode cX0_laysLevels 88 = .ok (.aload_n 0, 1) := dk_42 (dk_at dksX0_laysLevels_3 18 rfl rfl)
theorem dX0_laysLevels_89 : decode cX0_laysLevels 89 = .ok (.getfield 110, 3) := dk_180 0 110 (dk_at dksX0_laysLevels_3 19 rfl rfl)
theorem dX0_laysLevels_92 : decode cX0_laysLevels 92 = .ok (.iload_n 3, 1) := dk_29 (dk_at dksX0_laysLevels_3 22 rfl rfl)
theorem dX0_laysLevels_93 : decode cX0_laysLevels 93 = .ok (.iaload, 1) := dk_46 (dk_at dksX0_laysLevels_3 23 rfl rfl)
theorem dX0_laysLevels_94 : decode cX0_laysLevels 94 = .ok (.if_icmp .lt 6, 3) := dk_161 0 6 (dk_at dksX0_laysLevels_4 0 rfl rfl)
theorem dX0_laysLevels_97 : decode cX0_laysLevels 97 = .ok (.goto 13, 3) := dk_167 0 13 (dk_at dksX0_laysLevels_4 3 rfl rfl)
theorem dX0_laysLevels_100 : decode cX0_laysLevels 100 = .ok (.aload_n 0, 1) := dk_42 (dk_at dksX0_laysLevels_4 6 rfl rfl)
theorem dX0_laysLevels_101 : decode cX0_laysLevels 101 = .ok (.getfield 110, 3) := dk_180 0 110 (dk_at dksX0_laysLevels_4 7 rfl rfl)
theorem dX0_laysLevels_104 : decode cX0_laysLevels 104 = .ok (.iload_n 3, 1) := dk_29 (dk_at dksX0_laysLevels_4 10 rfl rfl)
theorem dX0_laysLevels_105 : decode cX0_laysLevels 105 = .ok (.iload 5, 2) := dk_21 5 (dk_at dksX0_laysLevels_4 11 rfl rfl)
theorem dX0_laysLevels_107 : decode cX0_laysLevels 107 = .ok (.iastore, 1) := dk_79 (dk_at dksX0_laysLevels_4 13 rfl rfl)
theorem dX0_laysLevels_108 : decode cX0_laysLevels 108 = .ok (.iconst 1, 1) := dk_4 (dk_at dksX0_laysLevels_4 14 rfl rfl)
theorem dX0_laysLevels_109 : decode cX0_laysLevels 109 = .ok (.istore_n 2, 1) := dk_61 (dk_at dksX0_laysLevels_4 15 rfl rfl)
theorem dX0_laysLevels_110 : decode cX0_laysLevels 110 = .ok (.iinc 4 1, 3) := dk_132 4 1 (dk_at dksX0_laysLevels_4 16 rfl rfl)
theorem dX0_laysLevels_113 : decode cX0_laysLevels 113 = .ok (.goto (-59), 3) := dk_167 255 197 (dk_at dksX0_laysLevels_4 19 rfl rfl)
theorem dX0_laysLevels_116 : decode cX0_laysLevels 116 = .ok (.iinc 3 1, 3) := dk_132 3 1 (dk_at dksX0_laysLevels_5 0 rfl rfl)
theorem dX0_laysLevels_119 : decode cX0_laysLevels 119 = .ok (.goto (-74), 3) := dk_167 255 182 (dk_at dksX0_laysLevels_5 3 rfl rfl)
theorem dX0_laysLevels_122 : decode cX0_laysLevels 122 = .ok (.goto (-85), 3) := dk_167 255 171 (dk_at dksX0_laysLevels_5 6 rfl rfl)
theorem dX0_laysLevels_125 : decode cX0_laysLevels 125 = .ok (.return_, 1) := dk_177 (dk_at dksX0_laysLevels_5 9 rfl rfl)
abbrev cX0_isRim : ByteArray := prog_1_method_68_code
def yX0_isRim : MethodName := ⟨RX0, "isRim", "(I)Z"⟩
def dkwX0_isRim_1 : List UInt8 := [16, 8, 108, 8, 160, 0, 7, 4, 167, 0, 4, 3, 172]
abbrev dktX0_isRim_1 : List UInt8 := dkwX0_isRim_1 ++ []
def dkwX0_isRim_0 : List UInt8 := [26, 16, 8, 112, 153, 0, 27, 26, 16, 8, 112, 16, 7, 159, 0, 18, 26, 16, 8, 108, 153, 0, 11, 26]
abbrev dktX0_isRim_0 : List UInt8 := dkwX0_isRim_0 ++ dktX0_isRim_1
theorem dksX0_isRim_0 : cX0_isRim.data.toList.drop 0 = dktX0_isRim_0 := by decide +kernel
theorem dksX0_isRim_1 : cX0_isRim.data.toList.drop 24 = dktX0_isRim_1 := dk_seg dksX0_isRim_0 24 rfl rfl
theorem dX0_isRim_0 : decode cX0_isRim 0 = .ok (.iload_n 0, 1) := dk_26 (dk_at dksX0_isRim_0 0 rfl rfl)
theorem dX0_isRim_1 : decode cX0_isRim 1 = .ok (.bipush 8, 2) := dk_16 8 (dk_at dksX0_isRim_0 1 rfl rfl)
theorem dX0_isRim_3 : decode cX0_isRim 3 = .ok (.irem, 1) := dk_112 (dk_at dksX0_isRim_0 3 rfl rfl)
theorem dX0_isRim_4 : decode cX0_isRim 4 = .ok (.ifCond .eq 27, 3) := dk_153 0 27 (dk_at dksX0_isRim_0 4 rfl rfl)
theorem dX0_isRim_7 : decode cX0_isRim 7 = .ok (.iload_n 0, 1) := dk_26 (dk_at dksX0_isRim_0 7 rfl rfl)
theorem dX0_isRim_8 : decode cX0_isRim 8 = .ok (.bipush 8, 2) := dk_16 8 (dk_at dksX0_isRim_0 8 rfl rfl)
theorem dX0_isRim_10 : decode cX0_isRim 10 = .ok (.irem, 1) := dk_112 (dk_at dksX0_isRim_0 10 rfl rfl)
theorem dX0_isRim_11 : decode cX0_isRim 11 = .ok (.bipush 7, 2) := dk_16 7 (dk_at dksX0_isRim_0 11 rfl rfl)
theorem dX0_isRim_13 : decode cX0_isRim 13 = .ok (.if_icmp .eq 18, 3) := dk_159 0 18 (dk_at dksX0_isRim_0 13 rfl rfl)
theorem dX0_isRim_16 : decode cX0_isRim 16 = .ok (.iload_n 0, 1) := dk_26 (dk_at dksX0_isRim_0 16 rfl rfl)
theorem dX0_isRim_17 : decode cX0_isRim 17 = .ok (.bipush 8, 2) := dk_16 8 (dk_at dksX0_isRim_0 17 rfl rfl)
theorem dX0_isRim_19 : decode cX0_isRim 19 = .ok (.idiv, 1) := dk_108 (dk_at dksX0_isRim_0 19 rfl rfl)
theorem dX0_isRim_20 : decode cX0_isRim 20 = .ok (.ifCond .eq 11, 3) := dk_153 0 11 (dk_at dksX0_isRim_0 20 rfl rfl)
theorem dX0_isRim_23 : decode cX0_isRim 23 = .ok (.iload_n 0, 1) := dk_26 (dk_at dksX0_isRim_0 23 rfl rfl)
theorem dX0_isRim_24 : decode cX0_isRim 24 = .ok (.bipush 8, 2) := dk_16 8 (dk_at dksX0_isRim_1 0 rfl rfl)
theorem dX0_isRim_26 : decode cX0_isRim 26 = .ok (.idiv, 1) := dk_108 (dk_at dksX0_isRim_1 2 rfl rfl)
theorem dX0_isRim_27 : decode cX0_isRim 27 = .ok (.iconst 5, 1) := dk_8 (dk_at dksX0_isRim_1 3 rfl rfl)
theorem dX0_isRim_28 : decode cX0_isRim 28 = .ok (.if_icmp .ne 7, 3) := dk_160 0 7 (dk_at dksX0_isRim_1 4 rfl rfl)
theorem dX0_isRim_31 : decode cX0_isRim 31 = .ok (.iconst 1, 1) := dk_4 (dk_at dksX0_isRim_1 7 rfl rfl)
theorem dX0_isRim_32 : decode cX0_isRim 32 = .ok (.goto 4, 3) := dk_167 0 4 (dk_at dksX0_isRim_1 8 rfl rfl)
theorem dX0_isRim_35 : decode cX0_isRim 35 = .ok (.iconst 0, 1) := dk_3 (dk_at dksX0_isRim_1 11 rfl rfl)
theorem dX0_isRim_36 : decode cX0_isRim 36 = .ok (.ireturn, 1) := dk_172 (dk_at dksX0_isRim_1 12 rfl rfl)
abbrev cX0_belongs : ByteArray := prog_1_method_72_code
def yX0_belongs : MethodName := ⟨RX0, "belongs", "(III)I"⟩
def dkwX0_belongs_6 : List UInt8 := [132, 6, 1, 167, 255, 199, 29, 154, 0, 8, 21, 4, 167, 0, 5, 21, 5, 172]
abbrev dktX0_belongs_6 : List UInt8 := dkwX0_belongs_6 ++ []
def dkwX0_belongs_5 : List UInt8 := [167, 0, 18, 42, 21, 6, 28, 21, 7, 182, 1, 22, 54, 5, 21, 6, 54, 4, 132, 7, 1, 167, 255, 215]
abbrev dktX0_belongs_5 : List UInt8 := dkwX0_belongs_5 ++ dktX0_belongs_6
def dkwX0_belongs_4 : List UInt8 := [54, 7, 21, 7, 5, 163, 0, 41, 42, 21, 6, 28, 21, 7, 182, 1, 22, 21, 5, 161, 0, 6]
abbrev dktX0_belongs_4 : List UInt8 := dkwX0_belongs_4 ++ dktX0_belongs_5
def dkwX0_belongs_3 : List UInt8 := [132, 4, 1, 167, 255, 230, 3, 54, 4, 18, 173, 54, 5, 3, 54, 6, 21, 6, 27, 162, 0, 57, 16, 254]
abbrev dktX0_belongs_3 : List UInt8 := dkwX0_belongs_3 ++ dktX0_belongs_4
def dkwX0_belongs_2 : List UInt8 := [21, 4, 16, 8, 27, 104, 162, 0, 23, 42, 21, 4, 182, 0, 201, 16, 25, 164, 0, 6, 16, 253, 172]
abbrev dktX0_belongs_2 : List UInt8 := dkwX0_belongs_2 ++ dktX0_belongs_3
def dkwX0_belongs_1 : List UInt8 := [153, 0, 14, 16, 8, 27, 104, 42, 180, 0, 128, 164, 0, 5, 2, 172, 42, 3, 181, 0, 128, 3, 54, 4]
abbrev dktX0_belongs_1 : List UInt8 := dkwX0_belongs_1 ++ dktX0_belongs_2
def dkwX0_belongs_0 : List UInt8 := [27, 4, 16, 16, 184, 0, 16, 153, 0, 31, 28, 16, 6, 184, 0, 12, 153, 0, 22, 29, 5, 184, 0, 12]
abbrev dktX0_belongs_0 : List UInt8 := dkwX0_belongs_0 ++ dktX0_belongs_1
theorem dksX0_belongs_0 : cX0_belongs.data.toList.drop 0 = dktX0_belongs_0 := by decide +kernel
theorem dksX0_belongs_1 : cX0_belongs.data.toList.drop 24 = dktX0_belongs_1 := dk_seg dksX0_belongs_0 24 rfl rfl
theorem dksX0_belongs_2 : cX0_belongs.data.toList.drop 48 = dktX0_belongs_2 := dk_seg dksX0_belongs_1 24 rfl rfl
theorem dksX0_belongs_3 : cX0_belongs.data.toList.drop 71 = dktX0_belongs_3 := dk_seg dksX0_belongs_2 23 rfl rfl
theorem dksX0_belongs_4 : cX0_belongs.data.toList.drop 95 = dktX0_belongs_4 := dk_seg dksX0_belongs_3 24 rfl rfl
theorem dksX0_belongs_5 : cX0_belongs.data.toList.drop 117 = dktX0_belongs_5 := dk_seg dksX0_belongs_4 22 rfl rfl
theorem dksX0_belongs_6 : cX0_belongs.data.toList.drop 141 = dktX0_belongs_6 := dk_seg dksX0_belongs_5 24 rfl rfl
theorem dX0_belongs_0 : decode cX0_belongs 0 = .ok (.iload_n 1, 1) := dk_27 (dk_at dksX0_belongs_0 0 rfl rfl)
theorem dX0_belongs_1 : decode cX0_belongs 1 = .ok (.iconst 1, 1) := dk_4 (dk_at dksX0_belongs_0 1 rfl rfl)
theorem dX0_belongs_2 : decode cX0_belongs 2 = .ok (.bipush 16, 2) := dk_16 16 (dk_at dksX0_belongs_0 2 rfl rfl)
theorem dX0_belongs_4 : decode cX0_belongs 4 = .ok (.invokestatic 16, 3) := dk_184 0 16 (dk_at dksX0_belongs_0 4 rfl rfl)
theorem dX0_belongs_7 : decode cX0_belongs 7 = .ok (.ifCond .eq 31, 3) := dk_153 0 31 (dk_at dksX0_belongs_0 7 rfl rfl)
theorem dX0_belongs_10 : decode cX0_belongs 10 = .ok (.iload_n 2, 1) := dk_28 (dk_at dksX0_belongs_0 10 rfl rfl)
theorem dX0_belongs_11 : decode cX0_belongs 11 = .ok (.bipush 6, 2) := dk_16 6 (dk_at dksX0_belongs_0 11 rfl rfl)
theorem dX0_belongs_13 : decode cX0_belongs 13 = .ok (.invokestatic 12, 3) := dk_184 0 12 (dk_at dksX0_belongs_0 13 rfl rfl)
theorem dX0_belongs_16 : decode cX0_belongs 16 = .ok (.ifCond .eq 22, 3) := dk_153 0 22 (dk_at dksX0_belongs_0 16 rfl rfl)
theorem dX0_belongs_19 : decode cX0_belongs 19 = .ok (.iload_n 3, 1) := dk_29 (dk_at dksX0_belongs_0 19 rfl rfl)
theorem dX0_belongs_20 : decode cX0_belongs 20 = .ok (.iconst 2, 1) := dk_5 (dk_at dksX0_belongs_0 20 rfl rfl)
theorem dX0_belongs_21 : decode cX0_belongs 21 = .ok (.invokestatic 12, 3) := dk_184 0 12 (dk_at dksX0_belongs_0 21 rfl rfl)
theorem dX0_belongs_24 : decode cX0_belongs 24 = .ok (.ifCond .eq 14, 3) := dk_153 0 14 (dk_at dksX0_belongs_1 0 rfl rfl)
theorem dX0_belongs_27 : decode cX0_belongs 27 = .ok (.bipush 8, 2) := dk_16 8 (dk_at dksX0_belongs_1 3 rfl rfl)
theorem dX0_belongs_29 : decode cX0_belongs 29 = .ok (.iload_n 1, 1) := dk_27 (dk_at dksX0_belongs_1 5 rfl rfl)
theorem dX0_belongs_30 : decode cX0_belongs 30 = .ok (.imul, 1) := dk_104 (dk_at dksX0_belongs_1 6 rfl rfl)
theorem dX0_belongs_31 : decode cX0_belongs 31 = .ok (.aload_n 0, 1) := dk_42 (dk_at dksX0_belongs_1 7 rfl rfl)
theorem dX0_belongs_32 : decode cX0_belongs 32 = .ok (.getfield 128, 3) := dk_180 0 128 (dk_at dksX0_belongs_1 8 rfl rfl)
theorem dX0_belongs_35 : decode cX0_belongs 35 = .ok (.if_icmp .le 5, 3) := dk_164 0 5 (dk_at dksX0_belongs_1 11 rfl rfl)
theorem dX0_belongs_38 : decode cX0_belongs 38 = .ok (.iconst (-1), 1) := dk_2 (dk_at dksX0_belongs_1 14 rfl rfl)
theorem dX0_belongs_39 : decode cX0_belongs 39 = .ok (.ireturn, 1) := dk_172 (dk_at dksX0_belongs_1 15 rfl rfl)
theorem dX0_belongs_40 : decode cX0_belongs 40 = .ok (.aload_n 0, 1) := dk_42 (dk_at dksX0_belongs_1 16 rfl rfl)
theorem dX0_belongs_41 : decode cX0_belongs 41 = .ok (.iconst 0, 1) := dk_3 (dk_at dksX0_belongs_1 17 rfl rfl)
theorem dX0_belongs_42 : decode cX0_belongs 42 = .ok (.putfield 128, 3) := dk_181 0 128 (dk_at dksX0_belongs_1 18 rfl rfl)
theorem dX0_belongs_45 : decode cX0_belongs 45 = .ok (.iconst 0, 1) := dk_3 (dk_at dksX0_belongs_1 21 rfl rfl)
theorem dX0_belongs_46 : decode cX0_belongs 46 = .ok (.istore 4, 2) := dk_54 4 (dk_at dksX0_belongs_1 22 rfl rfl)
theorem dX0_belongs_48 : decode cX0_belongs 48 = .ok (.iload 4, 2) := dk_21 4 (dk_at dksX0_belongs_2 0 rfl rfl)
theorem dX0_belongs_50 : decode cX0_belongs 50 = .ok (.bipush 8, 2) := dk_16 8 (dk_at dksX0_belongs_2 2 rfl rfl)
theorem dX0_belongs_52 : decode cX0_belongs 52 = .ok (.iload_n 1, 1) := dk_27 (dk_at dksX0_belongs_2 4 rfl rfl)
theorem dX0_belongs_53 : decode cX0_belongs 53 = .ok (.imul, 1) := dk_104 (dk_at dksX0_belongs_2 5 rfl rfl)
theorem dX0_belongs_54 : decode cX0_belongs 54 = .ok (.if_icmp .ge 23, 3) := dk_162 0 23 (dk_at dksX0_belongs_2 6 rfl rfl)
theorem dX0_belongs_57 : decode cX0_belongs 57 = .ok (.aload_n 0, 1) := dk_42 (dk_at dksX0_belongs_2 9 rfl rfl)
theorem dX0_belongs_58 : decode cX0_belongs 58 = .ok (.iload 4, 2) := dk_21 4 (dk_at dksX0_belongs_2 10 rfl rfl)
theorem dX0_belongs_60 : decode cX0_belongs 60 = .ok (.invokevirtual 201, 3) := dk_182 0 201 (dk_at dksX0_belongs_2 12 rfl rfl)
theorem dX0_belongs_63 : decode cX0_belongs 63 = .ok (.bipush 25, 2) := dk_16 25 (dk_at dksX0_belongs_2 15 rfl rfl)
theorem dX0_belongs_65 : decode cX0_belongs 65 = .ok (.if_icmp .le 6, 3) := dk_164 0 6 (dk_at dksX0_belongs_2 17 rfl rfl)
theorem dX0_belongs_68 : decode cX0_belongs 68 = .ok (.bipush (-3), 2) := dk_16 253 (dk_at dksX0_belongs_2 20 rfl rfl)
theorem dX0_belongs_70 : decode cX0_belongs 70 = .ok (.ireturn, 1) := dk_172 (dk_at dksX0_belongs_2 22 rfl rfl)
theorem dX0_belongs_71 : decode cX0_belongs 71 = .ok (.iinc 4 1, 3) := dk_132 4 1 (dk_at dksX0_belongs_3 0 rfl rfl)
theorem dX0_belongs_74 : decode cX0_belongs 74 = .ok (.goto (-26), 3) := dk_167 255 230 (dk_at dksX0_belongs_3 3 rfl rfl)
theorem dX0_belongs_77 : decode cX0_belongs 77 = .ok (.iconst 0, 1) := dk_3 (dk_at dksX0_belongs_3 6 rfl rfl)
theorem dX0_belongs_78 : decode cX0_belongs 78 = .ok (.istore 4, 2) := dk_54 4 (dk_at dksX0_belongs_3 7 rfl rfl)
theorem dX0_belongs_80 : decode cX0_belongs 80 = .ok (.ldc 173, 2) := dk_18 173 (dk_at dksX0_belongs_3 9 rfl rfl)
theorem dX0_belongs_82 : decode cX0_belongs 82 = .ok (.istore 5, 2) := dk_54 5 (dk_at dksX0_belongs_3 11 rfl rfl)
theorem dX0_belongs_84 : decode cX0_belongs 84 = .ok (.iconst 0, 1) := dk_3 (dk_at dksX0_belongs_3 13 rfl rfl)
theorem dX0_belongs_85 : decode cX0_belongs 85 = .ok (.istore 6, 2) := dk_54 6 (dk_at dksX0_belongs_3 14 rfl rfl)
theorem dX0_belongs_87 : decode cX0_belongs 87 = .ok (.iload 6, 2) := dk_21 6 (dk_at dksX0_belongs_3 16 rfl rfl)
theorem dX0_belongs_89 : decode cX0_belongs 89 = .ok (.iload_n 1, 1) := dk_27 (dk_at dksX0_belongs_3 18 rfl rfl)
theorem dX0_belongs_90 : decode cX0_belongs 90 = .ok (.if_icmp .ge 57, 3) := dk_162 0 57 (dk_at dksX0_belongs_3 19 rfl rfl)
theorem dX0_belongs_93 : decode cX0_belongs 93 = .ok (.bipush (-2), 2) := dk_16 254 (dk_at dksX0_belongs_3 22 rfl rfl)
theorem dX0_belongs_95 : decode cX0_belongs 95 = .ok (.istore 7, 2) := dk_54 7 (dk_at dksX0_belongs_4 0 rfl rfl)
theorem dX0_belongs_97 : decode cX0_belongs 97 = .ok (.iload 7, 2) := dk_21 7 (dk_at dksX0_belongs_4 2 rfl rfl)
theorem dX0_belongs_99 : decode cX0_belongs 99 = .ok (.iconst 2, 1) := dk_5 (dk_at dksX0_belongs_4 4 rfl rfl)
theorem dX0_belongs_100 : decode cX0_belongs 100 = .ok (.if_icmp .gt 41, 3) := dk_163 0 41 (dk_at dksX0_belongs_4 5 rfl rfl)
theorem dX0_belongs_103 : decode cX0_belongs 103 = .ok (.aload_n 0, 1) := dk_42 (dk_at dksX0_belongs_4 8 rfl rfl)
theorem dX0_belongs_104 : decode cX0_belongs 104 = .ok (.iload 6, 2) := dk_21 6 (dk_at dksX0_belongs_4 9 rfl rfl)
theorem dX0_belongs_106 : decode cX0_belongs 106 = .ok (.iload_n 2, 1) := dk_28 (dk_at dksX0_belongs_4 11 rfl rfl)
theorem dX0_belongs_107 : decode cX0_belongs 107 = .ok (.iload 7, 2) := dk_21 7 (dk_at dksX0_belongs_4 12 rfl rfl)
theorem dX0_belongs_109 : decode cX0_belongs 109 = .ok (.invokevirtual 278, 3) := dk_182 1 22 (dk_at dksX0_belongs_4 14 rfl rfl)
theorem dX0_belongs_112 : decode cX0_belongs 112 = .ok (.iload 5, 2) := dk_21 5 (dk_at dksX0_belongs_4 17 rfl rfl)
theorem dX0_belongs_114 : decode cX0_belongs 114 = .ok (.if_icmp .lt 6, 3) := dk_161 0 6 (dk_at dksX0_belongs_4 19 rfl rfl)
theorem dX0_belongs_117 : decode cX0_belongs 117 = .ok (.goto 18, 3) := dk_167 0 18 (dk_at dksX0_belongs_5 0 rfl rfl)
theorem dX0_belongs_120 : decode cX0_belongs 120 = .ok (.aload_n 0, 1) := dk_42 (dk_at dksX0_belongs_5 3 rfl rfl)
theorem dX0_belongs_121 : decode cX0_belongs 121 = .ok (.iload 6, 2) := dk_21 6 (dk_at dksX0_belongs_5 4 rfl rfl)
theorem dX0_belongs_123 : decode cX0_belongs 123 = .ok (.iload_n 2, 1) := dk_28 (dk_at dksX0_belongs_5 6 rfl rfl)
theorem dX0_belongs_124 : decode cX0_belongs 124 = .ok (.iload 7, 2) := dk_21 7 (dk_at dksX0_belongs_5 7 rfl rfl)
theorem dX0_belongs_126 : decode cX0_belongs 126 = .ok (.invokevirtual 278, 3) := dk_182 1 22 (dk_at dksX0_belongs_5 9 rfl rfl)
theorem dX0_belongs_129 : decode cX0_belongs 129 = .ok (.istore 5, 2) := dk_54 5 (dk_at dksX0_belongs_5 12 rfl rfl)
theorem dX0_belongs_131 : decode cX0_belongs 131 = .ok (.iload 6, 2) := dk_21 6 (dk_at dksX0_belongs_5 14 rfl rfl)
theorem dX0_belongs_133 : decode cX0_belongs 133 = .ok (.istore 4, 2) := dk_54 4 (dk_at dksX0_belongs_5 16 rfl rfl)
theorem dX0_belongs_135 : decode cX0_belongs 135 = .ok (.iinc 7 1, 3) := dk_132 7 1 (dk_at dksX0_belongs_5 18 rfl rfl)
theorem dX0_belongs_138 : decode cX0_belongs 138 = .ok (.goto (-41), 3) := dk_167 255 215 (dk_at dksX0_belongs_5 21 rfl rfl)
theorem dX0_belongs_141 : decode cX0_belongs 141 = .ok (.iinc 6 1, 3) := dk_132 6 1 (dk_at dksX0_belongs_6 0 rfl rfl)
theorem dX0_belongs_144 : decode cX0_belongs 144 = .ok (.goto (-57), 3) := dk_167 255 199 (dk_at dksX0_belongs_6 3 rfl rfl)
theorem dX0_belongs_147 : decode cX0_belongs 147 = .ok (.iload_n 3, 1) := dk_29 (dk_at dksX0_belongs_6 6 rfl rfl)
theorem dX0_belongs_148 : decode cX0_belongs 148 = .ok (.ifCond .ne 8, 3) := dk_154 0 8 (dk_at dksX0_belongs_6 7 rfl rfl)
theorem dX0_belongs_151 : decode cX0_belongs 151 = .ok (.iload 4, 2) := dk_21 4 (dk_at dksX0_belongs_6 10 rfl rfl)
theorem dX0_belongs_153 : decode cX0_belongs 153 = .ok (.goto 5, 3) := dk_167 0 5 (dk_at dksX0_belongs_6 12 rfl rfl)
theorem dX0_belongs_156 : decode cX0_belongs 156 = .ok (.iload 5, 2) := dk_21 5 (dk_at dksX0_belongs_6 15 rfl rfl)
theorem dX0_belongs_158 : decode cX0_belongs 158 = .ok (.ireturn, 1) := dk_172 (dk_at dksX0_belongs_6 17 rfl rfl)
abbrev cX0_gapsOf : ByteArray := prog_1_method_71_code
def yX0_gapsOf : MethodName := ⟨RX0, "gapsOf", "(III)I"⟩
def dkwX0_gapsOf_4 : List UInt8 := [21, 4, 104, 21, 5, 100, 172]
abbrev dktX0_gapsOf_4 : List UInt8 := dkwX0_gapsOf_4 ++ []
def dkwX0_gapsOf_3 : List UInt8 := [184, 0, 9, 54, 4, 21, 5, 21, 8, 96, 54, 5, 132, 6, 1, 132, 7, 1, 167, 255, 179, 21, 6]
abbrev dktX0_gapsOf_3 : List UInt8 := dkwX0_gapsOf_3 ++ dktX0_gapsOf_4
def dkwX0_gapsOf_2 : List UInt8 := [21, 7, 96, 46, 42, 16, 8, 27, 104, 21, 7, 96, 29, 100, 182, 0, 201, 96, 54, 8, 21, 4, 21, 8]
abbrev dktX0_gapsOf_2 : List UInt8 := dkwX0_gapsOf_2 ++ dktX0_gapsOf_3
def dkwX0_gapsOf_1 : List UInt8 := [16, 8, 184, 0, 12, 154, 0, 6, 167, 0, 55, 42, 180, 0, 65, 180, 0, 124, 4, 50, 16, 8, 28, 104]
abbrev dktX0_gapsOf_1 : List UInt8 := dkwX0_gapsOf_1 ++ dktX0_gapsOf_2
def dkwX0_gapsOf_0 : List UInt8 := [3, 54, 4, 3, 54, 5, 3, 54, 6, 3, 54, 7, 21, 7, 16, 8, 162, 0, 76, 21, 7, 29, 100]
abbrev dktX0_gapsOf_0 : List UInt8 := dkwX0_gapsOf_0 ++ dktX0_gapsOf_1
theorem dksX0_gapsOf_0 : cX0_gapsOf.data.toList.drop 0 = dktX0_gapsOf_0 := by decide +kernel
theorem dksX0_gapsOf_1 : cX0_gapsOf.data.toList.drop 23 = dktX0_gapsOf_1 := dk_seg dksX0_gapsOf_0 23 rfl rfl
theorem dksX0_gapsOf_2 : cX0_gapsOf.data.toList.drop 47 = dktX0_gapsOf_2 := dk_seg dksX0_gapsOf_1 24 rfl rfl
theorem dksX0_gapsOf_3 : cX0_gapsOf.data.toList.drop 71 = dktX0_gapsOf_3 := dk_seg dksX0_gapsOf_2 24 rfl rfl
theorem dksX0_gapsOf_4 : cX0_gapsOf.data.toList.drop 94 = dktX0_gapsOf_4 := dk_seg dksX0_gapsOf_3 23 rfl rfl
theorem dX0_gapsOf_0 : decode cX0_gapsOf 0 = .ok (.iconst 0, 1) := dk_3 (dk_at dksX0_gapsOf_0 0 rfl rfl)
theorem dX0_gapsOf_1 : decode cX0_gapsOf 1 = .ok (.istore 4, 2) := dk_54 4 (dk_at dksX0_gapsOf_0 1 rfl rfl)
theorem dX0_gapsOf_3 : decode cX0_gapsOf 3 = .ok (.iconst 0, 1) := dk_3 (dk_at dksX0_gapsOf_0 3 rfl rfl)
theorem dX0_gapsOf_4 : decode cX0_gapsOf 4 = .ok (.istore 5, 2) := dk_54 5 (dk_at dksX0_gapsOf_0 4 rfl rfl)
theorem dX0_gapsOf_6 : decode cX0_gapsOf 6 = .ok (.iconst 0, 1) := dk_3 (dk_at dksX0_gapsOf_0 6 rfl rfl)
theorem dX0_gapsOf_7 : decode cX0_gapsOf 7 = .ok (.istore 6, 2) := dk_54 6 (dk_at dksX0_gapsOf_0 7 rfl rfl)
theorem dX0_gapsOf_9 : decode cX0_gapsOf 9 = .ok (.iconst 0, 1) := dk_3 (dk_at dksX0_gapsOf_0 9 rfl rfl)
theorem dX0_gapsOf_10 : decode cX0_gapsOf 10 = .ok (.istore 7, 2) := dk_54 7 (dk_at dksX0_gapsOf_0 10 rfl rfl)
theorem dX0_gapsOf_12 : decode cX0_gapsOf 12 = .ok (.iload 7, 2) := dk_21 7 (dk_at dksX0_gapsOf_0 12 rfl rfl)
theorem dX0_gapsOf_14 : decode cX0_gapsOf 14 = .ok (.bipush 8, 2) := dk_16 8 (dk_at dksX0_gapsOf_0 14 rfl rfl)
theorem dX0_gapsOf_16 : decode cX0_gapsOf 16 = .ok (.if_icmp .ge 76, 3) := dk_162 0 76 (dk_at dksX0_gapsOf_0 16 rfl rfl)
theorem dX0_gapsOf_19 : decode cX0_gapsOf 19 = .ok (.iload 7, 2) := dk_21 7 (dk_at dksX0_gapsOf_0 19 rfl rfl)
theorem dX0_gapsOf_21 : decode cX0_gapsOf 21 = .ok (.iload_n 3, 1) := dk_29 (dk_at dksX0_gapsOf_0 21 rfl rfl)
theorem dX0_gapsOf_22 : decode cX0_gapsOf 22 = .ok (.isub, 1) := dk_100 (dk_at dksX0_gapsOf_0 22 rfl rfl)
theorem dX0_gapsOf_23 : decode cX0_gapsOf 23 = .ok (.bipush 8, 2) := dk_16 8 (dk_at dksX0_gapsOf_1 0 rfl rfl)
theorem dX0_gapsOf_25 : decode cX0_gapsOf 25 = .ok (.invokestatic 12, 3) := dk_184 0 12 (dk_at dksX0_gapsOf_1 2 rfl rfl)
theorem dX0_gapsOf_28 : decode cX0_gapsOf 28 = .ok (.ifCond .ne 6, 3) := dk_154 0 6 (dk_at dksX0_gapsOf_1 5 rfl rfl)
theorem dX0_gapsOf_31 : decode cX0_gapsOf 31 = .ok (.goto 55, 3) := dk_167 0 55 (dk_at dksX0_gapsOf_1 8 rfl rfl)
theorem dX0_gapsOf_34 : decode cX0_gapsOf 34 = .ok (.aload_n 0, 1) := dk_42 (dk_at dksX0_gapsOf_1 11 rfl rfl)
theorem dX0_gapsOf_35 : decode cX0_gapsOf 35 = .ok (.getfield 65, 3) := dk_180 0 65 (dk_at dksX0_gapsOf_1 12 rfl rfl)
theorem dX0_gapsOf_38 : decode cX0_gapsOf 38 = .ok (.getfield 124, 3) := dk_180 0 124 (dk_at dksX0_gapsOf_1 15 rfl rfl)
theorem dX0_gapsOf_41 : decode cX0_gapsOf 41 = .ok (.iconst 1, 1) := dk_4 (dk_at dksX0_gapsOf_1 18 rfl rfl)
theorem dX0_gapsOf_42 : decode cX0_gapsOf 42 = .ok (.aaload, 1) := dk_50 (dk_at dksX0_gapsOf_1 19 rfl rfl)
theorem dX0_gapsOf_43 : decode cX0_gapsOf 43 = .ok (.bipush 8, 2) := dk_16 8 (dk_at dksX0_gapsOf_1 20 rfl rfl)
theorem dX0_gapsOf_45 : decode cX0_gapsOf 45 = .ok (.iload_n 2, 1) := dk_28 (dk_at dksX0_gapsOf_1 22 rfl rfl)
theorem dX0_gapsOf_46 : decode cX0_gapsOf 46 = .ok (.imul, 1) := dk_104 (dk_at dksX0_gapsOf_1 23 rfl rfl)
theorem dX0_gapsOf_47 : decode cX0_gapsOf 47 = .ok (.iload 7, 2) := dk_21 7 (dk_at dksX0_gapsOf_2 0 rfl rfl)
theorem dX0_gapsOf_49 : decode cX0_gapsOf 49 = .ok (.iadd, 1) := dk_96 (dk_at dksX0_gapsOf_2 2 rfl rfl)
theorem dX0_gapsOf_50 : decode cX0_gapsOf 50 = .ok (.iaload, 1) := dk_46 (dk_at dksX0_gapsOf_2 3 rfl rfl)
theorem dX0_gapsOf_51 : decode cX0_gapsOf 51 = .ok (.aload_n 0, 1) := dk_42 (dk_at dksX0_gapsOf_2 4 rfl rfl)
theorem dX0_gapsOf_52 : decode cX0_gapsOf 52 = .ok (.bipush 8, 2) := dk_16 8 (dk_at dksX0_gapsOf_2 5 rfl rfl)
theorem dX0_gapsOf_54 : decode cX0_gapsOf 54 = .ok (.iload_n 1, 1) := dk_27 (dk_at dksX0_gapsOf_2 7 rfl rfl)
theorem dX0_gapsOf_55 : decode cX0_gapsOf 55 = .ok (.imul, 1) := dk_104 (dk_at dksX0_gapsOf_2 8 rfl rfl)
theorem dX0_gapsOf_56 : decode cX0_gapsOf 56 = .ok (.iload 7, 2) := dk_21 7 (dk_at dksX0_gapsOf_2 9 rfl rfl)
theorem dX0_gapsOf_58 : decode cX0_gapsOf 58 = .ok (.iadd, 1) := dk_96 (dk_at dksX0_gapsOf_2 11 rfl rfl)
theorem dX0_gapsOf_59 : decode cX0_gapsOf 59 = .ok (.iload_n 3, 1) := dk_29 (dk_at dksX0_gapsOf_2 12 rfl rfl)
theorem dX0_gapsOf_60 : decode cX0_gapsOf 60 = .ok (.isub, 1) := dk_100 (dk_at dksX0_gapsOf_2 13 rfl rfl)
theorem dX0_gapsOf_61 : decode cX0_gapsOf 61 = .ok (.invokevirtual 201, 3) := dk_182 0 201 (dk_at dksX0_gapsOf_2 14 rfl rfl)
theorem dX0_gapsOf_64 : decode cX0_gapsOf 64 = .ok (.iadd, 1) := dk_96 (dk_at dksX0_gapsOf_2 17 rfl rfl)
theorem dX0_gapsOf_65 : decode cX0_gapsOf 65 = .ok (.istore 8, 2) := dk_54 8 (dk_at dksX0_gapsOf_2 18 rfl rfl)
theorem dX0_gapsOf_67 : decode cX0_gapsOf 67 = .ok (.iload 4, 2) := dk_21 4 (dk_at dksX0_gapsOf_2 20 rfl rfl)
theorem dX0_gapsOf_69 : decode cX0_gapsOf 69 = .ok (.iload 8, 2) := dk_21 8 (dk_at dksX0_gapsOf_2 22 rfl rfl)
theorem dX0_gapsOf_71 : decode cX0_gapsOf 71 = .ok (.invokestatic 9, 3) := dk_184 0 9 (dk_at dksX0_gapsOf_3 0 rfl rfl)
theorem dX0_gapsOf_74 : decode cX0_gapsOf 74 = .ok (.istore 4, 2) := dk_54 4 (dk_at dksX0_gapsOf_3 3 rfl rfl)
theorem dX0_gapsOf_76 : decode cX0_gapsOf 76 = .ok (.iload 5, 2) := dk_21 5 (dk_at dksX0_gapsOf_3 5 rfl rfl)
theorem dX0_gapsOf_78 : decode cX0_gapsOf 78 = .ok (.iload 8, 2) := dk_21 8 (dk_at dksX0_gapsOf_3 7 rfl rfl)
theorem dX0_gapsOf_80 : decode cX0_gapsOf 80 = .ok (.iadd, 1) := dk_96 (dk_at dksX0_gapsOf_3 9 rfl rfl)
theorem dX0_gapsOf_81 : decode cX0_gapsOf 81 = .ok (.istore 5, 2) := dk_54 5 (dk_at dksX0_gapsOf_3 10 rfl rfl)
theorem dX0_gapsOf_83 : decode cX0_gapsOf 83 = .ok (.iinc 6 1, 3) := dk_132 6 1 (dk_at dksX0_gapsOf_3 12 rfl rfl)
theorem dX0_gapsOf_86 : decode cX0_gapsOf 86 = .ok (.iinc 7 1, 3) := dk_132 7 1 (dk_at dksX0_gapsOf_3 15 rfl rfl)
theorem dX0_gapsOf_89 : decode cX0_gapsOf 89 = .ok (.goto (-77), 3) := dk_167 255 179 (dk_at dksX0_gapsOf_3 18 rfl rfl)
theorem dX0_gapsOf_92 : decode cX0_gapsOf 92 = .ok (.iload 6, 2) := dk_21 6 (dk_at dksX0_gapsOf_3 21 rfl rfl)
theorem dX0_gapsOf_94 : decode cX0_gapsOf 94 = .ok (.iload 4, 2) := dk_21 4 (dk_at dksX0_gapsOf_4 0 rfl rfl)
theorem dX0_gapsOf_96 : decode cX0_gapsOf 96 = .ok (.imul, 1) := dk_104 (dk_at dksX0_gapsOf_4 2 rfl rfl)
theorem dX0_gapsOf_97 : decode cX0_gapsOf 97 = .ok (.iload 5, 2) := dk_21 5 (dk_at dksX0_gapsOf_4 3 rfl rfl)
theorem dX0_gapsOf_99 : decode cX0_gapsOf 99 = .ok (.isub, 1) := dk_100 (dk_at dksX0_gapsOf_4 5 rfl rfl)
theorem dX0_gapsOf_100 : decode cX0_gapsOf 100 = .ok (.ireturn, 1) := dk_172 (dk_at dksX0_gapsOf_4 6 rfl rfl)
abbrev cX0_along : ByteArray := prog_1_method_75_code
def yX0_along : MethodName := ⟨RX0, "along", "(II)I"⟩
def dkwX0_along_5 : List UInt8 := [62, 132, 4, 1, 167, 255, 199, 29, 172]
abbrev dktX0_along_5 : List UInt8 := dkwX0_along_5 ++ []
def dkwX0_along_4 : List UInt8 := [184, 0, 9, 167, 0, 21, 29, 42, 180, 0, 65, 42, 180, 0, 56, 21, 4, 46, 182, 0, 177, 184, 0, 3]
abbrev dktX0_along_4 : List UInt8 := dkwX0_along_4 ++ dktX0_along_5
def dkwX0_along_3 : List UInt8 := [162, 0, 54, 28, 4, 160, 0, 24, 29, 42, 180, 0, 65, 42, 180, 0, 56, 21, 4, 46, 182, 0, 177]
abbrev dktX0_along_3 : List UInt8 := dkwX0_along_3 ++ dktX0_along_4
def dkwX0_along_2 : List UInt8 := [182, 1, 28, 172, 42, 180, 0, 65, 16, 31, 182, 0, 177, 62, 3, 54, 4, 21, 4, 42, 180, 0, 161]
abbrev dktX0_along_2 : List UInt8 := dkwX0_along_2 ++ dktX0_along_3
def dkwX0_along_1 : List UInt8 := [42, 180, 0, 161, 172, 28, 5, 164, 0, 21, 28, 6, 160, 0, 11, 42, 27, 182, 1, 25, 167, 0, 7, 42]
abbrev dktX0_along_1 : List UInt8 := dkwX0_along_1 ++ dktX0_along_2
def dkwX0_along_0 : List UInt8 := [27, 3, 16, 50, 184, 0, 16, 153, 0, 11, 28, 8, 184, 0, 12, 154, 0, 5, 2, 172, 28, 154, 0, 8]
abbrev dktX0_along_0 : List UInt8 := dkwX0_along_0 ++ dktX0_along_1
theorem dksX0_along_0 : cX0_along.data.toList.drop 0 = dktX0_along_0 := by decide +kernel
theorem dksX0_along_1 : cX0_along.data.toList.drop 24 = dktX0_along_1 := dk_seg dksX0_along_0 24 rfl rfl
theorem dksX0_along_2 : cX0_along.data.toList.drop 48 = dktX0_along_2 := dk_seg dksX0_along_1 24 rfl rfl
theorem dksX0_along_3 : cX0_along.data.toList.drop 71 = dktX0_along_3 := dk_seg dksX0_along_2 23 rfl rfl
theorem dksX0_along_4 : cX0_along.data.toList.drop 94 = dktX0_along_4 := dk_seg dksX0_along_3 23 rfl rfl
theorem dksX0_along_5 : cX0_along.data.toList.drop 118 = dktX0_along_5 := dk_seg dksX0_along_4 24 rfl rfl
theorem dX0_along_0 : decode cX0_along 0 = .ok (.iload_n 1, 1) := dk_27 (dk_at dksX0_along_0 0 rfl rfl)
theorem dX0_along_1 : decode cX0_along 1 = .ok (.iconst 0, 1) := dk_3 (dk_at dksX0_along_0 1 rfl rfl)
theorem dX0_along_2 : decode cX0_along 2 = .ok (.bipush 50, 2) := dk_16 50 (dk_at dksX0_along_0 2 rfl rfl)
theorem dX0_along_4 : decode cX0_along 4 = .ok (.invokestatic 16, 3) := dk_184 0 16 (dk_at dksX0_along_0 4 rfl rfl)
theorem dX0_along_7 : decode cX0_along 7 = .ok (.ifCond .eq 11, 3) := dk_153 0 11 (dk_at dksX0_along_0 7 rfl rfl)
theorem dX0_along_10 : decode cX0_along 10 = .ok (.iload_n 2, 1) := dk_28 (dk_at dksX0_along_0 10 rfl rfl)
theorem dX0_along_11 : decode cX0_along 11 = .ok (.iconst 5, 1) := dk_8 (dk_at dksX0_along_0 11 rfl rfl)
theorem dX0_along_12 : decode cX0_along 12 = .ok (.invokestatic 12, 3) := dk_184 0 12 (dk_at dksX0_along_0 12 rfl rfl)
theorem dX0_along_15 : decode cX0_along 15 = .ok (.ifCond .ne 5, 3) := dk_154 0 5 (dk_at dksX0_along_0 15 rfl rfl)
theorem dX0_along_18 : decode cX0_along 18 = .ok (.iconst (-1), 1) := dk_2 (dk_at dksX0_along_0 18 rfl rfl)
theorem dX0_along_19 : decode cX0_along 19 = .ok (.ireturn, 1) := dk_172 (dk_at dksX0_along_0 19 rfl rfl)
theorem dX0_along_20 : decode cX0_along 20 = .ok (.iload_n 2, 1) := dk_28 (dk_at dksX0_along_0 20 rfl rfl)
theorem dX0_along_21 : decode cX0_along 21 = .ok (.ifCond .ne 8, 3) := dk_154 0 8 (dk_at dksX0_along_0 21 rfl rfl)
theorem dX0_along_24 : decode cX0_along 24 = .ok (.aload_n 0, 1) := dk_42 (dk_at dksX0_along_1 0 rfl rfl)
theorem dX0_along_25 : decode cX0_along 25 = .ok (.getfield 161, 3) := dk_180 0 161 (dk_at dksX0_along_1 1 rfl rfl)
theorem dX0_along_28 : decode cX0_along 28 = .ok (.ireturn, 1) := dk_172 (dk_at dksX0_along_1 4 rfl rfl)
theorem dX0_along_29 : decode cX0_along 29 = .ok (.iload_n 2, 1) := dk_28 (dk_at dksX0_along_1 5 rfl rfl)
theorem dX0_along_30 : decode cX0_along 30 = .ok (.iconst 2, 1) := dk_5 (dk_at dksX0_along_1 6 rfl rfl)
theorem dX0_along_31 : decode cX0_along 31 = .ok (.if_icmp .le 21, 3) := dk_164 0 21 (dk_at dksX0_along_1 7 rfl rfl)
theorem dX0_along_34 : decode cX0_along 34 = .ok (.iload_n 2, 1) := dk_28 (dk_at dksX0_along_1 10 rfl rfl)
theorem dX0_along_35 : decode cX0_along 35 = .ok (.iconst 3, 1) := dk_6 (dk_at dksX0_along_1 11 rfl rfl)
theorem dX0_along_36 : decode cX0_along 36 = .ok (.if_icmp .ne 11, 3) := dk_160 0 11 (dk_at dksX0_along_1 12 rfl rfl)
theorem dX0_along_39 : decode cX0_along 39 = .ok (.aload_n 0, 1) := dk_42 (dk_at dksX0_along_1 15 rfl rfl)
theorem dX0_along_40 : decode cX0_along 40 = .ok (.iload_n 1, 1) := dk_27 (dk_at dksX0_along_1 16 rfl rfl)
theorem dX0_along_41 : decode cX0_along 41 = .ok (.invokevirtual 281, 3) := dk_182 1 25 (dk_at dksX0_along_1 17 rfl rfl)
theorem dX0_along_44 : decode cX0_along 44 = .ok (.goto 7, 3) := dk_167 0 7 (dk_at dksX0_along_1 20 rfl rfl)
theorem dX0_along_47 : decode cX0_along 47 = .ok (.aload_n 0, 1) := dk_42 (dk_at dksX0_along_1 23 rfl rfl)
theorem dX0_along_48 : decode cX0_along 48 = .ok (.invokevirtual 284, 3) := dk_182 1 28 (dk_at dksX0_along_2 0 rfl rfl)
theorem dX0_along_51 : decode cX0_along 51 = .ok (.ireturn, 1) := dk_172 (dk_at dksX0_along_2 3 rfl rfl)
theorem dX0_along_52 : decode cX0_along 52 = .ok (.aload_n 0, 1) := dk_42 (dk_at dksX0_along_2 4 rfl rfl)
theorem dX0_along_53 : decode cX0_along 53 = .ok (.getfield 65, 3) := dk_180 0 65 (dk_at dksX0_along_2 5 rfl rfl)
theorem dX0_along_56 : decode cX0_along 56 = .ok (.bipush 31, 2) := dk_16 31 (dk_at dksX0_along_2 8 rfl rfl)
theorem dX0_along_58 : decode cX0_along 58 = .ok (.invokevirtual 177, 3) := dk_182 0 177 (dk_at dksX0_along_2 10 rfl rfl)
theorem dX0_along_61 : decode cX0_along 61 = .ok (.istore_n 3, 1) := dk_62 (dk_at dksX0_along_2 13 rfl rfl)
theorem dX0_along_62 : decode cX0_along 62 = .ok (.iconst 0, 1) := dk_3 (dk_at dksX0_along_2 14 rfl rfl)
theorem dX0_along_63 : decode cX0_along 63 = .ok (.istore 4, 2) := dk_54 4 (dk_at dksX0_along_2 15 rfl rfl)
theorem dX0_along_65 : decode cX0_along 65 = .ok (.iload 4, 2) := dk_21 4 (dk_at dksX0_along_2 17 rfl rfl)
theorem dX0_along_67 : decode cX0_along 67 = .ok (.aload_n 0, 1) := dk_42 (dk_at dksX0_along_2 19 rfl rfl)
theorem dX0_along_68 : decode cX0_along 68 = .ok (.getfield 161, 3) := dk_180 0 161 (dk_at dksX0_along_2 20 rfl rfl)
theorem dX0_along_71 : decode cX0_along 71 = .ok (.if_icmp .ge 54, 3) := dk_162 0 54 (dk_at dksX0_along_3 0 rfl rfl)
theorem dX0_along_74 : decode cX0_along 74 = .ok (.iload_n 2, 1) := dk_28 (dk_at dksX0_along_3 3 rfl rfl)
theorem dX0_along_75 : decode cX0_along 75 = .ok (.iconst 1, 1) := dk_4 (dk_at dksX0_along_3 4 rfl rfl)
theorem dX0_along_76 : decode cX0_along 76 = .ok (.if_icmp .ne 24, 3) := dk_160 0 24 (dk_at dksX0_along_3 5 rfl rfl)
theorem dX0_along_79 : decode cX0_along 79 = .ok (.iload_n 3, 1) := dk_29 (dk_at dksX0_along_3 8 rfl rfl)
theorem dX0_along_80 : decode cX0_along 80 = .ok (.aload_n 0, 1) := dk_42 (dk_at dksX0_along_3 9 rfl rfl)
theorem dX0_along_81 : decode cX0_along 81 = .ok (.getfield 65, 3) := dk_180 0 65 (dk_at dksX0_along_3 10 rfl rfl)
theorem dX0_along_84 : decode cX0_along 84 = .ok (.aload_n 0, 1) := dk_42 (dk_at dksX0_along_3 13 rfl rfl)
theorem dX0_along_85 : decode cX0_along 85 = .ok (.getfield 56, 3) := dk_180 0 56 (dk_at dksX0_along_3 14 rfl rfl)
theorem dX0_along_88 : decode cX0_along 88 = .ok (.iload 4, 2) := dk_21 4 (dk_at dksX0_along_3 17 rfl rfl)
theorem dX0_along_90 : decode cX0_along 90 = .ok (.iaload, 1) := dk_46 (dk_at dksX0_along_3 19 rfl rfl)
theorem dX0_along_91 : decode cX0_along 91 = .ok (.invokevirtual 177, 3) := dk_182 0 177 (dk_at dksX0_along_3 20 rfl rfl)
theorem dX0_along_94 : decode cX0_along 94 = .ok (.invokestatic 9, 3) := dk_184 0 9 (dk_at dksX0_along_4 0 rfl rfl)
theorem dX0_along_97 : decode cX0_along 97 = .ok (.goto 21, 3) := dk_167 0 21 (dk_at dksX0_along_4 3 rfl rfl)
theorem dX0_along_100 : decode cX0_along 100 = .ok (.iload_n 3, 1) := dk_29 (dk_at dksX0_along_4 6 rfl rfl)
theorem dX0_along_101 : decode cX0_along 101 = .ok (.aload_n 0, 1) := dk_42 (dk_at dksX0_along_4 7 rfl rfl)
theorem dX0_along_102 : decode cX0_along 102 = .ok (.getfield 65, 3) := dk_180 0 65 (dk_at dksX0_along_4 8 rfl rfl)
theorem dX0_along_105 : decode cX0_along 105 = .ok (.aload_n 0, 1) := dk_42 (dk_at dksX0_along_4 11 rfl rfl)
theorem dX0_along_106 : decode cX0_along 106 = .ok (.getfield 56, 3) := dk_180 0 56 (dk_at dksX0_along_4 12 rfl rfl)
theorem dX0_along_109 : decode cX0_along 109 = .ok (.iload 4, 2) := dk_21 4 (dk_at dksX0_along_4 15 rfl rfl)
theorem dX0_along_111 : decode cX0_along 111 = .ok (.iaload, 1) := dk_46 (dk_at dksX0_along_4 17 rfl rfl)
theorem dX0_along_112 : decode cX0_along 112 = .ok (.invokevirtual 177, 3) := dk_182 0 177 (dk_at dksX0_along_4 18 rfl rfl)
theorem dX0_along_115 : decode cX0_along 115 = .ok (.invokestatic 3, 3) := dk_184 0 3 (dk_at dksX0_along_4 21 rfl rfl)
theorem dX0_along_118 : decode cX0_along 118 = .ok (.istore_n 3, 1) := dk_62 (dk_at dksX0_along_5 0 rfl rfl)
theorem dX0_along_119 : decode cX0_along 119 = .ok (.iinc 4 1, 3) := dk_132 4 1 (dk_at dksX0_along_5 1 rfl rfl)
theorem dX0_along_122 : decode cX0_along 122 = .ok (.goto (-57), 3) := dk_167 255 199 (dk_at dksX0_along_5 4 rfl rfl)
theorem dX0_along_125 : decode cX0_along 125 = .ok (.iload_n 3, 1) := dk_29 (dk_at dksX0_along_5 7 rfl rfl)
theorem dX0_along_126 : decode cX0_along 126 = .ok (.ireturn, 1) := dk_172 (dk_at dksX0_along_5 8 rfl rfl)
abbrev cX0_stopped : ByteArray := prog_1_method_73_code
def yX0_stopped : MethodName := ⟨RX0, "stopped", "(I)I"⟩
def dkwX0_stopped_2 : List UInt8 := [167, 0, 4, 3, 96, 61, 42, 180, 0, 56, 21, 4, 46, 62, 132, 4, 1, 167, 255, 201, 28, 172]
abbrev dktX0_stopped_2 : List UInt8 := dkwX0_stopped_2 ++ []
def dkwX0_stopped_1 : List UInt8 := [180, 0, 56, 21, 4, 46, 182, 0, 177, 42, 180, 0, 65, 29, 182, 0, 177, 100, 27, 164, 0, 7, 4]
abbrev dktX0_stopped_1 : List UInt8 := dkwX0_stopped_1 ++ dktX0_stopped_2
def dkwX0_stopped_0 : List UInt8 := [3, 61, 16, 31, 62, 3, 54, 4, 21, 4, 42, 180, 0, 161, 162, 0, 52, 28, 42, 180, 0, 65, 42]
abbrev dktX0_stopped_0 : List UInt8 := dkwX0_stopped_0 ++ dktX0_stopped_1
theorem dksX0_stopped_0 : cX0_stopped.data.toList.drop 0 = dktX0_stopped_0 := by decide +kernel
theorem dksX0_stopped_1 : cX0_stopped.data.toList.drop 23 = dktX0_stopped_1 := dk_seg dksX0_stopped_0 23 rfl rfl
theorem dksX0_stopped_2 : cX0_stopped.data.toList.drop 46 = dktX0_stopped_2 := dk_seg dksX0_stopped_1 23 rfl rfl
theorem dX0_stopped_0 : decode cX0_stopped 0 = .ok (.iconst 0, 1) := dk_3 (dk_at dksX0_stopped_0 0 rfl rfl)
theorem dX0_stopped_1 : decode cX0_stopped 1 = .ok (.istore_n 2, 1) := dk_61 (dk_at dksX0_stopped_0 1 rfl rfl)
theorem dX0_stopped_2 : decode cX0_stopped 2 = .ok (.bipush 31, 2) := dk_16 31 (dk_at dksX0_stopped_0 2 rfl rfl)
theorem dX0_stopped_4 : decode cX0_stopped 4 = .ok (.istore_n 3, 1) := dk_62 (dk_at dksX0_stopped_0 4 rfl rfl)
theorem dX0_stopped_5 : decode cX0_stopped 5 = .ok (.iconst 0, 1) := dk_3 (dk_at dksX0_stopped_0 5 rfl rfl)
theorem dX0_stopped_6 : decode cX0_stopped 6 = .ok (.istore 4, 2) := dk_54 4 (dk_at dksX0_stopped_0 6 rfl rfl)
theorem dX0_stopped_8 : decode cX0_stopped 8 = .ok (.iload 4, 2) := dk_21 4 (dk_at dksX0_stopped_0 8 rfl rfl)
theorem dX0_stopped_10 : decode cX0_stopped 10 = .ok (.aload_n 0, 1) := dk_42 (dk_at dksX0_stopped_0 10 rfl rfl)
theorem dX0_stopped_11 : decode cX0_stopped 11 = .ok (.getfield 161, 3) := dk_180 0 161 (dk_at dksX0_stopped_0 11 rfl rfl)
theorem dX0_stopped_14 : decode cX0_stopped 14 = .ok (.if_icmp .ge 52, 3) := dk_162 0 52 (dk_at dksX0_stopped_0 14 rfl rfl)
theorem dX0_stopped_17 : decode cX0_stopped 17 = .ok (.iload_n 2, 1) := dk_28 (dk_at dksX0_stopped_0 17 rfl rfl)
theorem dX0_stopped_18 : decode cX0_stopped 18 = .ok (.aload_n 0, 1) := dk_42 (dk_at dksX0_stopped_0 18 rfl rfl)
theorem dX0_stopped_19 : decode cX0_stopped 19 = .ok (.getfield 65, 3) := dk_180 0 65 (dk_at dksX0_stopped_0 19 rfl rfl)
theorem dX0_stopped_22 : decode cX0_stopped 22 = .ok (.aload_n 0, 1) := dk_42 (dk_at dksX0_stopped_0 22 rfl rfl)
theorem dX0_stopped_23 : decode cX0_stopped 23 = .ok (.getfield 56, 3) := dk_180 0 56 (dk_at dksX0_stopped_1 0 rfl rfl)
theorem dX0_stopped_26 : decode cX0_stopped 26 = .ok (.iload 4, 2) := dk_21 4 (dk_at dksX0_stopped_1 3 rfl rfl)
theorem dX0_stopped_28 : decode cX0_stopped 28 = .ok (.iaload, 1) := dk_46 (dk_at dksX0_stopped_1 5 rfl rfl)
theorem dX0_stopped_29 : decode cX0_stopped 29 = .ok (.invokevirtual 177, 3) := dk_182 0 177 (dk_at dksX0_stopped_1 6 rfl rfl)
theorem dX0_stopped_32 : decode cX0_stopped 32 = .ok (.aload_n 0, 1) := dk_42 (dk_at dksX0_stopped_1 9 rfl rfl)
theorem dX0_stopped_33 : decode cX0_stopped 33 = .ok (.getfield 65, 3) := dk_180 0 65 (dk_at dksX0_stopped_1 10 rfl rfl)
theorem dX0_stopped_36 : decode cX0_stopped 36 = .ok (.iload_n 3, 1) := dk_29 (dk_at dksX0_stopped_1 13 rfl rfl)
theorem dX0_stopped_37 : decode cX0_stopped 37 = .ok (.invokevirtual 177, 3) := dk_182 0 177 (dk_at dksX0_stopped_1 14 rfl rfl)
theorem dX0_stopped_40 : decode cX0_stopped 40 = .ok (.isub, 1) := dk_100 (dk_at dksX0_stopped_1 17 rfl rfl)
theorem dX0_stopped_41 : decode cX0_stopped 41 = .ok (.iload_n 1, 1) := dk_27 (dk_at dksX0_stopped_1 18 rfl rfl)
theorem dX0_stopped_42 : decode cX0_stopped 42 = .ok (.if_icmp .le 7, 3) := dk_164 0 7 (dk_at dksX0_stopped_1 19 rfl rfl)
theorem dX0_stopped_45 : decode cX0_stopped 45 = .ok (.iconst 1, 1) := dk_4 (dk_at dksX0_stopped_1 22 rfl rfl)
theorem dX0_stopped_46 : decode cX0_stopped 46 = .ok (.goto 4, 3) := dk_167 0 4 (dk_at dksX0_stopped_2 0 rfl rfl)
theorem dX0_stopped_49 : decode cX0_stopped 49 = .ok (.iconst 0, 1) := dk_3 (dk_at dksX0_stopped_2 3 rfl rfl)
theorem dX0_stopped_50 : decode cX0_stopped 50 = .ok (.iadd, 1) := dk_96 (dk_at dksX0_stopped_2 4 rfl rfl)
theorem dX0_stopped_51 : decode cX0_stopped 51 = .ok (.istore_n 2, 1) := dk_61 (dk_at dksX0_stopped_2 5 rfl rfl)
theorem dX0_stopped_52 : decode cX0_stopped 52 = .ok (.aload_n 0, 1) := dk_42 (dk_at dksX0_stopped_2 6 rfl rfl)
theorem dX0_stopped_53 : decode cX0_stopped 53 = .ok (.getfield 56, 3) := dk_180 0 56 (dk_at dksX0_stopped_2 7 rfl rfl)
theorem dX0_stopped_56 : decode cX0_stopped 56 = .ok (.iload 4, 2) := dk_21 4 (dk_at dksX0_stopped_2 10 rfl rfl)
theorem dX0_stopped_58 : decode cX0_stopped 58 = .ok (.iaload, 1) := dk_46 (dk_at dksX0_stopped_2 12 rfl rfl)
theorem dX0_stopped_59 : decode cX0_stopped 59 = .ok (.istore_n 3, 1) := dk_62 (dk_at dksX0_stopped_2 13 rfl rfl)
theorem dX0_stopped_60 : decode cX0_stopped 60 = .ok (.iinc 4 1, 3) := dk_132 4 1 (dk_at dksX0_stopped_2 14 rfl rfl)
theorem dX0_stopped_63 : decode cX0_stopped 63 = .ok (.goto (-55), 3) := dk_167 255 201 (dk_at dksX0_stopped_2 17 rfl rfl)
theorem dX0_stopped_66 : decode cX0_stopped 66 = .ok (.iload_n 2, 1) := dk_28 (dk_at dksX0_stopped_2 20 rfl rfl)
theorem dX0_stopped_67 : decode cX0_stopped 67 = .ok (.ireturn, 1) := dk_172 (dk_at dksX0_stopped_2 21 rfl rfl)
abbrev cX0_unlikeGlides : ByteArray := prog_1_method_74_code
def yX0_unlikeGlides : MethodName := ⟨RX0, "unlikeGlides", "()I"⟩
def dkwX0_unlikeGlides_3 : List UInt8 := [3, 96, 60, 132, 2, 1, 167, 255, 184, 27, 172]
abbrev dktX0_unlikeGlides_3 : List UInt8 := dkwX0_unlikeGlides_3 ++ []
def dkwX0_unlikeGlides_2 : List UInt8 := [160, 0, 7, 4, 167, 0, 4, 3, 62, 132, 4, 1, 167, 255, 223, 27, 29, 153, 0, 7, 4, 167, 0, 4]
abbrev dktX0_unlikeGlides_2 : List UInt8 := dkwX0_unlikeGlides_2 ++ dktX0_unlikeGlides_3
def dkwX0_unlikeGlides_1 : List UInt8 := [54, 4, 21, 4, 42, 180, 0, 161, 162, 0, 30, 29, 154, 0, 14, 42, 180, 0, 56, 21, 4, 46, 28]
abbrev dktX0_unlikeGlides_1 : List UInt8 := dkwX0_unlikeGlides_1 ++ dktX0_unlikeGlides_2
def dkwX0_unlikeGlides_0 : List UInt8 := [3, 60, 3, 61, 28, 16, 63, 162, 0, 72, 28, 16, 31, 160, 0, 7, 4, 167, 0, 4, 3, 62, 3]
abbrev dktX0_unlikeGlides_0 : List UInt8 := dkwX0_unlikeGlides_0 ++ dktX0_unlikeGlides_1
theorem dksX0_unlikeGlides_0 : cX0_unlikeGlides.data.toList.drop 0 = dktX0_unlikeGlides_0 := by decide +kernel
theorem dksX0_unlikeGlides_1 : cX0_unlikeGlides.data.toList.drop 23 = dktX0_unlikeGlides_1 := dk_seg dksX0_unlikeGlides_0 23 rfl rfl
theorem dksX0_unlikeGlides_2 : cX0_unlikeGlides.data.toList.drop 46 = dktX0_unlikeGlides_2 := dk_seg dksX0_unlikeGlides_1 23 rfl rfl
theorem dksX0_unlikeGlides_3 : cX0_unlikeGlides.data.toList.drop 70 = dktX0_unlikeGlides_3 := dk_seg dksX0_unlikeGlides_2 24 rfl rfl
theorem dX0_unlikeGlides_0 : decode cX0_unlikeGlides 0 = .ok (.iconst 0, 1) := dk_3 (dk_at dksX0_unlikeGlides_0 0 rfl rfl)
theorem dX0_unlikeGlides_1 : decode cX0_unlikeGlides 1 = .ok (.istore_n 1, 1) := dk_60 (dk_at dksX0_unlikeGlides_0 1 rfl rfl)
theorem dX0_unlikeGlides_2 : decode cX0_unlikeGlides 2 = .ok (.iconst 0, 1) := dk_3 (dk_at dksX0_unlikeGlides_0 2 rfl rfl)
theorem dX0_unlikeGlides_3 : decode cX0_unlikeGlides 3 = .ok (.istore_n 2, 1) := dk_61 (dk_at dksX0_unlikeGlides_0 3 rfl rfl)
theorem dX0_unlikeGlides_4 : decode cX0_unlikeGlides 4 = .ok (.iload_n 2, 1) := dk_28 (dk_at dksX0_unlikeGlides_0 4 rfl rfl)
theorem dX0_unlikeGlides_5 : decode cX0_unlikeGlides 5 = .ok (.bipush 63, 2) := dk_16 63 (dk_at dksX0_unlikeGlides_0 5 rfl rfl)
theorem dX0_unlikeGlides_7 : decode cX0_unlikeGlides 7 = .ok (.if_icmp .ge 72, 3) := dk_162 0 72 (dk_at dksX0_unlikeGlides_0 7 rfl rfl)
theorem dX0_unlikeGlides_10 : decode cX0_unlikeGlides 10 = .ok (.iload_n 2, 1) := dk_28 (dk_at dksX0_unlikeGlides_0 10 rfl rfl)
theorem dX0_unlikeGlides_11 : decode cX0_unlikeGlides 11 = .ok (.bipush 31, 2) := dk_16 31 (dk_at dksX0_unlikeGlides_0 11 rfl rfl)
theorem dX0_unlikeGlides_13 : decode cX0_unlikeGlides 13 = .ok (.if_icmp .ne 7, 3) := dk_160 0 7 (dk_at dksX0_unlikeGlides_0 13 rfl rfl)
theorem dX0_unlikeGlides_16 : decode cX0_unlikeGlides 16 = .ok (.iconst 1, 1) := dk_4 (dk_at dksX0_unlikeGlides_0 16 rfl rfl)
theorem dX0_unlikeGlides_17 : decode cX0_unlikeGlides 17 = .ok (.goto 4, 3) := dk_167 0 4 (dk_at dksX0_unlikeGlides_0 17 rfl rfl)
theorem dX0_unlikeGlides_20 : decode cX0_unlikeGlides 20 = .ok (.iconst 0, 1) := dk_3 (dk_at dksX0_unlikeGlides_0 20 rfl rfl)
theorem dX0_unlikeGlides_21 : decode cX0_unlikeGlides 21 = .ok (.istore_n 3, 1) := dk_62 (dk_at dksX0_unlikeGlides_0 21 rfl rfl)
theorem dX0_unlikeGlides_22 : decode cX0_unlikeGlides 22 = .ok (.iconst 0, 1) := dk_3 (dk_at dksX0_unlikeGlides_0 22 rfl rfl)
theorem dX0_unlikeGlides_23 : decode cX0_unlikeGlides 23 = .ok (.istore 4, 2) := dk_54 4 (dk_at dksX0_unlikeGlides_1 0 rfl rfl)
theorem dX0_unlikeGlides_25 : decode cX0_unlikeGlides 25 = .ok (.iload 4, 2) := dk_21 4 (dk_at dksX0_unlikeGlides_1 2 rfl rfl)
theorem dX0_unlikeGlides_27 : decode cX0_unlikeGlides 27 = .ok (.aload_n 0, 1) := dk_42 (dk_at dksX0_unlikeGlides_1 4 rfl rfl)
theorem dX0_unlikeGlides_28 : decode cX0_unlikeGlides 28 = .ok (.getfield 161, 3) := dk_180 0 161 (dk_at dksX0_unlikeGlides_1 5 rfl rfl)
theorem dX0_unlikeGlides_31 : decode cX0_unlikeGlides 31 = .ok (.if_icmp .ge 30, 3) := dk_162 0 30 (dk_at dksX0_unlikeGlides_1 8 rfl rfl)
theorem dX0_unlikeGlides_34 : decode cX0_unlikeGlides 34 = .ok (.iload_n 3, 1) := dk_29 (dk_at dksX0_unlikeGlides_1 11 rfl rfl)
theorem dX0_unlikeGlides_35 : decode cX0_unlikeGlides 35 = .ok (.ifCond .ne 14, 3) := dk_154 0 14 (dk_at dksX0_unlikeGlides_1 12 rfl rfl)
theorem dX0_unlikeGlides_38 : decode cX0_unlikeGlides 38 = .ok (.aload_n 0, 1) := dk_42 (dk_at dksX0_unlikeGlides_1 15 rfl rfl)
theorem dX0_unlikeGlides_39 : decode cX0_unlikeGlides 39 = .ok (.getfield 56, 3) := dk_180 0 56 (dk_at dksX0_unlikeGlides_1 16 rfl rfl)
theorem dX0_unlikeGlides_42 : decode cX0_unlikeGlides 42 = .ok (.iload 4, 2) := dk_21 4 (dk_at dksX0_unlikeGlides_1 19 rfl rfl)
theorem dX0_unlikeGlides_44 : decode cX0_unlikeGlides 44 = .ok (.iaload, 1) := dk_46 (dk_at dksX0_unlikeGlides_1 21 rfl rfl)
theorem dX0_unlikeGlides_45 : decode cX0_unlikeGlides 45 = .ok (.iload_n 2, 1) := dk_28 (dk_at dksX0_unlikeGlides_1 22 rfl rfl)
theorem dX0_unlikeGlides_46 : decode cX0_unlikeGlides 46 = .ok (.if_icmp .ne 7, 3) := dk_160 0 7 (dk_at dksX0_unlikeGlides_2 0 rfl rfl)
theorem dX0_unlikeGlides_49 : decode cX0_unlikeGlides 49 = .ok (.iconst 1, 1) := dk_4 (dk_at dksX0_unlikeGlides_2 3 rfl rfl)
theorem dX0_unlikeGlides_50 : decode cX0_unlikeGlides 50 = .ok (.goto 4, 3) := dk_167 0 4 (dk_at dksX0_unlikeGlides_2 4 rfl rfl)
theorem dX0_unlikeGlides_53 : decode cX0_unlikeGlides 53 = .ok (.iconst 0, 1) := dk_3 (dk_at dksX0_unlikeGlides_2 7 rfl rfl)
theorem dX0_unlikeGlides_54 : decode cX0_unlikeGlides 54 = .ok (.istore_n 3, 1) := dk_62 (dk_at dksX0_unlikeGlides_2 8 rfl rfl)
theorem dX0_unlikeGlides_55 : decode cX0_unlikeGlides 55 = .ok (.iinc 4 1, 3) := dk_132 4 1 (dk_at dksX0_unlikeGlides_2 9 rfl rfl)
theorem dX0_unlikeGlides_58 : decode cX0_unlikeGlides 58 = .ok (.goto (-33), 3) := dk_167 255 223 (dk_at dksX0_unlikeGlides_2 12 rfl rfl)
theorem dX0_unlikeGlides_61 : decode cX0_unlikeGlides 61 = .ok (.iload_n 1, 1) := dk_27 (dk_at dksX0_unlikeGlides_2 15 rfl rfl)
theorem dX0_unlikeGlides_62 : decode cX0_unlikeGlides 62 = .ok (.iload_n 3, 1) := dk_29 (dk_at dksX0_unlikeGlides_2 16 rfl rfl)
theorem dX0_unlikeGlides_63 : decode cX0_unlikeGlides 63 = .ok (.ifCond .eq 7, 3) := dk_153 0 7 (dk_at dksX0_unlikeGlides_2 17 rfl rfl)
theorem dX0_unlikeGlides_66 : decode cX0_unlikeGlides 66 = .ok (.iconst 1, 1) := dk_4 (dk_at dksX0_unlikeGlides_2 20 rfl rfl)
theorem dX0_unlikeGlides_67 : decode cX0_unlikeGlides 67 = .ok (.goto 4, 3) := dk_167 0 4 (dk_at dksX0_unlikeGlides_2 21 rfl rfl)
theorem dX0_unlikeGlides_70 : decode cX0_unlikeGlides 70 = .ok (.iconst 0, 1) := dk_3 (dk_at dksX0_unlikeGlides_3 0 rfl rfl)
theorem dX0_unlikeGlides_71 : decode cX0_unlikeGlides 71 = .ok (.iadd, 1) := dk_96 (dk_at dksX0_unlikeGlides_3 1 rfl rfl)
theorem dX0_unlikeGlides_72 : decode cX0_unlikeGlides 72 = .ok (.istore_n 1, 1) := dk_60 (dk_at dksX0_unlikeGlides_3 2 rfl rfl)
theorem dX0_unlikeGlides_73 : decode cX0_unlikeGlides 73 = .ok (.iinc 2 1, 3) := dk_132 2 1 (dk_at dksX0_unlikeGlides_3 3 rfl rfl)
theorem dX0_unlikeGlides_76 : decode cX0_unlikeGlides 76 = .ok (.goto (-72), 3) := dk_167 255 184 (dk_at dksX0_unlikeGlides_3 6 rfl rfl)
theorem dX0_unlikeGlides_79 : decode cX0_unlikeGlides 79 = .ok (.iload_n 1, 1) := dk_27 (dk_at dksX0_unlikeGlides_3 9 rfl rfl)
theorem dX0_unlikeGlides_80 : decode cX0_unlikeGlides 80 = .ok (.ireturn, 1) := dk_172 (dk_at dksX0_unlikeGlides_3 10 rfl rfl)
abbrev cX0_nights : ByteArray := prog_1_method_76_code
def yX0_nights : MethodName := ⟨RX0, "nights", "(II)I"⟩
def dkwX0_nights_1 : List UInt8 := [27, 28, 182, 1, 31, 180, 1, 35, 167, 0, 4, 2, 172]
abbrev dktX0_nights_1 : List UInt8 := dkwX0_nights_1 ++ []
def dkwX0_nights_0 : List UInt8 := [27, 4, 16, 30, 184, 0, 16, 153, 0, 28, 28, 3, 16, 50, 184, 0, 16, 153, 0, 18, 42, 180, 0, 65]
abbrev dktX0_nights_0 : List UInt8 := dkwX0_nights_0 ++ dktX0_nights_1
theorem dksX0_nights_0 : cX0_nights.data.toList.drop 0 = dktX0_nights_0 := by decide +kernel
theorem dksX0_nights_1 : cX0_nights.data.toList.drop 24 = dktX0_nights_1 := dk_seg dksX0_nights_0 24 rfl rfl
theorem dX0_nights_0 : decode cX0_nights 0 = .ok (.iload_n 1, 1) := dk_27 (dk_at dksX0_nights_0 0 rfl rfl)
theorem dX0_nights_1 : decode cX0_nights 1 = .ok (.iconst 1, 1) := dk_4 (dk_at dksX0_nights_0 1 rfl rfl)
theorem dX0_nights_2 : decode cX0_nights 2 = .ok (.bipush 30, 2) := dk_16 30 (dk_at dksX0_nights_0 2 rfl rfl)
theorem dX0_nights_4 : decode cX0_nights 4 = .ok (.invokestatic 16, 3) := dk_184 0 16 (dk_at dksX0_nights_0 4 rfl rfl)
theorem dX0_nights_7 : decode cX0_nights 7 = .ok (.ifCond .eq 28, 3) := dk_153 0 28 (dk_at dksX0_nights_0 7 rfl rfl)
theorem dX0_nights_10 : decode cX0_nights 10 = .ok (.iload_n 2, 1) := dk_28 (dk_at dksX0_nights_0 10 rfl rfl)
theorem dX0_nights_11 : decode cX0_nights 11 = .ok (.iconst 0, 1) := dk_3 (dk_at dksX0_nights_0 11 rfl rfl)
theorem dX0_nights_12 : decode cX0_nights 12 = .ok (.bipush 50, 2) := dk_16 50 (dk_at dksX0_nights_0 12 rfl rfl)
theorem dX0_nights_14 : decode cX0_nights 14 = .ok (.invokestatic 16, 3) := dk_184 0 16 (dk_at dksX0_nights_0 14 rfl rfl)
theorem dX0_nights_17 : decode cX0_nights 17 = .ok (.ifCond .eq 18, 3) := dk_153 0 18 (dk_at dksX0_nights_0 17 rfl rfl)
theorem dX0_nights_20 : decode cX0_nights 20 = .ok (.aload_n 0, 1) := dk_42 (dk_at dksX0_nights_0 20 rfl rfl)
theorem dX0_nights_21 : decode cX0_nights 21 = .ok (.getfield 65, 3) := dk_180 0 65 (dk_at dksX0_nights_0 21 rfl rfl)
theorem dX0_nights_24 : decode cX0_nights 24 = .ok (.iload_n 1, 1) := dk_27 (dk_at dksX0_nights_1 0 rfl rfl)
theorem dX0_nights_25 : decode cX0_nights 25 = .ok (.iload_n 2, 1) := dk_28 (dk_at dksX0_nights_1 1 rfl rfl)
theorem dX0_nights_26 : decode cX0_nights 26 = .ok (.invokevirtual 287, 3) := dk_182 1 31 (dk_at dksX0_nights_1 2 rfl rfl)
theorem dX0_nights_29 : decode cX0_nights 29 = .ok (.getfield 291, 3) := dk_180 1 35 (dk_at dksX0_nights_1 5 rfl rfl)
theorem dX0_nights_32 : decode cX0_nights 32 = .ok (.goto 4, 3) := dk_167 0 4 (dk_at dksX0_nights_1 8 rfl rfl)
theorem dX0_nights_35 : decode cX0_nights 35 = .ok (.iconst (-1), 1) := dk_2 (dk_at dksX0_nights_1 11 rfl rfl)
theorem dX0_nights_36 : decode cX0_nights 36 = .ok (.ireturn, 1) := dk_172 (dk_at dksX0_nights_1 12 rfl rfl)
abbrev cX0_held : ByteArray := prog_1_method_3_code
def yX0_held : MethodName := ⟨RX0, "held", "(II)I"⟩
def dkwX0_held_0 : List UInt8 := [3, 27, 26, 184, 0, 3, 184, 0, 9, 172]
abbrev dktX0_held_0 : List UInt8 := dkwX0_held_0 ++ []
theorem dksX0_held_0 : cX0_held.data.toList.drop 0 = dktX0_held_0 := by decide +kernel
theorem dX0_held_0 : decode cX0_held 0 = .ok (.iconst 0, 1) := dk_3 (dk_at dksX0_held_0 0 rfl rfl)
theorem dX0_held_1 : decode cX0_held 1 = .ok (.iload_n 1, 1) := dk_27 (dk_at dksX0_held_0 1 rfl rfl)
theorem dX0_held_2 : decode cX0_held 2 = .ok (.iload_n 0, 1) := dk_26 (dk_at dksX0_held_0 2 rfl rfl)
theorem dX0_held_3 : decode cX0_held 3 = .ok (.invokestatic 3, 3) := dk_184 0 3 (dk_at dksX0_held_0 3 rfl rfl)
theorem dX0_held_6 : decode cX0_held 6 = .ok (.invokestatic 9, 3) := dk_184 0 9 (dk_at dksX0_held_0 6 rfl rfl)
theorem dX0_held_9 : decode cX0_held 9 = .ok (.ireturn, 1) := dk_172 (dk_at dksX0_held_0 9 rfl rfl)
abbrev cX0_tried : ByteArray := prog_1_method_77_code
def yX0_tried : MethodName := ⟨RX0, "tried", "(III)I"⟩
def dkwX0_tried_6 : List UInt8 := [100, 46, 167, 0, 18, 42, 180, 0, 69, 180, 0, 124, 3, 50, 29, 17, 0, 200, 100, 46, 172]
abbrev dktX0_tried_6 : List UInt8 := dkwX0_tried_6 ++ []
def dkwX0_tried_5 : List UInt8 := [3, 182, 0, 180, 172, 29, 17, 0, 200, 162, 0, 20, 42, 180, 0, 69, 180, 0, 124, 4, 50, 29, 16, 100]
abbrev dktX0_tried_5 : List UInt8 := dkwX0_tried_5 ++ dktX0_tried_6
def dkwX0_tried_4 : List UInt8 := [42, 180, 0, 69, 180, 1, 35, 172, 42, 180, 0, 69, 16, 31, 182, 0, 177, 172, 42, 180, 0, 69, 16, 31]
abbrev dktX0_tried_4 : List UInt8 := dkwX0_tried_4 ++ dktX0_tried_5
def dkwX0_tried_3 : List UInt8 := [170, 0, 0, 0, 0, 0, 56, 0, 0, 0, 0, 0, 0, 0, 2, 0, 0, 0, 27, 0, 0, 0, 35, 0, 0, 0, 45]
abbrev dktX0_tried_3 : List UInt8 := dkwX0_tried_3 ++ dktX0_tried_4
def dkwX0_tried_2 : List UInt8 := [154, 0, 5, 2, 172, 42, 180, 0, 69, 42, 180, 0, 65, 182, 1, 38, 27, 28, 182, 1, 31, 87, 29]
abbrev dktX0_tried_2 : List UInt8 := dkwX0_tried_2 ++ dktX0_tried_3
def dkwX0_tried_1 : List UInt8 := [184, 0, 12, 154, 0, 26, 29, 16, 100, 100, 184, 0, 121, 154, 0, 16, 29, 17, 0, 200, 100, 184, 0, 121]
abbrev dktX0_tried_1 : List UInt8 := dkwX0_tried_1 ++ dktX0_tried_2
def dkwX0_tried_0 : List UInt8 := [27, 4, 16, 30, 184, 0, 16, 153, 0, 42, 28, 3, 16, 50, 184, 0, 16, 153, 0, 32, 29, 6]
abbrev dktX0_tried_0 : List UInt8 := dkwX0_tried_0 ++ dktX0_tried_1
theorem dksX0_tried_0 : cX0_tried.data.toList.drop 0 = dktX0_tried_0 := by decide +kernel
theorem dksX0_tried_1 : cX0_tried.data.toList.drop 22 = dktX0_tried_1 := dk_seg dksX0_tried_0 22 rfl rfl
theorem dksX0_tried_2 : cX0_tried.data.toList.drop 46 = dktX0_tried_2 := dk_seg dksX0_tried_1 24 rfl rfl
theorem dksX0_tried_3 : cX0_tried.data.toList.drop 69 = dktX0_tried_3 := dk_seg dksX0_tried_2 23 rfl rfl
theorem dksX0_tried_4 : cX0_tried.data.toList.drop 96 = dktX0_tried_4 := dk_seg dksX0_tried_3 27 rfl rfl
theorem dksX0_tried_5 : cX0_tried.data.toList.drop 120 = dktX0_tried_5 := dk_seg dksX0_tried_4 24 rfl rfl
theorem dksX0_tried_6 : cX0_tried.data.toList.drop 144 = dktX0_tried_6 := dk_seg dksX0_tried_5 24 rfl rfl
theorem dX0_tried_0 : decode cX0_tried 0 = .ok (.iload_n 1, 1) := dk_27 (dk_at dksX0_tried_0 0 rfl rfl)
theorem dX0_tried_1 : decode cX0_tried 1 = .ok (.iconst 1, 1) := dk_4 (dk_at dksX0_tried_0 1 rfl rfl)
theorem dX0_tried_2 : decode cX0_tried 2 = .ok (.bipush 30, 2) := dk_16 30 (dk_at dksX0_tried_0 2 rfl rfl)
theorem dX0_tried_4 : decode cX0_tried 4 = .ok (.invokestatic 16, 3) := dk_184 0 16 (dk_at dksX0_tried_0 4 rfl rfl)
theorem dX0_tried_7 : decode cX0_tried 7 = .ok (.ifCond .eq 42, 3) := dk_153 0 42 (dk_at dksX0_tried_0 7 rfl rfl)
theorem dX0_tried_10 : decode cX0_tried 10 = .ok (.iload_n 2, 1) := dk_28 (dk_at dksX0_tried_0 10 rfl rfl)
theorem dX0_tried_11 : decode cX0_tried 11 = .ok (.iconst 0, 1) := dk_3 (dk_at dksX0_tried_0 11 rfl rfl)
theorem dX0_tried_12 : decode cX0_tried 12 = .ok (.bipush 50, 2) := dk_16 50 (dk_at dksX0_tried_0 12 rfl rfl)
theorem dX0_tried_14 : decode cX0_tried 14 = .ok (.invokestatic 16, 3) := dk_184 0 16 (dk_at dksX0_tried_0 14 rfl rfl)
theorem dX0_tried_17 : decode cX0_tried 17 = .ok (.ifCond .eq 32, 3) := dk_153 0 32 (dk_at dksX0_tried_0 17 rfl rfl)
theorem dX0_tried_20 : decode cX0_tried 20 = .ok (.iload_n 3, 1) := dk_29 (dk_at dksX0_tried_0 20 rfl rfl)
theorem dX0_tried_21 : decode cX0_tried 21 = .ok (.iconst 3, 1) := dk_6 (dk_at dksX0_tried_0 21 rfl rfl)
theorem dX0_tried_22 : decode cX0_tried 22 = .ok (.invokestatic 12, 3) := dk_184 0 12 (dk_at dksX0_tried_1 0 rfl rfl)
theorem dX0_tried_25 : decode cX0_tried 25 = .ok (.ifCond .ne 26, 3) := dk_154 0 26 (dk_at dksX0_tried_1 3 rfl rfl)
theorem dX0_tried_28 : decode cX0_tried 28 = .ok (.iload_n 3, 1) := dk_29 (dk_at dksX0_tried_1 6 rfl rfl)
theorem dX0_tried_29 : decode cX0_tried 29 = .ok (.bipush 100, 2) := dk_16 100 (dk_at dksX0_tried_1 7 rfl rfl)
theorem dX0_tried_31 : decode cX0_tried 31 = .ok (.isub, 1) := dk_100 (dk_at dksX0_tried_1 9 rfl rfl)
theorem dX0_tried_32 : decode cX0_tried 32 = .ok (.invokestatic 121, 3) := dk_184 0 121 (dk_at dksX0_tried_1 10 rfl rfl)
theorem dX0_tried_35 : decode cX0_tried 35 = .ok (.ifCond .ne 16, 3) := dk_154 0 16 (dk_at dksX0_tried_1 13 rfl rfl)
theorem dX0_tried_38 : decode cX0_tried 38 = .ok (.iload_n 3, 1) := dk_29 (dk_at dksX0_tried_1 16 rfl rfl)
theorem dX0_tried_39 : decode cX0_tried 39 = .ok (.sipush 200, 3) := dk_17 0 200 (dk_at dksX0_tried_1 17 rfl rfl)
theorem dX0_tried_42 : decode cX0_tried 42 = .ok (.isub, 1) := dk_100 (dk_at dksX0_tried_1 20 rfl rfl)
theorem dX0_tried_43 : decode cX0_tried 43 = .ok (.invokestatic 121, 3) := dk_184 0 121 (dk_at dksX0_tried_1 21 rfl rfl)
theorem dX0_tried_46 : decode cX0_tried 46 = .ok (.ifCond .ne 5, 3) := dk_154 0 5 (dk_at dksX0_tried_2 0 rfl rfl)
theorem dX0_tried_49 : decode cX0_tried 49 = .ok (.iconst (-1), 1) := dk_2 (dk_at dksX0_tried_2 3 rfl rfl)
theorem dX0_tried_50 : decode cX0_tried 50 = .ok (.ireturn, 1) := dk_172 (dk_at dksX0_tried_2 4 rfl rfl)
theorem dX0_tried_51 : decode cX0_tried 51 = .ok (.aload_n 0, 1) := dk_42 (dk_at dksX0_tried_2 5 rfl rfl)
theorem dX0_tried_52 : decode cX0_tried 52 = .ok (.getfield 69, 3) := dk_180 0 69 (dk_at dksX0_tried_2 6 rfl rfl)
theorem dX0_tried_55 : decode cX0_tried 55 = .ok (.aload_n 0, 1) := dk_42 (dk_at dksX0_tried_2 9 rfl rfl)
theorem dX0_tried_56 : decode cX0_tried 56 = .ok (.getfield 65, 3) := dk_180 0 65 (dk_at dksX0_tried_2 10 rfl rfl)
theorem dX0_tried_59 : decode cX0_tried 59 = .ok (.invokevirtual 294, 3) := dk_182 1 38 (dk_at dksX0_tried_2 13 rfl rfl)
theorem dX0_tried_62 : decode cX0_tried 62 = .ok (.iload_n 1, 1) := dk_27 (dk_at dksX0_tried_2 16 rfl rfl)
theorem dX0_tried_63 : decode cX0_tried 63 = .ok (.iload_n 2, 1) := dk_28 (dk_at dksX0_tried_2 17 rfl rfl)
theorem dX0_tried_64 : decode cX0_tried 64 = .ok (.invokevirtual 287, 3) := dk_182 1 31 (dk_at dksX0_tried_2 18 rfl rfl)
theorem dX0_tried_67 : decode cX0_tried 67 = .ok (.pop, 1) := dk_87 (dk_at dksX0_tried_2 21 rfl rfl)
theorem dX0_tried_68 : decode cX0_tried 68 = .ok (.iload_n 3, 1) := dk_29 (dk_at dksX0_tried_2 22 rfl rfl)
theorem dX0_tried_69 : decode cX0_tried 69 = .ok (.tableswitch 56 0 2 #[27, 35, 45], 27) := by decide +kernel
theorem dX0_tried_96 : decode cX0_tried 96 = .ok (.aload_n 0, 1) := dk_42 (dk_at dksX0_tried_4 0 rfl rfl)
theorem dX0_tried_97 : decode cX0_tried 97 = .ok (.getfield 69, 3) := dk_180 0 69 (dk_at dksX0_tried_4 1 rfl rfl)
theorem dX0_tried_100 : decode cX0_tried 100 = .ok (.getfield 291, 3) := dk_180 1 35 (dk_at dksX0_tried_4 4 rfl rfl)
theorem dX0_tried_103 : decode cX0_tried 103 = .ok (.ireturn, 1) := dk_172 (dk_at dksX0_tried_4 7 rfl rfl)
theorem dX0_tried_104 : decode cX0_tried 104 = .ok (.aload_n 0, 1) := dk_42 (dk_at dksX0_tried_4 8 rfl rfl)
theorem dX0_tried_105 : decode cX0_tried 105 = .ok (.getfield 69, 3) := dk_180 0 69 (dk_at dksX0_tried_4 9 rfl rfl)
theorem dX0_tried_108 : decode cX0_tried 108 = .ok (.bipush 31, 2) := dk_16 31 (dk_at dksX0_tried_4 12 rfl rfl)
theorem dX0_tried_110 : decode cX0_tried 110 = .ok (.invokevirtual 177, 3) := dk_182 0 177 (dk_at dksX0_tried_4 14 rfl rfl)
theorem dX0_tried_113 : decode cX0_tried 113 = .ok (.ireturn, 1) := dk_172 (dk_at dksX0_tried_4 17 rfl rfl)
theorem dX0_tried_114 : decode cX0_tried 114 = .ok (.aload_n 0, 1) := dk_42 (dk_at dksX0_tried_4 18 rfl rfl)
theorem dX0_tried_115 : decode cX0_tried 115 = .ok (.getfield 69, 3) := dk_180 0 69 (dk_at dksX0_tried_4 19 rfl rfl)
theorem dX0_tried_118 : decode cX0_tried 118 = .ok (.bipush 31, 2) := dk_16 31 (dk_at dksX0_tried_4 22 rfl rfl)
theorem dX0_tried_120 : decode cX0_tried 120 = .ok (.iconst 0, 1) := dk_3 (dk_at dksX0_tried_5 0 rfl rfl)
theorem dX0_tried_121 : decode cX0_tried 121 = .ok (.invokevirtual 180, 3) := dk_182 0 180 (dk_at dksX0_tried_5 1 rfl rfl)
theorem dX0_tried_124 : decode cX0_tried 124 = .ok (.ireturn, 1) := dk_172 (dk_at dksX0_tried_5 4 rfl rfl)
theorem dX0_tried_125 : decode cX0_tried 125 = .ok (.iload_n 3, 1) := dk_29 (dk_at dksX0_tried_5 5 rfl rfl)
theorem dX0_tried_126 : decode cX0_tried 126 = .ok (.sipush 200, 3) := dk_17 0 200 (dk_at dksX0_tried_5 6 rfl rfl)
theorem dX0_tried_129 : decode cX0_tried 129 = .ok (.if_icmp .ge 20, 3) := dk_162 0 20 (dk_at dksX0_tried_5 9 rfl rfl)
theorem dX0_tried_132 : decode cX0_tried 132 = .ok (.aload_n 0, 1) := dk_42 (dk_at dksX0_tried_5 12 rfl rfl)
theorem dX0_tried_133 : decode cX0_tried 133 = .ok (.getfield 69, 3) := dk_180 0 69 (dk_at dksX0_tried_5 13 rfl rfl)
theorem dX0_tried_136 : decode cX0_tried 136 = .ok (.getfield 124, 3) := dk_180 0 124 (dk_at dksX0_tried_5 16 rfl rfl)
theorem dX0_tried_139 : decode cX0_tried 139 = .ok (.iconst 1, 1) := dk_4 (dk_at dksX0_tried_5 19 rfl rfl)
theorem dX0_tried_140 : decode cX0_tried 140 = .ok (.aaload, 1) := dk_50 (dk_at dksX0_tried_5 20 rfl rfl)
theorem dX0_tried_141 : decode cX0_tried 141 = .ok (.iload_n 3, 1) := dk_29 (dk_at dksX0_tried_5 21 rfl rfl)
theorem dX0_tried_142 : decode cX0_tried 142 = .ok (.bipush 100, 2) := dk_16 100 (dk_at dksX0_tried_5 22 rfl rfl)
theorem dX0_tried_144 : decode cX0_tried 144 = .ok (.isub, 1) := dk_100 (dk_at dksX0_tried_6 0 rfl rfl)
theorem dX0_tried_145 : decode cX0_tried 145 = .ok (.iaload, 1) := dk_46 (dk_at dksX0_tried_6 1 rfl rfl)
theorem dX0_tried_146 : decode cX0_tried 146 = .ok (.goto 18, 3) := dk_167 0 18 (dk_at dksX0_tried_6 2 rfl rfl)
theorem dX0_tried_149 : decode cX0_tried 149 = .ok (.aload_n 0, 1) := dk_42 (dk_at dksX0_tried_6 5 rfl rfl)
theorem dX0_tried_150 : decode cX0_tried 150 = .ok (.getfield 69, 3) := dk_180 0 69 (dk_at dksX0_tried_6 6 rfl rfl)
theorem dX0_tried_153 : decode cX0_tried 153 = .ok (.getfield 124, 3) := dk_180 0 124 (dk_at dksX0_tried_6 9 rfl rfl)
theorem dX0_tried_156 : decode cX0_tried 156 = .ok (.iconst 0, 1) := dk_3 (dk_at dksX0_tried_6 12 rfl rfl)
theorem dX0_tried_157 : decode cX0_tried 157 = .ok (.aaload, 1) := dk_50 (dk_at dksX0_tried_6 13 rfl rfl)
theorem dX0_tried_158 : decode cX0_tried 158 = .ok (.iload_n 3, 1) := dk_29 (dk_at dksX0_tried_6 14 rfl rfl)
theorem dX0_tried_159 : decode cX0_tried 159 = .ok (.sipush 200, 3) := dk_17 0 200 (dk_at dksX0_tried_6 15 rfl rfl)
theorem dX0_tried_162 : decode cX0_tried 162 = .ok (.isub, 1) := dk_100 (dk_at dksX0_tried_6 18 rfl rfl)
theorem dX0_tried_163 : decode cX0_tried 163 = .ok (.iaload, 1) := dk_46 (dk_at dksX0_tried_6 19 rfl rfl)
theorem dX0_tried_164 : decode cX0_tried 164 = .ok (.ireturn, 1) := dk_172 (dk_at dksX0_tried_6 20 rfl rfl)
abbrev cX0_even : ByteArray := prog_1_method_78_code
def yX0_even : MethodName := ⟨RX0, "even", "(III)I"⟩
def dkwX0_even_4 : List UInt8 := [180, 0, 69, 28, 182, 1, 45, 132, 4, 1, 167, 255, 200, 16, 254, 172]
abbrev dktX0_even_4 : List UInt8 := dkwX0_even_4 ++ []
def dkwX0_even_3 : List UInt8 := [21, 4, 27, 159, 0, 16, 42, 180, 0, 69, 180, 1, 42, 17, 39, 15, 160, 0, 6, 16, 254, 172, 42]
abbrev dktX0_even_3 : List UInt8 := dkwX0_even_3 ++ dktX0_even_4
def dkwX0_even_2 : List UInt8 := [21, 4, 27, 163, 0, 56, 42, 180, 0, 69, 16, 31, 3, 182, 0, 180, 29, 161, 0, 6, 21, 4, 172]
abbrev dktX0_even_2 : List UInt8 := dkwX0_even_2 ++ dktX0_even_3
def dkwX0_even_1 : List UInt8 := [184, 0, 16, 154, 0, 5, 2, 172, 42, 180, 0, 69, 42, 180, 0, 65, 182, 1, 38, 87, 3, 54, 4]
abbrev dktX0_even_1 : List UInt8 := dkwX0_even_1 ++ dktX0_even_2
def dkwX0_even_0 : List UInt8 := [27, 4, 16, 30, 184, 0, 16, 153, 0, 23, 28, 3, 16, 50, 184, 0, 16, 153, 0, 13, 29, 4, 16, 48]
abbrev dktX0_even_0 : List UInt8 := dkwX0_even_0 ++ dktX0_even_1
theorem dksX0_even_0 : cX0_even.data.toList.drop 0 = dktX0_even_0 := by decide +kernel
theorem dksX0_even_1 : cX0_even.data.toList.drop 24 = dktX0_even_1 := dk_seg dksX0_even_0 24 rfl rfl
theorem dksX0_even_2 : cX0_even.data.toList.drop 47 = dktX0_even_2 := dk_seg dksX0_even_1 23 rfl rfl
theorem dksX0_even_3 : cX0_even.data.toList.drop 70 = dktX0_even_3 := dk_seg dksX0_even_2 23 rfl rfl
theorem dksX0_even_4 : cX0_even.data.toList.drop 93 = dktX0_even_4 := dk_seg dksX0_even_3 23 rfl rfl
theorem dX0_even_0 : decode cX0_even 0 = .ok (.iload_n 1, 1) := dk_27 (dk_at dksX0_even_0 0 rfl rfl)
theorem dX0_even_1 : decode cX0_even 1 = .ok (.iconst 1, 1) := dk_4 (dk_at dksX0_even_0 1 rfl rfl)
theorem dX0_even_2 : decode cX0_even 2 = .ok (.bipush 30, 2) := dk_16 30 (dk_at dksX0_even_0 2 rfl rfl)
theorem dX0_even_4 : decode cX0_even 4 = .ok (.invokestatic 16, 3) := dk_184 0 16 (dk_at dksX0_even_0 4 rfl rfl)
theorem dX0_even_7 : decode cX0_even 7 = .ok (.ifCond .eq 23, 3) := dk_153 0 23 (dk_at dksX0_even_0 7 rfl rfl)
theorem dX0_even_10 : decode cX0_even 10 = .ok (.iload_n 2, 1) := dk_28 (dk_at dksX0_even_0 10 rfl rfl)
theorem dX0_even_11 : decode cX0_even 11 = .ok (.iconst 0, 1) := dk_3 (dk_at dksX0_even_0 11 rfl rfl)
theorem dX0_even_12 : decode cX0_even 12 = .ok (.bipush 50, 2) := dk_16 50 (dk_at dksX0_even_0 12 rfl rfl)
theorem dX0_even_14 : decode cX0_even 14 = .ok (.invokestatic 16, 3) := dk_184 0 16 (dk_at dksX0_even_0 14 rfl rfl)
theorem dX0_even_17 : decode cX0_even 17 = .ok (.ifCond .eq 13, 3) := dk_153 0 13 (dk_at dksX0_even_0 17 rfl rfl)
theorem dX0_even_20 : decode cX0_even 20 = .ok (.iload_n 3, 1) := dk_29 (dk_at dksX0_even_0 20 rfl rfl)
theorem dX0_even_21 : decode cX0_even 21 = .ok (.iconst 1, 1) := dk_4 (dk_at dksX0_even_0 21 rfl rfl)
theorem dX0_even_22 : decode cX0_even 22 = .ok (.bipush 48, 2) := dk_16 48 (dk_at dksX0_even_0 22 rfl rfl)
theorem dX0_even_24 : decode cX0_even 24 = .ok (.invokestatic 16, 3) := dk_184 0 16 (dk_at dksX0_even_1 0 rfl rfl)
theorem dX0_even_27 : decode cX0_even 27 = .ok (.ifCond .ne 5, 3) := dk_154 0 5 (dk_at dksX0_even_1 3 rfl rfl)
theorem dX0_even_30 : decode cX0_even 30 = .ok (.iconst (-1), 1) := dk_2 (dk_at dksX0_even_1 6 rfl rfl)
theorem dX0_even_31 : decode cX0_even 31 = .ok (.ireturn, 1) := dk_172 (dk_at dksX0_even_1 7 rfl rfl)
theorem dX0_even_32 : decode cX0_even 32 = .ok (.aload_n 0, 1) := dk_42 (dk_at dksX0_even_1 8 rfl rfl)
theorem dX0_even_33 : decode cX0_even 33 = .ok (.getfield 69, 3) := dk_180 0 69 (dk_at dksX0_even_1 9 rfl rfl)
theorem dX0_even_36 : decode cX0_even 36 = .ok (.aload_n 0, 1) := dk_42 (dk_at dksX0_even_1 12 rfl rfl)
theorem dX0_even_37 : decode cX0_even 37 = .ok (.getfield 65, 3) := dk_180 0 65 (dk_at dksX0_even_1 13 rfl rfl)
theorem dX0_even_40 : decode cX0_even 40 = .ok (.invokevirtual 294, 3) := dk_182 1 38 (dk_at dksX0_even_1 16 rfl rfl)
theorem dX0_even_43 : decode cX0_even 43 = .ok (.pop, 1) := dk_87 (dk_at dksX0_even_1 19 rfl rfl)
theorem dX0_even_44 : decode cX0_even 44 = .ok (.iconst 0, 1) := dk_3 (dk_at dksX0_even_1 20 rfl rfl)
theorem dX0_even_45 : decode cX0_even 45 = .ok (.istore 4, 2) := dk_54 4 (dk_at dksX0_even_1 21 rfl rfl)
theorem dX0_even_47 : decode cX0_even 47 = .ok (.iload 4, 2) := dk_21 4 (dk_at dksX0_even_2 0 rfl rfl)
theorem dX0_even_49 : decode cX0_even 49 = .ok (.iload_n 1, 1) := dk_27 (dk_at dksX0_even_2 2 rfl rfl)
theorem dX0_even_50 : decode cX0_even 50 = .ok (.if_icmp .gt 56, 3) := dk_163 0 56 (dk_at dksX0_even_2 3 rfl rfl)
theorem dX0_even_53 : decode cX0_even 53 = .ok (.aload_n 0, 1) := dk_42 (dk_at dksX0_even_2 6 rfl rfl)
theorem dX0_even_54 : decode cX0_even 54 = .ok (.getfield 69, 3) := dk_180 0 69 (dk_at dksX0_even_2 7 rfl rfl)
theorem dX0_even_57 : decode cX0_even 57 = .ok (.bipush 31, 2) := dk_16 31 (dk_at dksX0_even_2 10 rfl rfl)
theorem dX0_even_59 : decode cX0_even 59 = .ok (.iconst 0, 1) := dk_3 (dk_at dksX0_even_2 12 rfl rfl)
theorem dX0_even_60 : decode cX0_even 60 = .ok (.invokevirtual 180, 3) := dk_182 0 180 (dk_at dksX0_even_2 13 rfl rfl)
theorem dX0_even_63 : decode cX0_even 63 = .ok (.iload_n 3, 1) := dk_29 (dk_at dksX0_even_2 16 rfl rfl)
theorem dX0_even_64 : decode cX0_even 64 = .ok (.if_icmp .lt 6, 3) := dk_161 0 6 (dk_at dksX0_even_2 17 rfl rfl)
theorem dX0_even_67 : decode cX0_even 67 = .ok (.iload 4, 2) := dk_21 4 (dk_at dksX0_even_2 20 rfl rfl)
theorem dX0_even_69 : decode cX0_even 69 = .ok (.ireturn, 1) := dk_172 (dk_at dksX0_even_2 22 rfl rfl)
theorem dX0_even_70 : decode cX0_even 70 = .ok (.iload 4, 2) := dk_21 4 (dk_at dksX0_even_3 0 rfl rfl)
theorem dX0_even_72 : decode cX0_even 72 = .ok (.iload_n 1, 1) := dk_27 (dk_at dksX0_even_3 2 rfl rfl)
theorem dX0_even_73 : decode cX0_even 73 = .ok (.if_icmp .eq 16, 3) := dk_159 0 16 (dk_at dksX0_even_3 3 rfl rfl)
theorem dX0_even_76 : decode cX0_even 76 = .ok (.aload_n 0, 1) := dk_42 (dk_at dksX0_even_3 6 rfl rfl)
theorem dX0_even_77 : decode cX0_even 77 = .ok (.getfield 69, 3) := dk_180 0 69 (dk_at dksX0_even_3 7 rfl rfl)
theorem dX0_even_80 : decode cX0_even 80 = .ok (.getfield 298, 3) := dk_180 1 42 (dk_at dksX0_even_3 10 rfl rfl)
theorem dX0_even_83 : decode cX0_even 83 = .ok (.sipush 9999, 3) := dk_17 39 15 (dk_at dksX0_even_3 13 rfl rfl)
theorem dX0_even_86 : decode cX0_even 86 = .ok (.if_icmp .ne 6, 3) := dk_160 0 6 (dk_at dksX0_even_3 16 rfl rfl)
theorem dX0_even_89 : decode cX0_even 89 = .ok (.bipush (-2), 2) := dk_16 254 (dk_at dksX0_even_3 19 rfl rfl)
theorem dX0_even_91 : decode cX0_even 91 = .ok (.ireturn, 1) := dk_172 (dk_at dksX0_even_3 21 rfl rfl)
theorem dX0_even_92 : decode cX0_even 92 = .ok (.aload_n 0, 1) := dk_42 (dk_at dksX0_even_3 22 rfl rfl)
theorem dX0_even_93 : decode cX0_even 93 = .ok (.getfield 69, 3) := dk_180 0 69 (dk_at dksX0_even_4 0 rfl rfl)
theorem dX0_even_96 : decode cX0_even 96 = .ok (.iload_n 2, 1) := dk_28 (dk_at dksX0_even_4 3 rfl rfl)
theorem dX0_even_97 : decode cX0_even 97 = .ok (.invokevirtual 301, 3) := dk_182 1 45 (dk_at dksX0_even_4 4 rfl rfl)
theorem dX0_even_100 : decode cX0_even 100 = .ok (.iinc 4 1, 3) := dk_132 4 1 (dk_at dksX0_even_4 7 rfl rfl)
theorem dX0_even_103 : decode cX0_even 103 = .ok (.goto (-56), 3) := dk_167 255 200 (dk_at dksX0_even_4 10 rfl rfl)
theorem dX0_even_106 : decode cX0_even 106 = .ok (.bipush (-2), 2) := dk_16 254 (dk_at dksX0_even_4 13 rfl rfl)
theorem dX0_even_108 : decode cX0_even 108 = .ok (.ireturn, 1) := dk_172 (dk_at dksX0_even_4 15 rfl rfl)
abbrev cX0_seed : ByteArray := prog_1_method_79_code
def yX0_seed : MethodName := ⟨RX0, "seed", "(I)Z"⟩
def dkwX0_seed_0 : List UInt8 := [27, 19, 1, 48, 184, 0, 12, 154, 0, 5, 3, 172, 42, 180, 0, 65, 27, 181, 0, 113, 4, 172]
abbrev dktX0_seed_0 : List UInt8 := dkwX0_seed_0 ++ []
theorem dksX0_seed_0 : cX0_seed.data.toList.drop 0 = dktX0_seed_0 := by decide +kernel
theorem dX0_seed_0 : decode cX0_seed 0 = .ok (.iload_n 1, 1) := dk_27 (dk_at dksX0_seed_0 0 rfl rfl)
theorem dX0_seed_1 : decode cX0_seed 1 = .ok (.ldc_w 304, 3) := dk_19 1 48 (dk_at dksX0_seed_0 1 rfl rfl)
theorem dX0_seed_4 : decode cX0_seed 4 = .ok (.invokestatic 12, 3) := dk_184 0 12 (dk_at dksX0_seed_0 4 rfl rfl)
theorem dX0_seed_7 : decode cX0_seed 7 = .ok (.ifCond .ne 5, 3) := dk_154 0 5 (dk_at dksX0_seed_0 7 rfl rfl)
theorem dX0_seed_10 : decode cX0_seed 10 = .ok (.iconst 0, 1) := dk_3 (dk_at dksX0_seed_0 10 rfl rfl)
theorem dX0_seed_11 : decode cX0_seed 11 = .ok (.ireturn, 1) := dk_172 (dk_at dksX0_seed_0 11 rfl rfl)
theorem dX0_seed_12 : decode cX0_seed 12 = .ok (.aload_n 0, 1) := dk_42 (dk_at dksX0_seed_0 12 rfl rfl)
theorem dX0_seed_13 : decode cX0_seed 13 = .ok (.getfield 65, 3) := dk_180 0 65 (dk_at dksX0_seed_0 13 rfl rfl)
theorem dX0_seed_16 : decode cX0_seed 16 = .ok (.iload_n 1, 1) := dk_27 (dk_at dksX0_seed_0 16 rfl rfl)
theorem dX0_seed_17 : decode cX0_seed 17 = .ok (.putfield 113, 3) := dk_181 0 113 (dk_at dksX0_seed_0 17 rfl rfl)
theorem dX0_seed_20 : decode cX0_seed 20 = .ok (.iconst 1, 1) := dk_4 (dk_at dksX0_seed_0 20 rfl rfl)
theorem dX0_seed_21 : decode cX0_seed 21 = .ok (.ireturn, 1) := dk_172 (dk_at dksX0_seed_0 21 rfl rfl)
abbrev cX0_keep : ByteArray := prog_1_method_80_code
def yX0_keep : MethodName := ⟨RX0, "keep", "()I"⟩
def dkwX0_keep_1 : List UInt8 := [172]
abbrev dktX0_keep_1 : List UInt8 := dkwX0_keep_1 ++ []
def dkwX0_keep_0 : List UInt8 := [42, 4, 181, 1, 49, 42, 180, 0, 72, 42, 180, 0, 65, 182, 1, 38, 87, 42, 180, 0, 65, 180, 1, 42]
abbrev dktX0_keep_0 : List UInt8 := dkwX0_keep_0 ++ dktX0_keep_1
theorem dksX0_keep_0 : cX0_keep.data.toList.drop 0 = dktX0_keep_0 := by decide +kernel
theorem dksX0_keep_1 : cX0_keep.data.toList.drop 24 = dktX0_keep_1 := dk_seg dksX0_keep_0 24 rfl rfl
theorem dX0_keep_0 : decode cX0_keep 0 = .ok (.aload_n 0, 1) := dk_42 (dk_at dksX0_keep_0 0 rfl rfl)
theorem dX0_keep_1 : decode cX0_keep 1 = .ok (.iconst 1, 1) := dk_4 (dk_at dksX0_keep_0 1 rfl rfl)
theorem dX0_keep_2 : decode cX0_keep 2 = .ok (.putfield 305, 3) := dk_181 1 49 (dk_at dksX0_keep_0 2 rfl rfl)
theorem dX0_keep_5 : decode cX0_keep 5 = .ok (.aload_n 0, 1) := dk_42 (dk_at dksX0_keep_0 5 rfl rfl)
theorem dX0_keep_6 : decode cX0_keep 6 = .ok (.getfield 72, 3) := dk_180 0 72 (dk_at dksX0_keep_0 6 rfl rfl)
theorem dX0_keep_9 : decode cX0_keep 9 = .ok (.aload_n 0, 1) := dk_42 (dk_at dksX0_keep_0 9 rfl rfl)
theorem dX0_keep_10 : decode cX0_keep 10 = .ok (.getfield 65, 3) := dk_180 0 65 (dk_at dksX0_keep_0 10 rfl rfl)
theorem dX0_keep_13 : decode cX0_keep 13 = .ok (.invokevirtual 294, 3) := dk_182 1 38 (dk_at dksX0_keep_0 13 rfl rfl)
theorem dX0_keep_16 : decode cX0_keep 16 = .ok (.pop, 1) := dk_87 (dk_at dksX0_keep_0 16 rfl rfl)
theorem dX0_keep_17 : decode cX0_keep 17 = .ok (.aload_n 0, 1) := dk_42 (dk_at dksX0_keep_0 17 rfl rfl)
theorem dX0_keep_18 : decode cX0_keep 18 = .ok (.getfield 65, 3) := dk_180 0 65 (dk_at dksX0_keep_0 18 rfl rfl)
theorem dX0_keep_21 : decode cX0_keep 21 = .ok (.getfield 298, 3) := dk_180 1 42 (dk_at dksX0_keep_0 21 rfl rfl)
theorem dX0_keep_24 : decode cX0_keep 24 = .ok (.ireturn, 1) := dk_172 (dk_at dksX0_keep_1 0 rfl rfl)
abbrev cX0_undo : ByteArray := prog_1_method_81_code
def yX0_undo : MethodName := ⟨RX0, "undo", "()Z"⟩
def dkwX0_undo_0 : List UInt8 := [42, 180, 1, 49, 154, 0, 5, 3, 172, 42, 180, 0, 65, 42, 180, 0, 72, 182, 1, 38, 87, 4, 172]
abbrev dktX0_undo_0 : List UInt8 := dkwX0_undo_0 ++ []
theorem dksX0_undo_0 : cX0_undo.data.toList.drop 0 = dktX0_undo_0 := by decide +kernel
theorem dX0_undo_0 : decode cX0_undo 0 = .ok (.aload_n 0, 1) := dk_42 (dk_at dksX0_undo_0 0 rfl rfl)
theorem dX0_undo_1 : decode cX0_undo 1 = .ok (.getfield 305, 3) := dk_180 1 49 (dk_at dksX0_undo_0 1 rfl rfl)
theorem dX0_undo_4 : decode cX0_undo 4 = .ok (.ifCond .ne 5, 3) := dk_154 0 5 (dk_at dksX0_undo_0 4 rfl rfl)
theorem dX0_undo_7 : decode cX0_undo 7 = .ok (.iconst 0, 1) := dk_3 (dk_at dksX0_undo_0 7 rfl rfl)
theorem dX0_undo_8 : decode cX0_undo 8 = .ok (.ireturn, 1) := dk_172 (dk_at dksX0_undo_0 8 rfl rfl)
theorem dX0_undo_9 : decode cX0_undo 9 = .ok (.aload_n 0, 1) := dk_42 (dk_at dksX0_undo_0 9 rfl rfl)
theorem dX0_undo_10 : decode cX0_undo 10 = .ok (.getfield 65, 3) := dk_180 0 65 (dk_at dksX0_undo_0 10 rfl rfl)
theorem dX0_undo_13 : decode cX0_undo 13 = .ok (.aload_n 0, 1) := dk_42 (dk_at dksX0_undo_0 13 rfl rfl)
theorem dX0_undo_14 : decode cX0_undo 14 = .ok (.getfield 72, 3) := dk_180 0 72 (dk_at dksX0_undo_0 14 rfl rfl)
theorem dX0_undo_17 : decode cX0_undo 17 = .ok (.invokevirtual 294, 3) := dk_182 1 38 (dk_at dksX0_undo_0 17 rfl rfl)
theorem dX0_undo_20 : decode cX0_undo 20 = .ok (.pop, 1) := dk_87 (dk_at dksX0_undo_0 20 rfl rfl)
theorem dX0_undo_21 : decode cX0_undo 21 = .ok (.iconst 1, 1) := dk_4 (dk_at dksX0_undo_0 21 rfl rfl)
theorem dX0_undo_22 : decode cX0_undo 22 = .ok (.ireturn, 1) := dk_172 (dk_at dksX0_undo_0 22 rfl rfl)
abbrev cX0_check : ByteArray := prog_1_method_82_code
def yX0_check : MethodName := ⟨RX0, "check", "(I)I"⟩
def dkwX0_check_3 : List UInt8 := [167, 255, 214, 2, 172]
abbrev dktX0_check_3 : List UInt8 := dkwX0_check_3 ++ []
def dkwX0_check_2 : List UInt8 := [16, 8, 162, 0, 7, 4, 167, 0, 4, 3, 50, 28, 16, 8, 112, 46, 159, 0, 5, 28, 172, 132, 2, 1]
abbrev dktX0_check_2 : List UInt8 := dkwX0_check_2 ++ dktX0_check_3
def dkwX0_check_1 : List UInt8 := [181, 0, 128, 3, 61, 28, 27, 162, 0, 43, 42, 28, 182, 0, 201, 42, 180, 0, 65, 180, 0, 124, 28]
abbrev dktX0_check_1 : List UInt8 := dkwX0_check_1 ++ dktX0_check_2
def dkwX0_check_0 : List UInt8 := [27, 3, 16, 16, 184, 0, 16, 153, 0, 11, 27, 42, 180, 0, 128, 164, 0, 6, 16, 254, 172, 42, 3]
abbrev dktX0_check_0 : List UInt8 := dkwX0_check_0 ++ dktX0_check_1
theorem dksX0_check_0 : cX0_check.data.toList.drop 0 = dktX0_check_0 := by decide +kernel
theorem dksX0_check_1 : cX0_check.data.toList.drop 23 = dktX0_check_1 := dk_seg dksX0_check_0 23 rfl rfl
theorem dksX0_check_2 : cX0_check.data.toList.drop 46 = dktX0_check_2 := dk_seg dksX0_check_1 23 rfl rfl
theorem dksX0_check_3 : cX0_check.data.toList.drop 70 = dktX0_check_3 := dk_seg dksX0_check_2 24 rfl rfl
theorem dX0_check_0 : decode cX0_check 0 = .ok (.iload_n 1, 1) := dk_27 (dk_at dksX0_check_0 0 rfl rfl)
theorem dX0_check_1 : decode cX0_check 1 = .ok (.iconst 0, 1) := dk_3 (dk_at dksX0_check_0 1 rfl rfl)
theorem dX0_check_2 : decode cX0_check 2 = .ok (.bipush 16, 2) := dk_16 16 (dk_at dksX0_check_0 2 rfl rfl)
theorem dX0_check_4 : decode cX0_check 4 = .ok (.invokestatic 16, 3) := dk_184 0 16 (dk_at dksX0_check_0 4 rfl rfl)
theorem dX0_check_7 : decode cX0_check 7 = .ok (.ifCond .eq 11, 3) := dk_153 0 11 (dk_at dksX0_check_0 7 rfl rfl)
theorem dX0_check_10 : decode cX0_check 10 = .ok (.iload_n 1, 1) := dk_27 (dk_at dksX0_check_0 10 rfl rfl)
theorem dX0_check_11 : decode cX0_check 11 = .ok (.aload_n 0, 1) := dk_42 (dk_at dksX0_check_0 11 rfl rfl)
theorem dX0_check_12 : decode cX0_check 12 = .ok (.getfield 128, 3) := dk_180 0 128 (dk_at dksX0_check_0 12 rfl rfl)
theorem dX0_check_15 : decode cX0_check 15 = .ok (.if_icmp .le 6, 3) := dk_164 0 6 (dk_at dksX0_check_0 15 rfl rfl)
theorem dX0_check_18 : decode cX0_check 18 = .ok (.bipush (-2), 2) := dk_16 254 (dk_at dksX0_check_0 18 rfl rfl)
theorem dX0_check_20 : decode cX0_check 20 = .ok (.ireturn, 1) := dk_172 (dk_at dksX0_check_0 20 rfl rfl)
theorem dX0_check_21 : decode cX0_check 21 = .ok (.aload_n 0, 1) := dk_42 (dk_at dksX0_check_0 21 rfl rfl)
theorem dX0_check_22 : decode cX0_check 22 = .ok (.iconst 0, 1) := dk_3 (dk_at dksX0_check_0 22 rfl rfl)
theorem dX0_check_23 : decode cX0_check 23 = .ok (.putfield 128, 3) := dk_181 0 128 (dk_at dksX0_check_1 0 rfl rfl)
theorem dX0_check_26 : decode cX0_check 26 = .ok (.iconst 0, 1) := dk_3 (dk_at dksX0_check_1 3 rfl rfl)
theorem dX0_check_27 : decode cX0_check 27 = .ok (.istore_n 2, 1) := dk_61 (dk_at dksX0_check_1 4 rfl rfl)
theorem dX0_check_28 : decode cX0_check 28 = .ok (.iload_n 2, 1) := dk_28 (dk_at dksX0_check_1 5 rfl rfl)
theorem dX0_check_29 : decode cX0_check 29 = .ok (.iload_n 1, 1) := dk_27 (dk_at dksX0_check_1 6 rfl rfl)
theorem dX0_check_30 : decode cX0_check 30 = .ok (.if_icmp .ge 43, 3) := dk_162 0 43 (dk_at dksX0_check_1 7 rfl rfl)
theorem dX0_check_33 : decode cX0_check 33 = .ok (.aload_n 0, 1) := dk_42 (dk_at dksX0_check_1 10 rfl rfl)
theorem dX0_check_34 : decode cX0_check 34 = .ok (.iload_n 2, 1) := dk_28 (dk_at dksX0_check_1 11 rfl rfl)
theorem dX0_check_35 : decode cX0_check 35 = .ok (.invokevirtual 201, 3) := dk_182 0 201 (dk_at dksX0_check_1 12 rfl rfl)
theorem dX0_check_38 : decode cX0_check 38 = .ok (.aload_n 0, 1) := dk_42 (dk_at dksX0_check_1 15 rfl rfl)
theorem dX0_check_39 : decode cX0_check 39 = .ok (.getfield 65, 3) := dk_180 0 65 (dk_at dksX0_check_1 16 rfl rfl)
theorem dX0_check_42 : decode cX0_check 42 = .ok (.getfield 124, 3) := dk_180 0 124 (dk_at dksX0_check_1 19 rfl rfl)
theorem dX0_check_45 : decode cX0_check 45 = .ok (.iload_n 2, 1) := dk_28 (dk_at dksX0_check_1 22 rfl rfl)
theorem dX0_check_46 : decode cX0_check 46 = .ok (.bipush 8, 2) := dk_16 8 (dk_at dksX0_check_2 0 rfl rfl)
theorem dX0_check_48 : decode cX0_check 48 = .ok (.if_icmp .ge 7, 3) := dk_162 0 7 (dk_at dksX0_check_2 2 rfl rfl)
theorem dX0_check_51 : decode cX0_check 51 = .ok (.iconst 1, 1) := dk_4 (dk_at dksX0_check_2 5 rfl rfl)
theorem dX0_check_52 : decode cX0_check 52 = .ok (.goto 4, 3) := dk_167 0 4 (dk_at dksX0_check_2 6 rfl rfl)
theorem dX0_check_55 : decode cX0_check 55 = .ok (.iconst 0, 1) := dk_3 (dk_at dksX0_check_2 9 rfl rfl)
theorem dX0_check_56 : decode cX0_check 56 = .ok (.aaload, 1) := dk_50 (dk_at dksX0_check_2 10 rfl rfl)
theorem dX0_check_57 : decode cX0_check 57 = .ok (.iload_n 2, 1) := dk_28 (dk_at dksX0_check_2 11 rfl rfl)
theorem dX0_check_58 : decode cX0_check 58 = .ok (.bipush 8, 2) := dk_16 8 (dk_at dksX0_check_2 12 rfl rfl)
theorem dX0_check_60 : decode cX0_check 60 = .ok (.irem, 1) := dk_112 (dk_at dksX0_check_2 14 rfl rfl)
theorem dX0_check_61 : decode cX0_check 61 = .ok (.iaload, 1) := dk_46 (dk_at dksX0_check_2 15 rfl rfl)
theorem dX0_check_62 : decode cX0_check 62 = .ok (.if_icmp .eq 5, 3) := dk_159 0 5 (dk_at dksX0_check_2 16 rfl rfl)
theorem dX0_check_65 : decode cX0_check 65 = .ok (.iload_n 2, 1) := dk_28 (dk_at dksX0_check_2 19 rfl rfl)
theorem dX0_check_66 : decode cX0_check 66 = .ok (.ireturn, 1) := dk_172 (dk_at dksX0_check_2 20 rfl rfl)
theorem dX0_check_67 : decode cX0_check 67 = .ok (.iinc 2 1, 3) := dk_132 2 1 (dk_at dksX0_check_2 21 rfl rfl)
theorem dX0_check_70 : decode cX0_check 70 = .ok (.goto (-42), 3) := dk_167 255 214 (dk_at dksX0_check_3 0 rfl rfl)
theorem dX0_check_73 : decode cX0_check 73 = .ok (.iconst (-1), 1) := dk_2 (dk_at dksX0_check_3 3 rfl rfl)
theorem dX0_check_74 : decode cX0_check 74 = .ok (.ireturn, 1) := dk_172 (dk_at dksX0_check_3 4 rfl rfl)
abbrev cX0_count : ByteArray := prog_1_method_84_code
def yX0_count : MethodName := ⟨RX0, "count", "(I)I"⟩
def dkwX0_count_5 : List UInt8 := [172]
abbrev dktX0_count_5 : List UInt8 := dkwX0_count_5 ++ []
def dkwX0_count_4 : List UInt8 := [4, 46, 42, 180, 0, 65, 180, 0, 154, 3, 46, 96, 172, 42, 180, 0, 65, 16, 31, 182, 0, 177, 172, 2]
abbrev dktX0_count_4 : List UInt8 := dkwX0_count_4 ++ dktX0_count_5
def dkwX0_count_3 : List UInt8 := [180, 0, 128, 172, 42, 180, 0, 65, 180, 0, 113, 172, 42, 182, 1, 56, 172, 42, 180, 0, 65, 180, 0, 154]
abbrev dktX0_count_3 : List UInt8 := dkwX0_count_3 ++ dktX0_count_4
def dkwX0_count_2 : List UInt8 := [42, 180, 0, 65, 180, 1, 42, 172, 42, 180, 0, 161, 172, 42, 180, 0, 82, 180, 1, 53, 172, 42]
abbrev dktX0_count_2 : List UInt8 := dkwX0_count_2 ++ dktX0_count_3
def dkwX0_count_1 : List UInt8 := [170, 0, 0, 0, 0, 0, 116, 0, 0, 0, 0, 0, 0, 0, 7, 0, 0, 0, 47, 0, 0, 0, 55, 0, 0, 0, 60, 0, 0, 0, 68, 0, 0, 0, 73, 0, 0, 0, 81, 0, 0, 0, 86, 0, 0, 0, 106]
abbrev dktX0_count_1 : List UInt8 := dkwX0_count_1 ++ dktX0_count_2
def dkwX0_count_0 : List UInt8 := [27]
abbrev dktX0_count_0 : List UInt8 := dkwX0_count_0 ++ dktX0_count_1
theorem dksX0_count_0 : cX0_count.data.toList.drop 0 = dktX0_count_0 := by decide +kernel
theorem dksX0_count_1 : cX0_count.data.toList.drop 1 = dktX0_count_1 := dk_seg dksX0_count_0 1 rfl rfl
theorem dksX0_count_2 : cX0_count.data.toList.drop 48 = dktX0_count_2 := dk_seg dksX0_count_1 47 rfl rfl
theorem dksX0_count_3 : cX0_count.data.toList.drop 70 = dktX0_count_3 := dk_seg dksX0_count_2 22 rfl rfl
theorem dksX0_count_4 : cX0_count.data.toList.drop 94 = dktX0_count_4 := dk_seg dksX0_count_3 24 rfl rfl
theorem dksX0_count_5 : cX0_count.data.toList.drop 118 = dktX0_count_5 := dk_seg dksX0_count_4 24 rfl rfl
theorem dX0_count_0 : decode cX0_count 0 = .ok (.iload_n 1, 1) := dk_27 (dk_at dksX0_count_0 0 rfl rfl)
theorem dX0_count_1 : decode cX0_count 1 = .ok (.tableswitch 116 0 7 #[47, 55, 60, 68, 73, 81, 86, 106], 47) := by decide +kernel
theorem dX0_count_48 : decode cX0_count 48 = .ok (.aload_n 0, 1) := dk_42 (dk_at dksX0_count_2 0 rfl rfl)
theorem dX0_count_49 : decode cX0_count 49 = .ok (.getfield 65, 3) := dk_180 0 65 (dk_at dksX0_count_2 1 rfl rfl)
theorem dX0_count_52 : decode cX0_count 52 = .ok (.getfield 298, 3) := dk_180 1 42 (dk_at dksX0_count_2 4 rfl rfl)
theorem dX0_count_55 : decode cX0_count 55 = .ok (.ireturn, 1) := dk_172 (dk_at dksX0_count_2 7 rfl rfl)
theorem dX0_count_56 : decode cX0_count 56 = .ok (.aload_n 0, 1) := dk_42 (dk_at dksX0_count_2 8 rfl rfl)
theorem dX0_count_57 : decode cX0_count 57 = .ok (.getfield 161, 3) := dk_180 0 161 (dk_at dksX0_count_2 9 rfl rfl)
theorem dX0_count_60 : decode cX0_count 60 = .ok (.ireturn, 1) := dk_172 (dk_at dksX0_count_2 12 rfl rfl)
theorem dX0_count_61 : decode cX0_count 61 = .ok (.aload_n 0, 1) := dk_42 (dk_at dksX0_count_2 13 rfl rfl)
theorem dX0_count_62 : decode cX0_count 62 = .ok (.getfield 82, 3) := dk_180 0 82 (dk_at dksX0_count_2 14 rfl rfl)
theorem dX0_count_65 : decode cX0_count 65 = .ok (.getfield 309, 3) := dk_180 1 53 (dk_at dksX0_count_2 17 rfl rfl)
theorem dX0_count_68 : decode cX0_count 68 = .ok (.ireturn, 1) := dk_172 (dk_at dksX0_count_2 20 rfl rfl)
theorem dX0_count_69 : decode cX0_count 69 = .ok (.aload_n 0, 1) := dk_42 (dk_at dksX0_count_2 21 rfl rfl)
theorem dX0_count_70 : decode cX0_count 70 = .ok (.getfield 128, 3) := dk_180 0 128 (dk_at dksX0_count_3 0 rfl rfl)
theorem dX0_count_73 : decode cX0_count 73 = .ok (.ireturn, 1) := dk_172 (dk_at dksX0_count_3 3 rfl rfl)
theorem dX0_count_74 : decode cX0_count 74 = .ok (.aload_n 0, 1) := dk_42 (dk_at dksX0_count_3 4 rfl rfl)
theorem dX0_count_75 : decode cX0_count 75 = .ok (.getfield 65, 3) := dk_180 0 65 (dk_at dksX0_count_3 5 rfl rfl)
theorem dX0_count_78 : decode cX0_count 78 = .ok (.getfield 113, 3) := dk_180 0 113 (dk_at dksX0_count_3 8 rfl rfl)
theorem dX0_count_81 : decode cX0_count 81 = .ok (.ireturn, 1) := dk_172 (dk_at dksX0_count_3 11 rfl rfl)
theorem dX0_count_82 : decode cX0_count 82 = .ok (.aload_n 0, 1) := dk_42 (dk_at dksX0_count_3 12 rfl rfl)
theorem dX0_count_83 : decode cX0_count 83 = .ok (.invokevirtual 312, 3) := dk_182 1 56 (dk_at dksX0_count_3 13 rfl rfl)
theorem dX0_count_86 : decode cX0_count 86 = .ok (.ireturn, 1) := dk_172 (dk_at dksX0_count_3 16 rfl rfl)
theorem dX0_count_87 : decode cX0_count 87 = .ok (.aload_n 0, 1) := dk_42 (dk_at dksX0_count_3 17 rfl rfl)
theorem dX0_count_88 : decode cX0_count 88 = .ok (.getfield 65, 3) := dk_180 0 65 (dk_at dksX0_count_3 18 rfl rfl)
theorem dX0_count_91 : decode cX0_count 91 = .ok (.getfield 154, 3) := dk_180 0 154 (dk_at dksX0_count_3 21 rfl rfl)
theorem dX0_count_94 : decode cX0_count 94 = .ok (.iconst 1, 1) := dk_4 (dk_at dksX0_count_4 0 rfl rfl)
theorem dX0_count_95 : decode cX0_count 95 = .ok (.iaload, 1) := dk_46 (dk_at dksX0_count_4 1 rfl rfl)
theorem dX0_count_96 : decode cX0_count 96 = .ok (.aload_n 0, 1) := dk_42 (dk_at dksX0_count_4 2 rfl rfl)
theorem dX0_count_97 : decode cX0_count 97 = .ok (.getfield 65, 3) := dk_180 0 65 (dk_at dksX0_count_4 3 rfl rfl)
theorem dX0_count_100 : decode cX0_count 100 = .ok (.getfield 154, 3) := dk_180 0 154 (dk_at dksX0_count_4 6 rfl rfl)
theorem dX0_count_103 : decode cX0_count 103 = .ok (.iconst 0, 1) := dk_3 (dk_at dksX0_count_4 9 rfl rfl)
theorem dX0_count_104 : decode cX0_count 104 = .ok (.iaload, 1) := dk_46 (dk_at dksX0_count_4 10 rfl rfl)
theorem dX0_count_105 : decode cX0_count 105 = .ok (.iadd, 1) := dk_96 (dk_at dksX0_count_4 11 rfl rfl)
theorem dX0_count_106 : decode cX0_count 106 = .ok (.ireturn, 1) := dk_172 (dk_at dksX0_count_4 12 rfl rfl)
theorem dX0_count_107 : decode cX0_count 107 = .ok (.aload_n 0, 1) := dk_42 (dk_at dksX0_count_4 13 rfl rfl)
theorem dX0_count_108 : decode cX0_count 108 = .ok (.getfield 65, 3) := dk_180 0 65 (dk_at dksX0_count_4 14 rfl rfl)
theorem dX0_count_111 : decode cX0_count 111 = .ok (.bipush 31, 2) := dk_16 31 (dk_at dksX0_count_4 17 rfl rfl)
theorem dX0_count_113 : decode cX0_count 113 = .ok (.invokevirtual 177, 3) := dk_182 0 177 (dk_at dksX0_count_4 19 rfl rfl)
theorem dX0_count_116 : decode cX0_count 116 = .ok (.ireturn, 1) := dk_172 (dk_at dksX0_count_4 22 rfl rfl)
theorem dX0_count_117 : decode cX0_count 117 = .ok (.iconst (-1), 1) := dk_2 (dk_at dksX0_count_4 23 rfl rfl)
theorem dX0_count_118 : decode cX0_count 118 = .ok (.ireturn, 1) := dk_172 (dk_at dksX0_count_5 0 rfl rfl)
abbrev cX0_keptOff : ByteArray := prog_1_method_83_code
def yX0_keptOff : MethodName := ⟨RX0, "keptOff", "()I"⟩
def dkwX0_keptOff_1 : List UInt8 := [54, 5, 27, 21, 5, 153, 0, 7, 4, 167, 0, 4, 3, 96, 60, 132, 4, 1, 167, 255, 228, 27, 172]
abbrev dktX0_keptOff_1 : List UInt8 := dkwX0_keptOff_1 ++ []
def dkwX0_keptOff_0 : List UInt8 := [3, 60, 42, 180, 0, 49, 77, 44, 190, 62, 3, 54, 4, 21, 4, 29, 162, 0, 28, 44, 21, 4, 51]
abbrev dktX0_keptOff_0 : List UInt8 := dkwX0_keptOff_0 ++ dktX0_keptOff_1
theorem dksX0_keptOff_0 : cX0_keptOff.data.toList.drop 0 = dktX0_keptOff_0 := by decide +kernel
theorem dksX0_keptOff_1 : cX0_keptOff.data.toList.drop 23 = dktX0_keptOff_1 := dk_seg dksX0_keptOff_0 23 rfl rfl
theorem dX0_keptOff_0 : decode cX0_keptOff 0 = .ok (.iconst 0, 1) := dk_3 (dk_at dksX0_keptOff_0 0 rfl rfl)
theorem dX0_keptOff_1 : decode cX0_keptOff 1 = .ok (.istore_n 1, 1) := dk_60 (dk_at dksX0_keptOff_0 1 rfl rfl)
theorem dX0_keptOff_2 : decode cX0_keptOff 2 = .ok (.aload_n 0, 1) := dk_42 (dk_at dksX0_keptOff_0 2 rfl rfl)
theorem dX0_keptOff_3 : decode cX0_keptOff 3 = .ok (.getfield 49, 3) := dk_180 0 49 (dk_at dksX0_keptOff_0 3 rfl rfl)
theorem dX0_keptOff_6 : decode cX0_keptOff 6 = .ok (.astore_n 2, 1) := dk_77 (dk_at dksX0_keptOff_0 6 rfl rfl)
theorem dX0_keptOff_7 : decode cX0_keptOff 7 = .ok (.aload_n 2, 1) := dk_44 (dk_at dksX0_keptOff_0 7 rfl rfl)
theorem dX0_keptOff_8 : decode cX0_keptOff 8 = .ok (.arraylength, 1) := dk_190 (dk_at dksX0_keptOff_0 8 rfl rfl)
theorem dX0_keptOff_9 : decode cX0_keptOff 9 = .ok (.istore_n 3, 1) := dk_62 (dk_at dksX0_keptOff_0 9 rfl rfl)
theorem dX0_keptOff_10 : decode cX0_keptOff 10 = .ok (.iconst 0, 1) := dk_3 (dk_at dksX0_keptOff_0 10 rfl rfl)
theorem dX0_keptOff_11 : decode cX0_keptOff 11 = .ok (.istore 4, 2) := dk_54 4 (dk_at dksX0_keptOff_0 11 rfl rfl)
theorem dX0_keptOff_13 : decode cX0_keptOff 13 = .ok (.iload 4, 2) := dk_21 4 (dk_at dksX0_keptOff_0 13 rfl rfl)
theorem dX0_keptOff_15 : decode cX0_keptOff 15 = .ok (.iload_n 3, 1) := dk_29 (dk_at dksX0_keptOff_0 15 rfl rfl)
theorem dX0_keptOff_16 : decode cX0_keptOff 16 = .ok (.if_icmp .ge 28, 3) := dk_162 0 28 (dk_at dksX0_keptOff_0 16 rfl rfl)
theorem dX0_keptOff_19 : decode cX0_keptOff 19 = .ok (.aload_n 2, 1) := dk_44 (dk_at dksX0_keptOff_0 19 rfl rfl)
theorem dX0_keptOff_20 : decode cX0_keptOff 20 = .ok (.iload 4, 2) := dk_21 4 (dk_at dksX0_keptOff_0 20 rfl rfl)
theorem dX0_keptOff_22 : decode cX0_keptOff 22 = .ok (.baload, 1) := dk_51 (dk_at dksX0_keptOff_0 22 rfl rfl)
theorem dX0_keptOff_23 : decode cX0_keptOff 23 = .ok (.istore 5, 2) := dk_54 5 (dk_at dksX0_keptOff_1 0 rfl rfl)
theorem dX0_keptOff_25 : decode cX0_keptOff 25 = .ok (.iload_n 1, 1) := dk_27 (dk_at dksX0_keptOff_1 2 rfl rfl)
theorem dX0_keptOff_26 : decode cX0_keptOff 26 = .ok (.iload 5, 2) := dk_21 5 (dk_at dksX0_keptOff_1 3 rfl rfl)
theorem dX0_keptOff_28 : decode cX0_keptOff 28 = .ok (.ifCond .eq 7, 3) := dk_153 0 7 (dk_at dksX0_keptOff_1 5 rfl rfl)
theorem dX0_keptOff_31 : decode cX0_keptOff 31 = .ok (.iconst 1, 1) := dk_4 (dk_at dksX0_keptOff_1 8 rfl rfl)
theorem dX0_keptOff_32 : decode cX0_keptOff 32 = .ok (.goto 4, 3) := dk_167 0 4 (dk_at dksX0_keptOff_1 9 rfl rfl)
theorem dX0_keptOff_35 : decode cX0_keptOff 35 = .ok (.iconst 0, 1) := dk_3 (dk_at dksX0_keptOff_1 12 rfl rfl)
theorem dX0_keptOff_36 : decode cX0_keptOff 36 = .ok (.iadd, 1) := dk_96 (dk_at dksX0_keptOff_1 13 rfl rfl)
theorem dX0_keptOff_37 : decode cX0_keptOff 37 = .ok (.istore_n 1, 1) := dk_60 (dk_at dksX0_keptOff_1 14 rfl rfl)
theorem dX0_keptOff_38 : decode cX0_keptOff 38 = .ok (.iinc 4 1, 3) := dk_132 4 1 (dk_at dksX0_keptOff_1 15 rfl rfl)
theorem dX0_keptOff_41 : decode cX0_keptOff 41 = .ok (.goto (-28), 3) := dk_167 255 228 (dk_at dksX0_keptOff_1 18 rfl rfl)
theorem dX0_keptOff_44 : decode cX0_keptOff 44 = .ok (.iload_n 1, 1) := dk_27 (dk_at dksX0_keptOff_1 21 rfl rfl)
theorem dX0_keptOff_45 : decode cX0_keptOff 45 = .ok (.ireturn, 1) := dk_172 (dk_at dksX0_keptOff_1 22 rfl rfl)
theorem q117 : (Jvm.Cond.initialized "HighSpots") ∈ lw_all := lw_g (lw_at lw_m1 1 rfl) rfl
theorem q142 : (Jvm.Cond.instantiable "HighSpots" (21 : Nat)) ∈ lw_all := lw_g (lw_at lw_m1 26 rfl) rfl
theorem q144 : (Jvm.Cond.instanceMethod ({ cls := "HighSpots", name := "<init>", desc := "()V" } : Jvm.MethodName)) ∈ lw_all := lw_g (lw_at lw_m1 28 rfl) rfl
theorem q145 : (Jvm.Cond.code ({ cls := "HighSpots", name := "<init>", desc := "()V" } : Jvm.MethodName) prog_1_method_11_code (1 : Nat) (Option.none : Option Jvm.ClassFile.FieldType)) ∈ lw_all := lw_g (lw_at lw_m1 29 rfl) rfl
theorem q146 : (Jvm.Cond.methodLink "HighSpots" (36 : Nat) ({ cls := "java/lang/Object", name := "<init>", desc := "()V" } : Jvm.MethodName)) ∈ lw_all := lw_g (lw_at lw_m1 30 rfl) rfl
theorem q149 : (Jvm.Cond.classLink "HighSpots" (42 : Nat) "HighSpots$Moment") ∈ lw_all := lw_g (lw_at lw_m1 33 rfl) rfl
theorem q151 : (Jvm.Cond.methodLinkNest "HighSpots" (44 : Nat) ({ cls := "HighSpots$Moment", name := "<init>", desc := "()V" } : Jvm.MethodName) "HighSpots") ∈ lw_tbl := lw_at lw_m1 35 rfl
theorem q170 : (Jvm.Cond.classLink "HighSpots" (60 : Nat) "HighSpots$Bench") ∈ lw_all := lw_g (lw_at lw_m1 54 rfl) rfl
theorem q172 : (Jvm.Cond.methodLinkNest "HighSpots" (62 : Nat) ({ cls := "HighSpots$Bench", name := "<init>", desc := "(LHighSpots;)V" } : Jvm.MethodName) "HighSpots") ∈ lw_tbl := lw_at lw_m1 56 rfl
theorem q179 : (Jvm.Cond.fieldLinkNest "HighSpots" (124 : Nat) "HighSpots$Bench" "heights" "[[I" "HighSpots") ∈ lw_tbl := lw_at lw_m1 63 rfl
theorem q181 : (Jvm.Cond.fieldLinkNest "HighSpots" (154 : Nat) "HighSpots$Bench" "worn" "[I" "HighSpots") ∈ lw_tbl := lw_at lw_m1 65 rfl
theorem q183 : (Jvm.Cond.fieldLinkNest "HighSpots" (298 : Nat) "HighSpots$Bench" "night" "I" "HighSpots") ∈ lw_tbl := lw_at lw_m1 67 rfl
theorem q185 : (Jvm.Cond.fieldLinkNest "HighSpots" (113 : Nat) "HighSpots$Bench" "x" "I" "HighSpots") ∈ lw_tbl := lw_at lw_m1 69 rfl
theorem q187 : (Jvm.Cond.fieldLinkNest "HighSpots" (291 : Nat) "HighSpots$Bench" "wornNow" "I" "HighSpots") ∈ lw_tbl := lw_at lw_m1 71 rfl
theorem q203 : (Jvm.Cond.classLink "HighSpots" (79 : Nat) "HighSpots$Text") ∈ lw_all := lw_g (lw_at lw_m1 87 rfl) rfl
theorem q205 : (Jvm.Cond.methodLinkNest "HighSpots" (81 : Nat) ({ cls := "HighSpots$Text", name := "<init>", desc := "()V" } : Jvm.MethodName) "HighSpots") ∈ lw_tbl := lw_at lw_m1 89 rfl
theorem q221 : (Jvm.Cond.fieldLinkNest "HighSpots" (309 : Nat) "HighSpots$Text" "many" "I" "HighSpots") ∈ lw_tbl := lw_at lw_m1 105 rfl
theorem q233 : (Jvm.Cond.fieldLink "HighSpots" (45 : Nat) "HighSpots" "moment" "LHighSpots$Moment;") ∈ lw_all := lw_g (lw_at lw_m1 117 rfl) rfl
theorem q235 : (Jvm.Cond.fieldLink "HighSpots" (49 : Nat) "HighSpots" "isKeptOff" "[Z") ∈ lw_all := lw_g (lw_at lw_m1 119 rfl) rfl
theorem q237 : (Jvm.Cond.fieldLink "HighSpots" (53 : Nat) "HighSpots" "isMarked" "[Z") ∈ lw_all := lw_g (lw_at lw_m1 121 rfl) rfl
theorem q239 : (Jvm.Cond.fieldLink "HighSpots" (56 : Nat) "HighSpots" "path" "[I") ∈ lw_all := lw_g (lw_at lw_m1 123 rfl) rfl
theorem q241 : (Jvm.Cond.fieldLink "HighSpots" (161 : Nat) "HighSpots" "steps" "I") ∈ lw_all := lw_g (lw_at lw_m1 125 rfl) rfl
theorem q242 : (Jvm.Cond.fieldLink "HighSpots" (65 : Nat) "HighSpots" "bench" "LHighSpots$Bench;") ∈ lw_all := lw_g (lw_at lw_m1 126 rfl) rfl
theorem q243 : (Jvm.Cond.fieldLink "HighSpots" (69 : Nat) "HighSpots" "then" "LHighSpots$Bench;") ∈ lw_all := lw_g (lw_at lw_m1 127 rfl) rfl
theorem q244 : (Jvm.Cond.fieldLink "HighSpots" (72 : Nat) "HighSpots" "kept" "LHighSpots$Bench;") ∈ lw_all := lw_g (lw_at lw_m1 128 rfl) rfl
theorem q247 : (Jvm.Cond.fieldLink "HighSpots" (75 : Nat) "HighSpots" "tape" "[B") ∈ lw_all := lw_g (lw_at lw_m1 131 rfl) rfl
theorem q249 : (Jvm.Cond.fieldLink "HighSpots" (82 : Nat) "HighSpots" "law" "LHighSpots$Text;") ∈ lw_all := lw_g (lw_at lw_m1 133 rfl) rfl
theorem q250 : (Jvm.Cond.fieldLink "HighSpots" (128 : Nat) "HighSpots" "taped" "I") ∈ lw_all := lw_g (lw_at lw_m1 134 rfl) rfl
theorem q251 : (Jvm.Cond.fieldLink "HighSpots" (305 : Nat) "HighSpots" "isKept" "Z") ∈ lw_all := lw_g (lw_at lw_m1 135 rfl) rfl
theorem q252 : (Jvm.Cond.fieldLink "HighSpots" (86 : Nat) "HighSpots" "openings" "[I") ∈ lw_all := lw_g (lw_at lw_m1 136 rfl) rfl
theorem q253 : (Jvm.Cond.fieldLink "HighSpots" (89 : Nat) "HighSpots" "came" "[I") ∈ lw_all := lw_g (lw_at lw_m1 137 rfl) rfl
theorem q254 : (Jvm.Cond.fieldLink "HighSpots" (92 : Nat) "HighSpots" "queue" "[I") ∈ lw_all := lw_g (lw_at lw_m1 138 rfl) rfl
theorem q255 : (Jvm.Cond.fieldLink "HighSpots" (95 : Nat) "HighSpots" "highest" "[I") ∈ lw_all := lw_g (lw_at lw_m1 139 rfl) rfl
theorem q256 : (Jvm.Cond.fieldLink "HighSpots" (98 : Nat) "HighSpots" "isGone" "[Z") ∈ lw_all := lw_g (lw_at lw_m1 140 rfl) rfl
theorem q257 : (Jvm.Cond.fieldLink "HighSpots" (101 : Nat) "HighSpots" "line" "[I") ∈ lw_all := lw_g (lw_at lw_m1 141 rfl) rfl
theorem q258 : (Jvm.Cond.fieldLink "HighSpots" (104 : Nat) "HighSpots" "sums" "[I") ∈ lw_all := lw_g (lw_at lw_m1 142 rfl) rfl
theorem q259 : (Jvm.Cond.fieldLink "HighSpots" (107 : Nat) "HighSpots" "climbs" "[I") ∈ lw_all := lw_g (lw_at lw_m1 143 rfl) rfl
theorem q260 : (Jvm.Cond.fieldLink "HighSpots" (110 : Nat) "HighSpots" "level" "[I") ∈ lw_all := lw_g (lw_at lw_m1 144 rfl) rfl
theorem q261 : (Jvm.Cond.laysFinal "HighSpots" "HighSpots" "moment" "LHighSpots$Moment;") ∈ lw_all := lw_g (lw_at lw_m1 145 rfl) rfl
theorem q262 : (Jvm.Cond.soleField "HighSpots" "moment") ∈ lw_all := lw_g (lw_at lw_m1 146 rfl) rfl
theorem q263 : (Jvm.Cond.laysFinal "HighSpots" "HighSpots" "isKeptOff" "[Z") ∈ lw_all := lw_g (lw_at lw_m1 147 rfl) rfl
theorem q264 : (Jvm.Cond.soleField "HighSpots" "isKeptOff") ∈ lw_all := lw_g (lw_at lw_m1 148 rfl) rfl
theorem q265 : (Jvm.Cond.laysFinal "HighSpots" "HighSpots" "isMarked" "[Z") ∈ lw_all := lw_g (lw_at lw_m1 149 rfl) rfl
theorem q266 : (Jvm.Cond.soleField "HighSpots" "isMarked") ∈ lw_all := lw_g (lw_at lw_m1 150 rfl) rfl
theorem q267 : (Jvm.Cond.laysFinal "HighSpots" "HighSpots" "path" "[I") ∈ lw_all := lw_g (lw_at lw_m1 151 rfl) rfl
theorem q268 : (Jvm.Cond.soleField "HighSpots" "path") ∈ lw_all := lw_g (lw_at lw_m1 152 rfl) rfl
theorem q269 : (Jvm.Cond.lays "HighSpots" "HighSpots" "steps" "I") ∈ lw_all := lw_g (lw_at lw_m1 153 rfl) rfl
theorem q270 : (Jvm.Cond.soleField "HighSpots" "steps") ∈ lw_all := lw_g (lw_at lw_m1 154 rfl) rfl
theorem q271 : (Jvm.Cond.laysFinal "HighSpots" "HighSpots" "bench" "LHighSpots$Bench;") ∈ lw_all := lw_g (lw_at lw_m1 155 rfl) rfl
theorem q272 : (Jvm.Cond.soleField "HighSpots" "bench") ∈ lw_all := lw_g (lw_at lw_m1 156 rfl) rfl
theorem q273 : (Jvm.Cond.laysFinal "HighSpots" "HighSpots" "then" "LHighSpots$Bench;") ∈ lw_all := lw_g (lw_at lw_m1 157 rfl) rfl
theorem q274 : (Jvm.Cond.soleField "HighSpots" "then") ∈ lw_all := lw_g (lw_at lw_m1 158 rfl) rfl
theorem q275 : (Jvm.Cond.laysFinal "HighSpots" "HighSpots" "kept" "LHighSpots$Bench;") ∈ lw_all := lw_g (lw_at lw_m1 159 rfl) rfl
theorem q276 : (Jvm.Cond.soleField "HighSpots" "kept") ∈ lw_all := lw_g (lw_at lw_m1 160 rfl) rfl
theorem q277 : (Jvm.Cond.laysFinal "HighSpots" "HighSpots" "tape" "[B") ∈ lw_all := lw_g (lw_at lw_m1 161 rfl) rfl
theorem q278 : (Jvm.Cond.soleField "HighSpots" "tape") ∈ lw_all := lw_g (lw_at lw_m1 162 rfl) rfl
theorem q279 : (Jvm.Cond.lays "HighSpots" "HighSpots" "law" "LHighSpots$Text;") ∈ lw_all := lw_g (lw_at lw_m1 163 rfl) rfl
theorem q280 : (Jvm.Cond.soleField "HighSpots" "law") ∈ lw_all := lw_g (lw_at lw_m1 164 rfl) rfl
theorem q281 : (Jvm.Cond.lays "HighSpots" "HighSpots" "taped" "I") ∈ lw_all := lw_g (lw_at lw_m1 165 rfl) rfl
theorem q282 : (Jvm.Cond.soleField "HighSpots" "taped") ∈ lw_all := lw_g (lw_at lw_m1 166 rfl) rfl
theorem q283 : (Jvm.Cond.lays "HighSpots" "HighSpots" "isKept" "Z") ∈ lw_all := lw_g (lw_at lw_m1 167 rfl) rfl
theorem q284 : (Jvm.Cond.soleField "HighSpots" "isKept") ∈ lw_all := lw_g (lw_at lw_m1 168 rfl) rfl
theorem q285 : (Jvm.Cond.laysFinal "HighSpots" "HighSpots" "openings" "[I") ∈ lw_all := lw_g (lw_at lw_m1 169 rfl) rfl
theorem q286 : (Jvm.Cond.soleField "HighSpots" "openings") ∈ lw_all := lw_g (lw_at lw_m1 170 rfl) rfl
theorem q287 : (Jvm.Cond.laysFinal "HighSpots" "HighSpots" "came" "[I") ∈ lw_all := lw_g (lw_at lw_m1 171 rfl) rfl
theorem q288 : (Jvm.Cond.soleField "HighSpots" "came") ∈ lw_all := lw_g (lw_at lw_m1 172 rfl) rfl
theorem q289 : (Jvm.Cond.laysFinal "HighSpots" "HighSpots" "queue" "[I") ∈ lw_all := lw_g (lw_at lw_m1 173 rfl) rfl
theorem q290 : (Jvm.Cond.soleField "HighSpots" "queue") ∈ lw_all := lw_g (lw_at lw_m1 174 rfl) rfl
theorem q291 : (Jvm.Cond.laysFinal "HighSpots" "HighSpots" "highest" "[I") ∈ lw_all := lw_g (lw_at lw_m1 175 rfl) rfl
theorem q292 : (Jvm.Cond.soleField "HighSpots" "highest") ∈ lw_all := lw_g (lw_at lw_m1 176 rfl) rfl
theorem q293 : (Jvm.Cond.laysFinal "HighSpots" "HighSpots" "isGone" "[Z") ∈ lw_all := lw_g (lw_at lw_m1 177 rfl) rfl
theorem q294 : (Jvm.Cond.soleField "HighSpots" "isGone") ∈ lw_all := lw_g (lw_at lw_m1 178 rfl) rfl
theorem q295 : (Jvm.Cond.laysFinal "HighSpots" "HighSpots" "line" "[I") ∈ lw_all := lw_g (lw_at lw_m1 179 rfl) rfl
theorem q296 : (Jvm.Cond.soleField "HighSpots" "line") ∈ lw_all := lw_g (lw_at lw_m1 180 rfl) rfl
theorem q297 : (Jvm.Cond.laysFinal "HighSpots" "HighSpots" "sums" "[I") ∈ lw_all := lw_g (lw_at lw_m1 181 rfl) rfl
theorem q298 : (Jvm.Cond.soleField "HighSpots" "sums") ∈ lw_all := lw_g (lw_at lw_m1 182 rfl) rfl
theorem q299 : (Jvm.Cond.laysFinal "HighSpots" "HighSpots" "climbs" "[I") ∈ lw_all := lw_g (lw_at lw_m1 183 rfl) rfl
theorem q300 : (Jvm.Cond.soleField "HighSpots" "climbs") ∈ lw_all := lw_g (lw_at lw_m1 184 rfl) rfl
theorem q301 : (Jvm.Cond.laysFinal "HighSpots" "HighSpots" "level" "[I") ∈ lw_all := lw_g (lw_at lw_m1 185 rfl) rfl
theorem q302 : (Jvm.Cond.soleField "HighSpots" "level") ∈ lw_all := lw_g (lw_at lw_m1 186 rfl) rfl
theorem q303 : (Jvm.Cond.superclass "HighSpots" "java/lang/Object") ∈ lw_all := lw_g (lw_at lw_m1 187 rfl) rfl
theorem q305 : (Jvm.Cond.instanceMethod ({ cls := "HighSpots", name := "height", desc := "(III)Z" } : Jvm.MethodName)) ∈ lw_all := lw_g (lw_at lw_m1 189 rfl) rfl
theorem q306 : (Jvm.Cond.selects "HighSpots" ({ cls := "HighSpots", name := "height", desc := "(III)Z" } : Jvm.MethodName) ({ cls := "HighSpots", name := "height", desc := "(III)Z" } : Jvm.MethodName)) ∈ lw_all := lw_g (lw_at lw_m1 190 rfl) rfl
theorem q307 : (Jvm.Cond.code ({ cls := "HighSpots", name := "height", desc := "(III)Z" } : Jvm.MethodName) prog_1_method_14_code (4 : Nat) (Option.some Jvm.ClassFile.FieldType.boolean)) ∈ lw_all := lw_g (lw_at lw_m1 191 rfl) rfl
theorem q308 : (Jvm.Cond.methodLink "HighSpots" (117 : Nat) ({ cls := "HighSpots", name := "isCast", desc := "(I)Z" } : Jvm.MethodName)) ∈ lw_all := lw_g (lw_at lw_m1 192 rfl) rfl
theorem q309 : (Jvm.Cond.static ({ cls := "HighSpots", name := "isCast", desc := "(I)Z" } : Jvm.MethodName)) ∈ lw_all := lw_g (lw_at lw_m1 193 rfl) rfl
theorem q310 : (Jvm.Cond.code ({ cls := "HighSpots", name := "isCast", desc := "(I)Z" } : Jvm.MethodName) prog_1_method_12_code (1 : Nat) (Option.some Jvm.ClassFile.FieldType.boolean)) ∈ lw_all := lw_g (lw_at lw_m1 194 rfl) rfl
theorem q311 : (Jvm.Cond.methodLink "HighSpots" (12 : Nat) ({ cls := "HighSpots", name := "in", desc := "(II)Z" } : Jvm.MethodName)) ∈ lw_all := lw_g (lw_at lw_m1 195 rfl) rfl
theorem q312 : (Jvm.Cond.static ({ cls := "HighSpots", name := "in", desc := "(II)Z" } : Jvm.MethodName)) ∈ lw_all := lw_g (lw_at lw_m1 196 rfl) rfl
theorem q313 : (Jvm.Cond.code ({ cls := "HighSpots", name := "in", desc := "(II)Z" } : Jvm.MethodName) prog_1_method_1_code (2 : Nat) (Option.some Jvm.ClassFile.FieldType.boolean)) ∈ lw_all := lw_g (lw_at lw_m1 197 rfl) rfl
theorem q314 : (Jvm.Cond.methodLink "HighSpots" (121 : Nat) ({ cls := "HighSpots", name := "isPlace", desc := "(I)Z" } : Jvm.MethodName)) ∈ lw_all := lw_g (lw_at lw_m1 198 rfl) rfl
theorem q315 : (Jvm.Cond.static ({ cls := "HighSpots", name := "isPlace", desc := "(I)Z" } : Jvm.MethodName)) ∈ lw_all := lw_g (lw_at lw_m1 199 rfl) rfl
theorem q316 : (Jvm.Cond.code ({ cls := "HighSpots", name := "isPlace", desc := "(I)Z" } : Jvm.MethodName) prog_1_method_13_code (1 : Nat) (Option.some Jvm.ClassFile.FieldType.boolean)) ∈ lw_all := lw_g (lw_at lw_m1 200 rfl) rfl
theorem q317 : (Jvm.Cond.methodLink "HighSpots" (16 : Nat) ({ cls := "HighSpots", name := "within", desc := "(III)Z" } : Jvm.MethodName)) ∈ lw_all := lw_g (lw_at lw_m1 201 rfl) rfl
theorem q318 : (Jvm.Cond.static ({ cls := "HighSpots", name := "within", desc := "(III)Z" } : Jvm.MethodName)) ∈ lw_all := lw_g (lw_at lw_m1 202 rfl) rfl
theorem q319 : (Jvm.Cond.code ({ cls := "HighSpots", name := "within", desc := "(III)Z" } : Jvm.MethodName) prog_1_method_2_code (3 : Nat) (Option.some Jvm.ClassFile.FieldType.boolean)) ∈ lw_all := lw_g (lw_at lw_m1 203 rfl) rfl
theorem q321 : (Jvm.Cond.instanceMethod ({ cls := "HighSpots", name := "keepOff", desc := "(IZ)Z" } : Jvm.MethodName)) ∈ lw_all := lw_g (lw_at lw_m1 205 rfl) rfl
theorem q322 : (Jvm.Cond.selects "HighSpots" ({ cls := "HighSpots", name := "keepOff", desc := "(IZ)Z" } : Jvm.MethodName) ({ cls := "HighSpots", name := "keepOff", desc := "(IZ)Z" } : Jvm.MethodName)) ∈ lw_all := lw_g (lw_at lw_m1 206 rfl) rfl
theorem q323 : (Jvm.Cond.code ({ cls := "HighSpots", name := "keepOff", desc := "(IZ)Z" } : Jvm.MethodName) prog_1_method_15_code (3 : Nat) (Option.some Jvm.ClassFile.FieldType.boolean)) ∈ lw_all := lw_g (lw_at lw_m1 207 rfl) rfl
theorem q325 : (Jvm.Cond.instanceMethod ({ cls := "HighSpots", name := "feed", desc := "(IIIII)I" } : Jvm.MethodName)) ∈ lw_all := lw_g (lw_at lw_m1 209 rfl) rfl
theorem q326 : (Jvm.Cond.selects "HighSpots" ({ cls := "HighSpots", name := "feed", desc := "(IIIII)I" } : Jvm.MethodName) ({ cls := "HighSpots", name := "feed", desc := "(IIIII)I" } : Jvm.MethodName)) ∈ lw_all := lw_g (lw_at lw_m1 210 rfl) rfl
theorem q327 : (Jvm.Cond.code ({ cls := "HighSpots", name := "feed", desc := "(IIIII)I" } : Jvm.MethodName) prog_1_method_17_code (6 : Nat) (Option.some Jvm.ClassFile.FieldType.int)) ∈ lw_all := lw_g (lw_at lw_m1 211 rfl) rfl
theorem q328 : (Jvm.Cond.methodLink "HighSpots" (131 : Nat) ({ cls := "HighSpots", name := "push", desc := "(I)V" } : Jvm.MethodName)) ∈ lw_all := lw_g (lw_at lw_m1 212 rfl) rfl
theorem q329 : (Jvm.Cond.privateMethod ({ cls := "HighSpots", name := "push", desc := "(I)V" } : Jvm.MethodName)) ∈ lw_tbl := lw_at lw_m1 213 rfl
theorem q330 : (Jvm.Cond.instanceMethod ({ cls := "HighSpots", name := "push", desc := "(I)V" } : Jvm.MethodName)) ∈ lw_all := lw_g (lw_at lw_m1 214 rfl) rfl
theorem q331 : (Jvm.Cond.code ({ cls := "HighSpots", name := "push", desc := "(I)V" } : Jvm.MethodName) prog_1_method_16_code (3 : Nat) (Option.none : Option Jvm.ClassFile.FieldType)) ∈ lw_all := lw_g (lw_at lw_m1 215 rfl) rfl
theorem q333 : (Jvm.Cond.instanceMethod ({ cls := "HighSpots", name := "law", desc := "(I)I" } : Jvm.MethodName)) ∈ lw_all := lw_g (lw_at lw_m1 217 rfl) rfl
theorem q334 : (Jvm.Cond.selects "HighSpots" ({ cls := "HighSpots", name := "law", desc := "(I)I" } : Jvm.MethodName) ({ cls := "HighSpots", name := "law", desc := "(I)I" } : Jvm.MethodName)) ∈ lw_all := lw_g (lw_at lw_m1 218 rfl) rfl
theorem q335 : (Jvm.Cond.code ({ cls := "HighSpots", name := "law", desc := "(I)I" } : Jvm.MethodName) prog_1_method_18_code (4 : Nat) (Option.some Jvm.ClassFile.FieldType.int)) ∈ lw_all := lw_g (lw_at lw_m1 219 rfl) rfl
theorem q336 : (Jvm.Cond.classLink "HighSpots" (135 : Nat) "HighSpots$Reader") ∈ lw_all := lw_g (lw_at lw_m1 220 rfl) rfl
theorem q338 : (Jvm.Cond.methodLink "HighSpots" (137 : Nat) ({ cls := "HighSpots$Reader", name := "<init>", desc := "(LHighSpots;I)V" } : Jvm.MethodName)) ∈ lw_all := lw_g (lw_at lw_m1 222 rfl) rfl
theorem q346 : (Jvm.Cond.fieldLinkNest "HighSpots" (144 : Nat) "HighSpots$Reader" "text" "LHighSpots$Text;" "HighSpots") ∈ lw_tbl := lw_at lw_m1 230 rfl
theorem q367 : (Jvm.Cond.methodLink "HighSpots" (140 : Nat) ({ cls := "HighSpots$Reader", name := "read", desc := "()I" } : Jvm.MethodName)) ∈ lw_all := lw_g (lw_at lw_m2 11 rfl) rfl
theorem q602 : (Jvm.Cond.instanceMethod ({ cls := "HighSpots", name := "casts", desc := "(I)I" } : Jvm.MethodName)) ∈ lw_all := lw_g (lw_at lw_m3 6 rfl) rfl
theorem q603 : (Jvm.Cond.selects "HighSpots" ({ cls := "HighSpots", name := "casts", desc := "(I)I" } : Jvm.MethodName) ({ cls := "HighSpots", name := "casts", desc := "(I)I" } : Jvm.MethodName)) ∈ lw_all := lw_g (lw_at lw_m3 7 rfl) rfl
theorem q604 : (Jvm.Cond.code ({ cls := "HighSpots", name := "casts", desc := "(I)I" } : Jvm.MethodName) prog_1_method_19_code (6 : Nat) (Option.some Jvm.ClassFile.FieldType.int)) ∈ lw_all := lw_g (lw_at lw_m3 8 rfl) rfl
theorem q605 : (Jvm.Cond.classLink "HighSpots" (147 : Nat) "HighSpots$Caster") ∈ lw_all := lw_g (lw_at lw_m3 9 rfl) rfl
theorem q607 : (Jvm.Cond.methodLink "HighSpots" (149 : Nat) ({ cls := "HighSpots$Caster", name := "<init>", desc := "(LHighSpots;I)V" } : Jvm.MethodName)) ∈ lw_all := lw_g (lw_at lw_m3 11 rfl) rfl
theorem q616 : (Jvm.Cond.fieldLinkNest "HighSpots" (151 : Nat) "HighSpots$Caster" "trial" "[[I" "HighSpots") ∈ lw_tbl := lw_at lw_m3 20 rfl
theorem q644 : (Jvm.Cond.methodLink "HighSpots" (150 : Nat) ({ cls := "HighSpots$Caster", name := "read", desc := "()I" } : Jvm.MethodName)) ∈ lw_all := lw_g (lw_at lw_m3 48 rfl) rfl
theorem q725 : (Jvm.Cond.instanceMethod ({ cls := "HighSpots", name := "tour", desc := "(I)I" } : Jvm.MethodName)) ∈ lw_all := lw_g (lw_at lw_m3 129 rfl) rfl
theorem q726 : (Jvm.Cond.selects "HighSpots" ({ cls := "HighSpots", name := "tour", desc := "(I)I" } : Jvm.MethodName) ({ cls := "HighSpots", name := "tour", desc := "(I)I" } : Jvm.MethodName)) ∈ lw_all := lw_g (lw_at lw_m3 130 rfl) rfl
theorem q727 : (Jvm.Cond.code ({ cls := "HighSpots", name := "tour", desc := "(I)I" } : Jvm.MethodName) prog_1_method_20_code (7 : Nat) (Option.some Jvm.ClassFile.FieldType.int)) ∈ lw_all := lw_g (lw_at lw_m3 131 rfl) rfl
theorem q728 : (Jvm.Cond.classLink "HighSpots" (157 : Nat) "HighSpots$Guide") ∈ lw_all := lw_g (lw_at lw_m3 132 rfl) rfl
theorem q730 : (Jvm.Cond.methodLink "HighSpots" (159 : Nat) ({ cls := "HighSpots$Guide", name := "<init>", desc := "(LHighSpots;I)V" } : Jvm.MethodName)) ∈ lw_all := lw_g (lw_at lw_m3 134 rfl) rfl
theorem q735 : (Jvm.Cond.fieldLinkNest "HighSpots" (164 : Nat) "HighSpots$Guide" "row" "[I" "HighSpots") ∈ lw_tbl := lw_at lw_m3 139 rfl
theorem q753 : (Jvm.Cond.methodLink "HighSpots" (160 : Nat) ({ cls := "HighSpots$Guide", name := "read", desc := "()I" } : Jvm.MethodName)) ∈ lw_all := lw_g (lw_at lw_m3 157 rfl) rfl
theorem q795 : (Jvm.Cond.methodLink "HighSpots" (167 : Nat) ({ cls := "HighSpots", name := "stepped", desc := "(II)I" } : Jvm.MethodName)) ∈ lw_all := lw_g (lw_at lw_m3 199 rfl) rfl
theorem q796 : (Jvm.Cond.static ({ cls := "HighSpots", name := "stepped", desc := "(II)I" } : Jvm.MethodName)) ∈ lw_all := lw_g (lw_at lw_m3 200 rfl) rfl
theorem q797 : (Jvm.Cond.code ({ cls := "HighSpots", name := "stepped", desc := "(II)I" } : Jvm.MethodName) prog_1_method_10_code (4 : Nat) (Option.some Jvm.ClassFile.FieldType.int)) ∈ lw_all := lw_g (lw_at lw_m3 201 rfl) rfl
theorem q798 : (Jvm.Cond.methodLink "HighSpots" (20 : Nat) ({ cls := "HighSpots", name := "sideOf", desc := "(I)I" } : Jvm.MethodName)) ∈ lw_all := lw_g (lw_at lw_m3 202 rfl) rfl
theorem q799 : (Jvm.Cond.static ({ cls := "HighSpots", name := "sideOf", desc := "(I)I" } : Jvm.MethodName)) ∈ lw_all := lw_g (lw_at lw_m3 203 rfl) rfl
theorem q800 : (Jvm.Cond.code ({ cls := "HighSpots", name := "sideOf", desc := "(I)I" } : Jvm.MethodName) prog_1_method_7_code (1 : Nat) (Option.some Jvm.ClassFile.FieldType.int)) ∈ lw_all := lw_g (lw_at lw_m3 204 rfl) rfl
theorem q801 : (Jvm.Cond.methodLink "HighSpots" (24 : Nat) ({ cls := "HighSpots", name := "aheadOf", desc := "(I)I" } : Jvm.MethodName)) ∈ lw_all := lw_g (lw_at lw_m3 205 rfl) rfl
theorem q802 : (Jvm.Cond.static ({ cls := "HighSpots", name := "aheadOf", desc := "(I)I" } : Jvm.MethodName)) ∈ lw_all := lw_g (lw_at lw_m3 206 rfl) rfl
theorem q803 : (Jvm.Cond.code ({ cls := "HighSpots", name := "aheadOf", desc := "(I)I" } : Jvm.MethodName) prog_1_method_8_code (1 : Nat) (Option.some Jvm.ClassFile.FieldType.int)) ∈ lw_all := lw_g (lw_at lw_m3 207 rfl) rfl
theorem q804 : (Jvm.Cond.methodLink "HighSpots" (30 : Nat) ({ cls := "HighSpots", name := "isGlide", desc := "(II)Z" } : Jvm.MethodName)) ∈ lw_all := lw_g (lw_at lw_m3 208 rfl) rfl
theorem q805 : (Jvm.Cond.static ({ cls := "HighSpots", name := "isGlide", desc := "(II)Z" } : Jvm.MethodName)) ∈ lw_all := lw_g (lw_at lw_m3 209 rfl) rfl
theorem q806 : (Jvm.Cond.code ({ cls := "HighSpots", name := "isGlide", desc := "(II)Z" } : Jvm.MethodName) prog_1_method_5_code (2 : Nat) (Option.some Jvm.ClassFile.FieldType.boolean)) ∈ lw_all := lw_g (lw_at lw_m3 210 rfl) rfl
theorem q807 : (Jvm.Cond.methodLink "HighSpots" (33 : Nat) ({ cls := "HighSpots", name := "glideAt", desc := "(II)I" } : Jvm.MethodName)) ∈ lw_all := lw_g (lw_at lw_m3 211 rfl) rfl
theorem q808 : (Jvm.Cond.static ({ cls := "HighSpots", name := "glideAt", desc := "(II)I" } : Jvm.MethodName)) ∈ lw_all := lw_g (lw_at lw_m3 212 rfl) rfl
theorem q809 : (Jvm.Cond.code ({ cls := "HighSpots", name := "glideAt", desc := "(II)I" } : Jvm.MethodName) prog_1_method_6_code (2 : Nat) (Option.some Jvm.ClassFile.FieldType.int)) ∈ lw_all := lw_g (lw_at lw_m3 213 rfl) rfl
theorem q811 : (Jvm.Cond.instanceMethod ({ cls := "HighSpots", name := "glide", desc := "(IIII)I" } : Jvm.MethodName)) ∈ lw_all := lw_g (lw_at lw_m3 215 rfl) rfl
theorem q812 : (Jvm.Cond.selects "HighSpots" ({ cls := "HighSpots", name := "glide", desc := "(IIII)I" } : Jvm.MethodName) ({ cls := "HighSpots", name := "glide", desc := "(IIII)I" } : Jvm.MethodName)) ∈ lw_all := lw_g (lw_at lw_m3 216 rfl) rfl
theorem q813 : (Jvm.Cond.code ({ cls := "HighSpots", name := "glide", desc := "(IIII)I" } : Jvm.MethodName) prog_1_method_24_code (7 : Nat) (Option.some Jvm.ClassFile.FieldType.int)) ∈ lw_all := lw_g (lw_at lw_m3 217 rfl) rfl
theorem q814 : (Jvm.Cond.methodLink "HighSpots" (180 : Nat) ({ cls := "HighSpots$Bench", name := "marks", desc := "(II)I" } : Jvm.MethodName)) ∈ lw_all := lw_g (lw_at lw_m3 218 rfl) rfl
theorem q823 : (Jvm.Cond.static ({ cls := "HighSpots", name := "facing", desc := "(II)I" } : Jvm.MethodName)) ∈ lw_all := lw_g (lw_at lw_m3 227 rfl) rfl
theorem q824 : (Jvm.Cond.code ({ cls := "HighSpots", name := "facing", desc := "(II)I" } : Jvm.MethodName) prog_1_method_9_code (2 : Nat) (Option.some Jvm.ClassFile.FieldType.int)) ∈ lw_all := lw_g (lw_at lw_m3 228 rfl) rfl
theorem q825 : (Jvm.Cond.methodLink "HighSpots" (27 : Nat) ({ cls := "HighSpots", name := "placeAt", desc := "(II)I" } : Jvm.MethodName)) ∈ lw_all := lw_g (lw_at lw_m3 229 rfl) rfl
theorem q826 : (Jvm.Cond.static ({ cls := "HighSpots", name := "placeAt", desc := "(II)I" } : Jvm.MethodName)) ∈ lw_all := lw_g (lw_at lw_m3 230 rfl) rfl
theorem q827 : (Jvm.Cond.code ({ cls := "HighSpots", name := "placeAt", desc := "(II)I" } : Jvm.MethodName) prog_1_method_4_code (2 : Nat) (Option.some Jvm.ClassFile.FieldType.int)) ∈ lw_all := lw_g (lw_at lw_m3 231 rfl) rfl
theorem q833 : (Jvm.Cond.methodLink "HighSpots" (177 : Nat) ({ cls := "HighSpots$Bench", name := "opening", desc := "(I)I" } : Jvm.MethodName)) ∈ lw_all := lw_g (lw_at lw_m3 237 rfl) rfl
theorem q834 : (Jvm.Cond.methodLink "HighSpots" (183 : Nat) ({ cls := "HighSpots", name := "firstMarked", desc := "()I" } : Jvm.MethodName)) ∈ lw_all := lw_g (lw_at lw_m3 238 rfl) rfl
theorem q835 : (Jvm.Cond.privateMethod ({ cls := "HighSpots", name := "firstMarked", desc := "()I" } : Jvm.MethodName)) ∈ lw_tbl := lw_at lw_m3 239 rfl
theorem q836 : (Jvm.Cond.instanceMethod ({ cls := "HighSpots", name := "firstMarked", desc := "()I" } : Jvm.MethodName)) ∈ lw_all := lw_g (lw_at lw_m4 0 rfl) rfl
theorem q837 : (Jvm.Cond.code ({ cls := "HighSpots", name := "firstMarked", desc := "()I" } : Jvm.MethodName) prog_1_method_21_code (2 : Nat) (Option.some Jvm.ClassFile.FieldType.int)) ∈ lw_all := lw_g (lw_at lw_m4 1 rfl) rfl
theorem q838 : (Jvm.Cond.methodLink "HighSpots" (186 : Nat) ({ cls := "HighSpots", name := "faced", desc := "(I)I" } : Jvm.MethodName)) ∈ lw_all := lw_g (lw_at lw_m4 2 rfl) rfl
theorem q839 : (Jvm.Cond.privateMethod ({ cls := "HighSpots", name := "faced", desc := "(I)I" } : Jvm.MethodName)) ∈ lw_tbl := lw_at lw_m4 3 rfl
theorem q840 : (Jvm.Cond.instanceMethod ({ cls := "HighSpots", name := "faced", desc := "(I)I" } : Jvm.MethodName)) ∈ lw_all := lw_g (lw_at lw_m4 4 rfl) rfl
theorem q841 : (Jvm.Cond.code ({ cls := "HighSpots", name := "faced", desc := "(I)I" } : Jvm.MethodName) prog_1_method_22_code (4 : Nat) (Option.some Jvm.ClassFile.FieldType.int)) ∈ lw_all := lw_g (lw_at lw_m4 5 rfl) rfl
theorem q842 : (Jvm.Cond.methodLink "HighSpots" (170 : Nat) ({ cls := "HighSpots", name := "facing", desc := "(II)I" } : Jvm.MethodName)) ∈ lw_all := lw_g (lw_at lw_m4 6 rfl) rfl
theorem q843 : (Jvm.Cond.methodLink "HighSpots" (189 : Nat) ({ cls := "HighSpots", name := "widest", desc := "(I)I" } : Jvm.MethodName)) ∈ lw_all := lw_g (lw_at lw_m4 7 rfl) rfl
theorem q844 : (Jvm.Cond.privateMethod ({ cls := "HighSpots", name := "widest", desc := "(I)I" } : Jvm.MethodName)) ∈ lw_tbl := lw_at lw_m4 8 rfl
theorem q845 : (Jvm.Cond.instanceMethod ({ cls := "HighSpots", name := "widest", desc := "(I)I" } : Jvm.MethodName)) ∈ lw_all := lw_g (lw_at lw_m4 9 rfl) rfl
theorem q846 : (Jvm.Cond.code ({ cls := "HighSpots", name := "widest", desc := "(I)I" } : Jvm.MethodName) prog_1_method_23_code (4 : Nat) (Option.some Jvm.ClassFile.FieldType.int)) ∈ lw_all := lw_g (lw_at lw_m4 10 rfl) rfl
theorem q847 : (Jvm.Cond.constant "HighSpots" (173 : Nat) (268435456 : Int32)) ∈ lw_all := lw_g (lw_at lw_m4 11 rfl) rfl
theorem q848 : (Jvm.Cond.methodLink "HighSpots" (174 : Nat) ({ cls := "HighSpots$Bench", name := "sumAt", desc := "(II)I" } : Jvm.MethodName)) ∈ lw_all := lw_g (lw_at lw_m4 12 rfl) rfl
theorem q849 : (Jvm.Cond.methodLink "HighSpots" (3 : Nat) ({ cls := "java/lang/Math", name := "min", desc := "(II)I" } : Jvm.MethodName)) ∈ lw_all := lw_g (lw_at lw_m4 13 rfl) rfl
theorem q851 : (Jvm.Cond.instanceMethod ({ cls := "HighSpots", name := "best", desc := "(I)I" } : Jvm.MethodName)) ∈ lw_all := lw_g (lw_at lw_m4 15 rfl) rfl
theorem q852 : (Jvm.Cond.selects "HighSpots" ({ cls := "HighSpots", name := "best", desc := "(I)I" } : Jvm.MethodName) ({ cls := "HighSpots", name := "best", desc := "(I)I" } : Jvm.MethodName)) ∈ lw_all := lw_g (lw_at lw_m4 16 rfl) rfl
theorem q853 : (Jvm.Cond.code ({ cls := "HighSpots", name := "best", desc := "(I)I" } : Jvm.MethodName) prog_1_method_25_code (5 : Nat) (Option.some Jvm.ClassFile.FieldType.int)) ∈ lw_all := lw_g (lw_at lw_m4 17 rfl) rfl
theorem q855 : (Jvm.Cond.instanceMethod ({ cls := "HighSpots", name := "evenest", desc := "(I)I" } : Jvm.MethodName)) ∈ lw_all := lw_g (lw_at lw_m4 19 rfl) rfl
theorem q856 : (Jvm.Cond.selects "HighSpots" ({ cls := "HighSpots", name := "evenest", desc := "(I)I" } : Jvm.MethodName) ({ cls := "HighSpots", name := "evenest", desc := "(I)I" } : Jvm.MethodName)) ∈ lw_all := lw_g (lw_at lw_m4 20 rfl) rfl
theorem q857 : (Jvm.Cond.code ({ cls := "HighSpots", name := "evenest", desc := "(I)I" } : Jvm.MethodName) prog_1_method_27_code (4 : Nat) (Option.some Jvm.ClassFile.FieldType.int)) ∈ lw_all := lw_g (lw_at lw_m4 21 rfl) rfl
theorem q858 : (Jvm.Cond.methodLink "HighSpots" (192 : Nat) ({ cls := "HighSpots", name := "gapsIn", desc := "(I)I" } : Jvm.MethodName)) ∈ lw_all := lw_g (lw_at lw_m4 22 rfl) rfl
theorem q859 : (Jvm.Cond.privateMethod ({ cls := "HighSpots", name := "gapsIn", desc := "(I)I" } : Jvm.MethodName)) ∈ lw_tbl := lw_at lw_m4 23 rfl
theorem q860 : (Jvm.Cond.instanceMethod ({ cls := "HighSpots", name := "gapsIn", desc := "(I)I" } : Jvm.MethodName)) ∈ lw_all := lw_g (lw_at lw_m4 24 rfl) rfl
theorem q861 : (Jvm.Cond.code ({ cls := "HighSpots", name := "gapsIn", desc := "(I)I" } : Jvm.MethodName) prog_1_method_26_code (5 : Nat) (Option.some Jvm.ClassFile.FieldType.int)) ∈ lw_all := lw_g (lw_at lw_m4 25 rfl) rfl
theorem q863 : (Jvm.Cond.instanceMethod ({ cls := "HighSpots", name := "free", desc := "(I)I" } : Jvm.MethodName)) ∈ lw_all := lw_g (lw_at lw_m4 27 rfl) rfl
theorem q864 : (Jvm.Cond.selects "HighSpots" ({ cls := "HighSpots", name := "free", desc := "(I)I" } : Jvm.MethodName) ({ cls := "HighSpots", name := "free", desc := "(I)I" } : Jvm.MethodName)) ∈ lw_all := lw_g (lw_at lw_m4 28 rfl) rfl
theorem q865 : (Jvm.Cond.code ({ cls := "HighSpots", name := "free", desc := "(I)I" } : Jvm.MethodName) prog_1_method_29_code (2 : Nat) (Option.some Jvm.ClassFile.FieldType.int)) ∈ lw_all := lw_g (lw_at lw_m4 29 rfl) rfl
theorem q866 : (Jvm.Cond.methodLink "HighSpots" (195 : Nat) ({ cls := "HighSpots", name := "comes", desc := "(I)I" } : Jvm.MethodName)) ∈ lw_all := lw_g (lw_at lw_m4 30 rfl) rfl
theorem q867 : (Jvm.Cond.privateMethod ({ cls := "HighSpots", name := "comes", desc := "(I)I" } : Jvm.MethodName)) ∈ lw_tbl := lw_at lw_m4 31 rfl
theorem q868 : (Jvm.Cond.instanceMethod ({ cls := "HighSpots", name := "comes", desc := "(I)I" } : Jvm.MethodName)) ∈ lw_all := lw_g (lw_at lw_m4 32 rfl) rfl
theorem q869 : (Jvm.Cond.code ({ cls := "HighSpots", name := "comes", desc := "(I)I" } : Jvm.MethodName) prog_1_method_28_code (6 : Nat) (Option.some Jvm.ClassFile.FieldType.int)) ∈ lw_all := lw_g (lw_at lw_m4 33 rfl) rfl
theorem q871 : (Jvm.Cond.instanceMethod ({ cls := "HighSpots", name := "wayTo", desc := "(IIII)I" } : Jvm.MethodName)) ∈ lw_all := lw_g (lw_at lw_m4 35 rfl) rfl
theorem q872 : (Jvm.Cond.selects "HighSpots" ({ cls := "HighSpots", name := "wayTo", desc := "(IIII)I" } : Jvm.MethodName) ({ cls := "HighSpots", name := "wayTo", desc := "(IIII)I" } : Jvm.MethodName)) ∈ lw_all := lw_g (lw_at lw_m4 36 rfl) rfl
theorem q873 : (Jvm.Cond.code ({ cls := "HighSpots", name := "wayTo", desc := "(IIII)I" } : Jvm.MethodName) prog_1_method_31_code (5 : Nat) (Option.some Jvm.ClassFile.FieldType.int)) ∈ lw_all := lw_g (lw_at lw_m4 37 rfl) rfl
theorem q874 : (Jvm.Cond.methodLink "HighSpots" (198 : Nat) ({ cls := "HighSpots", name := "laysHighest", desc := "()V" } : Jvm.MethodName)) ∈ lw_all := lw_g (lw_at lw_m4 38 rfl) rfl
theorem q875 : (Jvm.Cond.privateMethod ({ cls := "HighSpots", name := "laysHighest", desc := "()V" } : Jvm.MethodName)) ∈ lw_tbl := lw_at lw_m4 39 rfl
theorem q876 : (Jvm.Cond.instanceMethod ({ cls := "HighSpots", name := "laysHighest", desc := "()V" } : Jvm.MethodName)) ∈ lw_all := lw_g (lw_at lw_m4 40 rfl) rfl
theorem q877 : (Jvm.Cond.code ({ cls := "HighSpots", name := "laysHighest", desc := "()V" } : Jvm.MethodName) prog_1_method_30_code (5 : Nat) (Option.none : Option Jvm.ClassFile.FieldType)) ∈ lw_all := lw_g (lw_at lw_m4 41 rfl) rfl
theorem q878 : (Jvm.Cond.methodLink "HighSpots" (9 : Nat) ({ cls := "java/lang/Math", name := "max", desc := "(II)I" } : Jvm.MethodName)) ∈ lw_all := lw_g (lw_at lw_m4 42 rfl) rfl
theorem q880 : (Jvm.Cond.instanceMethod ({ cls := "HighSpots", name := "toBear", desc := "(I)I" } : Jvm.MethodName)) ∈ lw_all := lw_g (lw_at lw_m4 44 rfl) rfl
theorem q881 : (Jvm.Cond.selects "HighSpots" ({ cls := "HighSpots", name := "toBear", desc := "(I)I" } : Jvm.MethodName) ({ cls := "HighSpots", name := "toBear", desc := "(I)I" } : Jvm.MethodName)) ∈ lw_all := lw_g (lw_at lw_m4 45 rfl) rfl
theorem q882 : (Jvm.Cond.code ({ cls := "HighSpots", name := "toBear", desc := "(I)I" } : Jvm.MethodName) prog_1_method_33_code (4 : Nat) (Option.some Jvm.ClassFile.FieldType.int)) ∈ lw_all := lw_g (lw_at lw_m4 46 rfl) rfl
theorem q883 : (Jvm.Cond.methodLink "HighSpots" (201 : Nat) ({ cls := "HighSpots", name := "fed", desc := "(I)I" } : Jvm.MethodName)) ∈ lw_all := lw_g (lw_at lw_m4 47 rfl) rfl
theorem q884 : (Jvm.Cond.privateMethod ({ cls := "HighSpots", name := "fed", desc := "(I)I" } : Jvm.MethodName)) ∈ lw_tbl := lw_at lw_m4 48 rfl
theorem q885 : (Jvm.Cond.instanceMethod ({ cls := "HighSpots", name := "fed", desc := "(I)I" } : Jvm.MethodName)) ∈ lw_all := lw_g (lw_at lw_m4 49 rfl) rfl
theorem q886 : (Jvm.Cond.code ({ cls := "HighSpots", name := "fed", desc := "(I)I" } : Jvm.MethodName) prog_1_method_32_code (2 : Nat) (Option.some Jvm.ClassFile.FieldType.int)) ∈ lw_all := lw_g (lw_at lw_m4 50 rfl) rfl
theorem q887 : (Jvm.Cond.methodLink "HighSpots" (204 : Nat) ({ cls := "HighSpots", name := "strokesTo", desc := "(I)I" } : Jvm.MethodName)) ∈ lw_all := lw_g (lw_at lw_m4 51 rfl) rfl
theorem q888 : (Jvm.Cond.privateMethod ({ cls := "HighSpots", name := "strokesTo", desc := "(I)I" } : Jvm.MethodName)) ∈ lw_tbl := lw_at lw_m4 52 rfl
theorem q889 : (Jvm.Cond.instanceMethod ({ cls := "HighSpots", name := "strokesTo", desc := "(I)I" } : Jvm.MethodName)) ∈ lw_all := lw_g (lw_at lw_m4 53 rfl) rfl
theorem q890 : (Jvm.Cond.code ({ cls := "HighSpots", name := "strokesTo", desc := "(I)I" } : Jvm.MethodName) prog_1_method_34_code (5 : Nat) (Option.some Jvm.ClassFile.FieldType.int)) ∈ lw_all := lw_g (lw_at lw_m4 54 rfl) rfl
theorem q892 : (Jvm.Cond.instanceMethod ({ cls := "HighSpots", name := "toLower", desc := "(I)I" } : Jvm.MethodName)) ∈ lw_all := lw_g (lw_at lw_m4 56 rfl) rfl
theorem q893 : (Jvm.Cond.selects "HighSpots" ({ cls := "HighSpots", name := "toLower", desc := "(I)I" } : Jvm.MethodName) ({ cls := "HighSpots", name := "toLower", desc := "(I)I" } : Jvm.MethodName)) ∈ lw_all := lw_g (lw_at lw_m4 57 rfl) rfl
theorem q894 : (Jvm.Cond.code ({ cls := "HighSpots", name := "toLower", desc := "(I)I" } : Jvm.MethodName) prog_1_method_35_code (2 : Nat) (Option.some Jvm.ClassFile.FieldType.int)) ∈ lw_all := lw_g (lw_at lw_m4 58 rfl) rfl
theorem q896 : (Jvm.Cond.instanceMethod ({ cls := "HighSpots", name := "anywhere", desc := "(I)I" } : Jvm.MethodName)) ∈ lw_all := lw_g (lw_at lw_m4 60 rfl) rfl
theorem q897 : (Jvm.Cond.selects "HighSpots" ({ cls := "HighSpots", name := "anywhere", desc := "(I)I" } : Jvm.MethodName) ({ cls := "HighSpots", name := "anywhere", desc := "(I)I" } : Jvm.MethodName)) ∈ lw_all := lw_g (lw_at lw_m4 61 rfl) rfl
theorem q898 : (Jvm.Cond.code ({ cls := "HighSpots", name := "anywhere", desc := "(I)I" } : Jvm.MethodName) prog_1_method_37_code (4 : Nat) (Option.some Jvm.ClassFile.FieldType.int)) ∈ lw_all := lw_g (lw_at lw_m4 62 rfl) rfl
theorem q899 : (Jvm.Cond.methodLink "HighSpots" (207 : Nat) ({ cls := "HighSpots", name := "overOf", desc := "(II)I" } : Jvm.MethodName)) ∈ lw_all := lw_g (lw_at lw_m4 63 rfl) rfl
theorem q900 : (Jvm.Cond.privateMethod ({ cls := "HighSpots", name := "overOf", desc := "(II)I" } : Jvm.MethodName)) ∈ lw_tbl := lw_at lw_m4 64 rfl
theorem q901 : (Jvm.Cond.instanceMethod ({ cls := "HighSpots", name := "overOf", desc := "(II)I" } : Jvm.MethodName)) ∈ lw_all := lw_g (lw_at lw_m4 65 rfl) rfl
theorem q902 : (Jvm.Cond.code ({ cls := "HighSpots", name := "overOf", desc := "(II)I" } : Jvm.MethodName) prog_1_method_36_code (8 : Nat) (Option.some Jvm.ClassFile.FieldType.int)) ∈ lw_all := lw_g (lw_at lw_m4 66 rfl) rfl
theorem q904 : (Jvm.Cond.instanceMethod ({ cls := "HighSpots", name := "grind", desc := "(I)I" } : Jvm.MethodName)) ∈ lw_all := lw_g (lw_at lw_m4 68 rfl) rfl
theorem q905 : (Jvm.Cond.selects "HighSpots" ({ cls := "HighSpots", name := "grind", desc := "(I)I" } : Jvm.MethodName) ({ cls := "HighSpots", name := "grind", desc := "(I)I" } : Jvm.MethodName)) ∈ lw_all := lw_g (lw_at lw_m4 69 rfl) rfl
theorem q906 : (Jvm.Cond.code ({ cls := "HighSpots", name := "grind", desc := "(I)I" } : Jvm.MethodName) prog_1_method_38_code (4 : Nat) (Option.some Jvm.ClassFile.FieldType.int)) ∈ lw_all := lw_g (lw_at lw_m4 70 rfl) rfl
theorem q907 : (Jvm.Cond.methodLink "HighSpots" (210 : Nat) ({ cls := "HighSpots$Bench", name := "wears", desc := "(III)V" } : Jvm.MethodName)) ∈ lw_all := lw_g (lw_at lw_m4 71 rfl) rfl
theorem q913 : (Jvm.Cond.instanceMethod ({ cls := "HighSpots", name := "rocks", desc := "()I" } : Jvm.MethodName)) ∈ lw_all := lw_g (lw_at lw_m4 77 rfl) rfl
theorem q914 : (Jvm.Cond.selects "HighSpots" ({ cls := "HighSpots", name := "rocks", desc := "()I" } : Jvm.MethodName) ({ cls := "HighSpots", name := "rocks", desc := "()I" } : Jvm.MethodName)) ∈ lw_all := lw_g (lw_at lw_m4 78 rfl) rfl
theorem q915 : (Jvm.Cond.code ({ cls := "HighSpots", name := "rocks", desc := "()I" } : Jvm.MethodName) prog_1_method_40_code (2 : Nat) (Option.some Jvm.ClassFile.FieldType.int)) ∈ lw_all := lw_g (lw_at lw_m4 79 rfl) rfl
theorem q916 : (Jvm.Cond.methodLink "HighSpots" (214 : Nat) ({ cls := "HighSpots", name := "isOneSided", desc := "(I)Z" } : Jvm.MethodName)) ∈ lw_all := lw_g (lw_at lw_m4 80 rfl) rfl
theorem q917 : (Jvm.Cond.privateMethod ({ cls := "HighSpots", name := "isOneSided", desc := "(I)Z" } : Jvm.MethodName)) ∈ lw_tbl := lw_at lw_m4 81 rfl
theorem q918 : (Jvm.Cond.instanceMethod ({ cls := "HighSpots", name := "isOneSided", desc := "(I)Z" } : Jvm.MethodName)) ∈ lw_all := lw_g (lw_at lw_m4 82 rfl) rfl
theorem q919 : (Jvm.Cond.code ({ cls := "HighSpots", name := "isOneSided", desc := "(I)Z" } : Jvm.MethodName) prog_1_method_39_code (8 : Nat) (Option.some Jvm.ClassFile.FieldType.boolean)) ∈ lw_all := lw_g (lw_at lw_m4 83 rfl) rfl
theorem q921 : (Jvm.Cond.instanceMethod ({ cls := "HighSpots", name := "spots", desc := "(IIII)I" } : Jvm.MethodName)) ∈ lw_all := lw_g (lw_at lw_m4 85 rfl) rfl
theorem q922 : (Jvm.Cond.selects "HighSpots" ({ cls := "HighSpots", name := "spots", desc := "(IIII)I" } : Jvm.MethodName) ({ cls := "HighSpots", name := "spots", desc := "(IIII)I" } : Jvm.MethodName)) ∈ lw_all := lw_g (lw_at lw_m4 86 rfl) rfl
theorem q923 : (Jvm.Cond.code ({ cls := "HighSpots", name := "spots", desc := "(IIII)I" } : Jvm.MethodName) prog_1_method_43_code (5 : Nat) (Option.some Jvm.ClassFile.FieldType.int)) ∈ lw_all := lw_g (lw_at lw_m4 87 rfl) rfl
theorem q924 : (Jvm.Cond.methodLink "HighSpots" (223 : Nat) ({ cls := "HighSpots", name := "groups", desc := "(I)I" } : Jvm.MethodName)) ∈ lw_all := lw_g (lw_at lw_m4 88 rfl) rfl
theorem q925 : (Jvm.Cond.privateMethod ({ cls := "HighSpots", name := "groups", desc := "(I)I" } : Jvm.MethodName)) ∈ lw_tbl := lw_at lw_m4 89 rfl
theorem q926 : (Jvm.Cond.instanceMethod ({ cls := "HighSpots", name := "groups", desc := "(I)I" } : Jvm.MethodName)) ∈ lw_all := lw_g (lw_at lw_m4 90 rfl) rfl
theorem q927 : (Jvm.Cond.code ({ cls := "HighSpots", name := "groups", desc := "(I)I" } : Jvm.MethodName) prog_1_method_42_code (5 : Nat) (Option.some Jvm.ClassFile.FieldType.int)) ∈ lw_all := lw_g (lw_at lw_m4 91 rfl) rfl
theorem q928 : (Jvm.Cond.methodLink "HighSpots" (220 : Nat) ({ cls := "HighSpots", name := "takesSpot", desc := "(I)I" } : Jvm.MethodName)) ∈ lw_all := lw_g (lw_at lw_m4 92 rfl) rfl
theorem q929 : (Jvm.Cond.privateMethod ({ cls := "HighSpots", name := "takesSpot", desc := "(I)I" } : Jvm.MethodName)) ∈ lw_tbl := lw_at lw_m4 93 rfl
theorem q930 : (Jvm.Cond.instanceMethod ({ cls := "HighSpots", name := "takesSpot", desc := "(I)I" } : Jvm.MethodName)) ∈ lw_all := lw_g (lw_at lw_m4 94 rfl) rfl
theorem q931 : (Jvm.Cond.code ({ cls := "HighSpots", name := "takesSpot", desc := "(I)I" } : Jvm.MethodName) prog_1_method_41_code (6 : Nat) (Option.some Jvm.ClassFile.FieldType.int)) ∈ lw_all := lw_g (lw_at lw_m4 95 rfl) rfl
theorem q932 : (Jvm.Cond.methodLink "HighSpots" (217 : Nat) ({ cls := "HighSpots", name := "beside", desc := "(II)I" } : Jvm.MethodName)) ∈ lw_all := lw_g (lw_at lw_m4 96 rfl) rfl
theorem q933 : (Jvm.Cond.static ({ cls := "HighSpots", name := "beside", desc := "(II)I" } : Jvm.MethodName)) ∈ lw_all := lw_g (lw_at lw_m4 97 rfl) rfl
theorem q934 : (Jvm.Cond.code ({ cls := "HighSpots", name := "beside", desc := "(II)I" } : Jvm.MethodName) prog_1_method_57_code (2 : Nat) (Option.some Jvm.ClassFile.FieldType.int)) ∈ lw_all := lw_g (lw_at lw_m4 98 rfl) rfl
theorem q936 : (Jvm.Cond.instanceMethod ({ cls := "HighSpots", name := "figure", desc := "()I" } : Jvm.MethodName)) ∈ lw_all := lw_g (lw_at lw_m4 100 rfl) rfl
theorem q937 : (Jvm.Cond.selects "HighSpots" ({ cls := "HighSpots", name := "figure", desc := "()I" } : Jvm.MethodName) ({ cls := "HighSpots", name := "figure", desc := "()I" } : Jvm.MethodName)) ∈ lw_all := lw_g (lw_at lw_m4 101 rfl) rfl
theorem q938 : (Jvm.Cond.code ({ cls := "HighSpots", name := "figure", desc := "()I" } : Jvm.MethodName) prog_1_method_47_code (6 : Nat) (Option.some Jvm.ClassFile.FieldType.int)) ∈ lw_all := lw_g (lw_at lw_m4 102 rfl) rfl
theorem q939 : (Jvm.Cond.methodLink "HighSpots" (233 : Nat) ({ cls := "HighSpots", name := "nextCorner", desc := "(I)I" } : Jvm.MethodName)) ∈ lw_all := lw_g (lw_at lw_m4 103 rfl) rfl
theorem q940 : (Jvm.Cond.privateMethod ({ cls := "HighSpots", name := "nextCorner", desc := "(I)I" } : Jvm.MethodName)) ∈ lw_tbl := lw_at lw_m4 104 rfl
theorem q941 : (Jvm.Cond.instanceMethod ({ cls := "HighSpots", name := "nextCorner", desc := "(I)I" } : Jvm.MethodName)) ∈ lw_all := lw_g (lw_at lw_m4 105 rfl) rfl
theorem q942 : (Jvm.Cond.code ({ cls := "HighSpots", name := "nextCorner", desc := "(I)I" } : Jvm.MethodName) prog_1_method_45_code (5 : Nat) (Option.some Jvm.ClassFile.FieldType.int)) ∈ lw_all := lw_g (lw_at lw_m4 106 rfl) rfl
theorem q943 : (Jvm.Cond.methodLink "HighSpots" (226 : Nat) ({ cls := "HighSpots", name := "turn", desc := "(III)I" } : Jvm.MethodName)) ∈ lw_all := lw_g (lw_at lw_m4 107 rfl) rfl
theorem q944 : (Jvm.Cond.static ({ cls := "HighSpots", name := "turn", desc := "(III)I" } : Jvm.MethodName)) ∈ lw_all := lw_g (lw_at lw_m4 108 rfl) rfl
theorem q945 : (Jvm.Cond.code ({ cls := "HighSpots", name := "turn", desc := "(III)I" } : Jvm.MethodName) prog_1_method_44_code (3 : Nat) (Option.some Jvm.ClassFile.FieldType.int)) ∈ lw_all := lw_g (lw_at lw_m4 109 rfl) rfl
theorem q946 : (Jvm.Cond.methodLink "HighSpots" (230 : Nat) ({ cls := "HighSpots", name := "farOff", desc := "(II)I" } : Jvm.MethodName)) ∈ lw_all := lw_g (lw_at lw_m4 110 rfl) rfl
theorem q947 : (Jvm.Cond.static ({ cls := "HighSpots", name := "farOff", desc := "(II)I" } : Jvm.MethodName)) ∈ lw_all := lw_g (lw_at lw_m4 111 rfl) rfl
theorem q948 : (Jvm.Cond.code ({ cls := "HighSpots", name := "farOff", desc := "(II)I" } : Jvm.MethodName) prog_1_method_46_code (2 : Nat) (Option.some Jvm.ClassFile.FieldType.int)) ∈ lw_all := lw_g (lw_at lw_m4 112 rfl) rfl
theorem q949 : (Jvm.Cond.methodLink "HighSpots" (236 : Nat) ({ cls := "java/lang/Math", name := "abs", desc := "(I)I" } : Jvm.MethodName)) ∈ lw_all := lw_g (lw_at lw_m4 113 rfl) rfl
theorem q953 : (Jvm.Cond.instanceMethod ({ cls := "HighSpots", name := "tripods", desc := "()I" } : Jvm.MethodName)) ∈ lw_all := lw_g (lw_at lw_m4 117 rfl) rfl
theorem q954 : (Jvm.Cond.selects "HighSpots" ({ cls := "HighSpots", name := "tripods", desc := "()I" } : Jvm.MethodName) ({ cls := "HighSpots", name := "tripods", desc := "()I" } : Jvm.MethodName)) ∈ lw_all := lw_g (lw_at lw_m4 118 rfl) rfl
theorem q955 : (Jvm.Cond.code ({ cls := "HighSpots", name := "tripods", desc := "()I" } : Jvm.MethodName) prog_1_method_50_code (5 : Nat) (Option.some Jvm.ClassFile.FieldType.int)) ∈ lw_all := lw_g (lw_at lw_m4 119 rfl) rfl
theorem q956 : (Jvm.Cond.methodLink "HighSpots" (242 : Nat) ({ cls := "HighSpots", name := "isTripod", desc := "(III)Z" } : Jvm.MethodName)) ∈ lw_all := lw_g (lw_at lw_m4 120 rfl) rfl
theorem q957 : (Jvm.Cond.static ({ cls := "HighSpots", name := "isTripod", desc := "(III)Z" } : Jvm.MethodName)) ∈ lw_all := lw_g (lw_at lw_m4 121 rfl) rfl
theorem q958 : (Jvm.Cond.code ({ cls := "HighSpots", name := "isTripod", desc := "(III)Z" } : Jvm.MethodName) prog_1_method_49_code (6 : Nat) (Option.some Jvm.ClassFile.FieldType.boolean)) ∈ lw_all := lw_g (lw_at lw_m4 122 rfl) rfl
theorem q959 : (Jvm.Cond.methodLink "HighSpots" (239 : Nat) ({ cls := "HighSpots", name := "aboutMiddle", desc := "(II)I" } : Jvm.MethodName)) ∈ lw_all := lw_g (lw_at lw_m4 123 rfl) rfl
theorem q960 : (Jvm.Cond.static ({ cls := "HighSpots", name := "aboutMiddle", desc := "(II)I" } : Jvm.MethodName)) ∈ lw_all := lw_g (lw_at lw_m4 124 rfl) rfl
theorem q961 : (Jvm.Cond.code ({ cls := "HighSpots", name := "aboutMiddle", desc := "(II)I" } : Jvm.MethodName) prog_1_method_48_code (2 : Nat) (Option.some Jvm.ClassFile.FieldType.int)) ∈ lw_all := lw_g (lw_at lw_m4 125 rfl) rfl
theorem q963 : (Jvm.Cond.instanceMethod ({ cls := "HighSpots", name := "lean", desc := "(I)I" } : Jvm.MethodName)) ∈ lw_all := lw_g (lw_at lw_m4 127 rfl) rfl
theorem q964 : (Jvm.Cond.selects "HighSpots" ({ cls := "HighSpots", name := "lean", desc := "(I)I" } : Jvm.MethodName) ({ cls := "HighSpots", name := "lean", desc := "(I)I" } : Jvm.MethodName)) ∈ lw_all := lw_g (lw_at lw_m4 128 rfl) rfl
theorem q965 : (Jvm.Cond.code ({ cls := "HighSpots", name := "lean", desc := "(I)I" } : Jvm.MethodName) prog_1_method_54_code (4 : Nat) (Option.some Jvm.ClassFile.FieldType.int)) ∈ lw_all := lw_g (lw_at lw_m4 129 rfl) rfl
theorem q966 : (Jvm.Cond.methodLink "HighSpots" (251 : Nat) ({ cls := "HighSpots", name := "touchingBy", desc := "(I)I" } : Jvm.MethodName)) ∈ lw_all := lw_g (lw_at lw_m4 130 rfl) rfl
theorem q967 : (Jvm.Cond.privateMethod ({ cls := "HighSpots", name := "touchingBy", desc := "(I)I" } : Jvm.MethodName)) ∈ lw_tbl := lw_at lw_m4 131 rfl
theorem q968 : (Jvm.Cond.instanceMethod ({ cls := "HighSpots", name := "touchingBy", desc := "(I)I" } : Jvm.MethodName)) ∈ lw_all := lw_g (lw_at lw_m4 132 rfl) rfl
theorem q969 : (Jvm.Cond.code ({ cls := "HighSpots", name := "touchingBy", desc := "(I)I" } : Jvm.MethodName) prog_1_method_53_code (3 : Nat) (Option.some Jvm.ClassFile.FieldType.int)) ∈ lw_all := lw_g (lw_at lw_m4 133 rfl) rfl
theorem q970 : (Jvm.Cond.methodLink "HighSpots" (248 : Nat) ({ cls := "HighSpots", name := "touching", desc := "()I" } : Jvm.MethodName)) ∈ lw_all := lw_g (lw_at lw_m4 134 rfl) rfl
theorem q971 : (Jvm.Cond.privateMethod ({ cls := "HighSpots", name := "touching", desc := "()I" } : Jvm.MethodName)) ∈ lw_tbl := lw_at lw_m4 135 rfl
theorem q972 : (Jvm.Cond.instanceMethod ({ cls := "HighSpots", name := "touching", desc := "()I" } : Jvm.MethodName)) ∈ lw_all := lw_g (lw_at lw_m4 136 rfl) rfl
theorem q973 : (Jvm.Cond.code ({ cls := "HighSpots", name := "touching", desc := "()I" } : Jvm.MethodName) prog_1_method_52_code (7 : Nat) (Option.some Jvm.ClassFile.FieldType.int)) ∈ lw_all := lw_g (lw_at lw_m4 137 rfl) rfl
theorem q974 : (Jvm.Cond.methodLink "HighSpots" (245 : Nat) ({ cls := "HighSpots", name := "greatestSum", desc := "()I" } : Jvm.MethodName)) ∈ lw_all := lw_g (lw_at lw_m4 138 rfl) rfl
theorem q975 : (Jvm.Cond.privateMethod ({ cls := "HighSpots", name := "greatestSum", desc := "()I" } : Jvm.MethodName)) ∈ lw_tbl := lw_at lw_m4 139 rfl
theorem q976 : (Jvm.Cond.instanceMethod ({ cls := "HighSpots", name := "greatestSum", desc := "()I" } : Jvm.MethodName)) ∈ lw_all := lw_g (lw_at lw_m4 140 rfl) rfl
theorem q977 : (Jvm.Cond.code ({ cls := "HighSpots", name := "greatestSum", desc := "()I" } : Jvm.MethodName) prog_1_method_51_code (6 : Nat) (Option.some Jvm.ClassFile.FieldType.int)) ∈ lw_all := lw_g (lw_at lw_m4 141 rfl) rfl
theorem q979 : (Jvm.Cond.instanceMethod ({ cls := "HighSpots", name := "splint", desc := "(II)I" } : Jvm.MethodName)) ∈ lw_all := lw_g (lw_at lw_m4 143 rfl) rfl
theorem q980 : (Jvm.Cond.selects "HighSpots" ({ cls := "HighSpots", name := "splint", desc := "(II)I" } : Jvm.MethodName) ({ cls := "HighSpots", name := "splint", desc := "(II)I" } : Jvm.MethodName)) ∈ lw_all := lw_g (lw_at lw_m4 144 rfl) rfl
theorem q981 : (Jvm.Cond.code ({ cls := "HighSpots", name := "splint", desc := "(II)I" } : Jvm.MethodName) prog_1_method_55_code (6 : Nat) (Option.some Jvm.ClassFile.FieldType.int)) ∈ lw_all := lw_g (lw_at lw_m4 145 rfl) rfl
theorem q983 : (Jvm.Cond.instanceMethod ({ cls := "HighSpots", name := "turnedOver", desc := "(I)I" } : Jvm.MethodName)) ∈ lw_all := lw_g (lw_at lw_m4 147 rfl) rfl
theorem q984 : (Jvm.Cond.selects "HighSpots" ({ cls := "HighSpots", name := "turnedOver", desc := "(I)I" } : Jvm.MethodName) ({ cls := "HighSpots", name := "turnedOver", desc := "(I)I" } : Jvm.MethodName)) ∈ lw_all := lw_g (lw_at lw_m4 148 rfl) rfl
theorem q985 : (Jvm.Cond.code ({ cls := "HighSpots", name := "turnedOver", desc := "(I)I" } : Jvm.MethodName) prog_1_method_56_code (3 : Nat) (Option.some Jvm.ClassFile.FieldType.int)) ∈ lw_all := lw_g (lw_at lw_m4 149 rfl) rfl
theorem q987 : (Jvm.Cond.instanceMethod ({ cls := "HighSpots", name := "castIs", desc := "(II)I" } : Jvm.MethodName)) ∈ lw_all := lw_g (lw_at lw_m4 151 rfl) rfl
theorem q988 : (Jvm.Cond.selects "HighSpots" ({ cls := "HighSpots", name := "castIs", desc := "(II)I" } : Jvm.MethodName) ({ cls := "HighSpots", name := "castIs", desc := "(II)I" } : Jvm.MethodName)) ∈ lw_all := lw_g (lw_at lw_m4 152 rfl) rfl
theorem q989 : (Jvm.Cond.code ({ cls := "HighSpots", name := "castIs", desc := "(II)I" } : Jvm.MethodName) prog_1_method_61_code (3 : Nat) (Option.some Jvm.ClassFile.FieldType.int)) ∈ lw_all := lw_g (lw_at lw_m4 153 rfl) rfl
theorem q990 : (Jvm.Cond.methodLink "HighSpots" (258 : Nat) ({ cls := "HighSpots", name := "extremes", desc := "(IZ)I" } : Jvm.MethodName)) ∈ lw_all := lw_g (lw_at lw_m4 154 rfl) rfl
theorem q991 : (Jvm.Cond.privateMethod ({ cls := "HighSpots", name := "extremes", desc := "(IZ)I" } : Jvm.MethodName)) ∈ lw_tbl := lw_at lw_m4 155 rfl
theorem q992 : (Jvm.Cond.instanceMethod ({ cls := "HighSpots", name := "extremes", desc := "(IZ)I" } : Jvm.MethodName)) ∈ lw_all := lw_g (lw_at lw_m4 156 rfl) rfl
theorem q993 : (Jvm.Cond.code ({ cls := "HighSpots", name := "extremes", desc := "(IZ)I" } : Jvm.MethodName) prog_1_method_59_code (5 : Nat) (Option.some Jvm.ClassFile.FieldType.int)) ∈ lw_all := lw_g (lw_at lw_m4 157 rfl) rfl
theorem q994 : (Jvm.Cond.methodLink "HighSpots" (254 : Nat) ({ cls := "HighSpots", name := "isAbove", desc := "(IIZ)Z" } : Jvm.MethodName)) ∈ lw_all := lw_g (lw_at lw_m4 158 rfl) rfl
theorem q995 : (Jvm.Cond.privateMethod ({ cls := "HighSpots", name := "isAbove", desc := "(IIZ)Z" } : Jvm.MethodName)) ∈ lw_tbl := lw_at lw_m4 159 rfl
theorem q996 : (Jvm.Cond.instanceMethod ({ cls := "HighSpots", name := "isAbove", desc := "(IIZ)Z" } : Jvm.MethodName)) ∈ lw_all := lw_g (lw_at lw_m4 160 rfl) rfl
theorem q997 : (Jvm.Cond.code ({ cls := "HighSpots", name := "isAbove", desc := "(IIZ)Z" } : Jvm.MethodName) prog_1_method_58_code (7 : Nat) (Option.some Jvm.ClassFile.FieldType.boolean)) ∈ lw_all := lw_g (lw_at lw_m4 161 rfl) rfl
theorem q998 : (Jvm.Cond.methodLink "HighSpots" (262 : Nat) ({ cls := "HighSpots", name := "highestPlace", desc := "(I)I" } : Jvm.MethodName)) ∈ lw_all := lw_g (lw_at lw_m4 162 rfl) rfl
theorem q999 : (Jvm.Cond.privateMethod ({ cls := "HighSpots", name := "highestPlace", desc := "(I)I" } : Jvm.MethodName)) ∈ lw_tbl := lw_at lw_m4 163 rfl
theorem q1000 : (Jvm.Cond.instanceMethod ({ cls := "HighSpots", name := "highestPlace", desc := "(I)I" } : Jvm.MethodName)) ∈ lw_all := lw_g (lw_at lw_m4 164 rfl) rfl
theorem q1001 : (Jvm.Cond.code ({ cls := "HighSpots", name := "highestPlace", desc := "(I)I" } : Jvm.MethodName) prog_1_method_60_code (4 : Nat) (Option.some Jvm.ClassFile.FieldType.int)) ∈ lw_all := lw_g (lw_at lw_m4 165 rfl) rfl
theorem q1003 : (Jvm.Cond.instanceMethod ({ cls := "HighSpots", name := "climb", desc := "(II)I" } : Jvm.MethodName)) ∈ lw_all := lw_g (lw_at lw_m4 167 rfl) rfl
theorem q1004 : (Jvm.Cond.selects "HighSpots" ({ cls := "HighSpots", name := "climb", desc := "(II)I" } : Jvm.MethodName) ({ cls := "HighSpots", name := "climb", desc := "(II)I" } : Jvm.MethodName)) ∈ lw_all := lw_g (lw_at lw_m4 168 rfl) rfl
theorem q1005 : (Jvm.Cond.code ({ cls := "HighSpots", name := "climb", desc := "(II)I" } : Jvm.MethodName) prog_1_method_63_code (5 : Nat) (Option.some Jvm.ClassFile.FieldType.int)) ∈ lw_all := lw_g (lw_at lw_m4 169 rfl) rfl
theorem q1006 : (Jvm.Cond.methodLink "HighSpots" (265 : Nat) ({ cls := "HighSpots", name := "climbFrom", desc := "(II)I" } : Jvm.MethodName)) ∈ lw_all := lw_g (lw_at lw_m4 170 rfl) rfl
theorem q1007 : (Jvm.Cond.privateMethod ({ cls := "HighSpots", name := "climbFrom", desc := "(II)I" } : Jvm.MethodName)) ∈ lw_tbl := lw_at lw_m4 171 rfl
theorem q1008 : (Jvm.Cond.instanceMethod ({ cls := "HighSpots", name := "climbFrom", desc := "(II)I" } : Jvm.MethodName)) ∈ lw_all := lw_g (lw_at lw_m4 172 rfl) rfl
theorem q1009 : (Jvm.Cond.code ({ cls := "HighSpots", name := "climbFrom", desc := "(II)I" } : Jvm.MethodName) prog_1_method_62_code (6 : Nat) (Option.some Jvm.ClassFile.FieldType.int)) ∈ lw_all := lw_g (lw_at lw_m4 173 rfl) rfl
theorem q1011 : (Jvm.Cond.instanceMethod ({ cls := "HighSpots", name := "rolls", desc := "(II)I" } : Jvm.MethodName)) ∈ lw_all := lw_g (lw_at lw_m4 175 rfl) rfl
theorem q1012 : (Jvm.Cond.selects "HighSpots" ({ cls := "HighSpots", name := "rolls", desc := "(II)I" } : Jvm.MethodName) ({ cls := "HighSpots", name := "rolls", desc := "(II)I" } : Jvm.MethodName)) ∈ lw_all := lw_g (lw_at lw_m4 176 rfl) rfl
theorem q1013 : (Jvm.Cond.code ({ cls := "HighSpots", name := "rolls", desc := "(II)I" } : Jvm.MethodName) prog_1_method_65_code (4 : Nat) (Option.some Jvm.ClassFile.FieldType.int)) ∈ lw_all := lw_g (lw_at lw_m4 177 rfl) rfl
theorem q1014 : (Jvm.Cond.methodLink "HighSpots" (268 : Nat) ({ cls := "HighSpots", name := "lowestBeside", desc := "(II)I" } : Jvm.MethodName)) ∈ lw_all := lw_g (lw_at lw_m4 178 rfl) rfl
theorem q1015 : (Jvm.Cond.privateMethod ({ cls := "HighSpots", name := "lowestBeside", desc := "(II)I" } : Jvm.MethodName)) ∈ lw_tbl := lw_at lw_m4 179 rfl
theorem q1016 : (Jvm.Cond.instanceMethod ({ cls := "HighSpots", name := "lowestBeside", desc := "(II)I" } : Jvm.MethodName)) ∈ lw_all := lw_g (lw_at lw_m4 180 rfl) rfl
theorem q1017 : (Jvm.Cond.code ({ cls := "HighSpots", name := "lowestBeside", desc := "(II)I" } : Jvm.MethodName) prog_1_method_64_code (5 : Nat) (Option.some Jvm.ClassFile.FieldType.int)) ∈ lw_all := lw_g (lw_at lw_m4 181 rfl) rfl
theorem q1019 : (Jvm.Cond.instanceMethod ({ cls := "HighSpots", name := "pieces", desc := "(III)I" } : Jvm.MethodName)) ∈ lw_all := lw_g (lw_at lw_m4 183 rfl) rfl
theorem q1020 : (Jvm.Cond.selects "HighSpots" ({ cls := "HighSpots", name := "pieces", desc := "(III)I" } : Jvm.MethodName) ({ cls := "HighSpots", name := "pieces", desc := "(III)I" } : Jvm.MethodName)) ∈ lw_all := lw_g (lw_at lw_m4 184 rfl) rfl
theorem q1021 : (Jvm.Cond.code ({ cls := "HighSpots", name := "pieces", desc := "(III)I" } : Jvm.MethodName) prog_1_method_66_code (5 : Nat) (Option.some Jvm.ClassFile.FieldType.int)) ∈ lw_all := lw_g (lw_at lw_m4 185 rfl) rfl
theorem q1023 : (Jvm.Cond.instanceMethod ({ cls := "HighSpots", name := "heightOf", desc := "(II)I" } : Jvm.MethodName)) ∈ lw_all := lw_g (lw_at lw_m4 187 rfl) rfl
theorem q1024 : (Jvm.Cond.selects "HighSpots" ({ cls := "HighSpots", name := "heightOf", desc := "(II)I" } : Jvm.MethodName) ({ cls := "HighSpots", name := "heightOf", desc := "(II)I" } : Jvm.MethodName)) ∈ lw_all := lw_g (lw_at lw_m4 188 rfl) rfl
theorem q1025 : (Jvm.Cond.code ({ cls := "HighSpots", name := "heightOf", desc := "(II)I" } : Jvm.MethodName) prog_1_method_67_code (3 : Nat) (Option.some Jvm.ClassFile.FieldType.int)) ∈ lw_all := lw_g (lw_at lw_m4 189 rfl) rfl
theorem q1027 : (Jvm.Cond.instanceMethod ({ cls := "HighSpots", name := "pools", desc := "(II)I" } : Jvm.MethodName)) ∈ lw_all := lw_g (lw_at lw_m4 191 rfl) rfl
theorem q1028 : (Jvm.Cond.selects "HighSpots" ({ cls := "HighSpots", name := "pools", desc := "(II)I" } : Jvm.MethodName) ({ cls := "HighSpots", name := "pools", desc := "(II)I" } : Jvm.MethodName)) ∈ lw_all := lw_g (lw_at lw_m4 192 rfl) rfl
theorem q1029 : (Jvm.Cond.code ({ cls := "HighSpots", name := "pools", desc := "(II)I" } : Jvm.MethodName) prog_1_method_70_code (6 : Nat) (Option.some Jvm.ClassFile.FieldType.int)) ∈ lw_all := lw_g (lw_at lw_m4 193 rfl) rfl
theorem q1030 : (Jvm.Cond.methodLink "HighSpots" (274 : Nat) ({ cls := "HighSpots", name := "laysLevels", desc := "([I)V" } : Jvm.MethodName)) ∈ lw_all := lw_g (lw_at lw_m4 194 rfl) rfl
theorem q1031 : (Jvm.Cond.privateMethod ({ cls := "HighSpots", name := "laysLevels", desc := "([I)V" } : Jvm.MethodName)) ∈ lw_tbl := lw_at lw_m4 195 rfl
theorem q1032 : (Jvm.Cond.instanceMethod ({ cls := "HighSpots", name := "laysLevels", desc := "([I)V" } : Jvm.MethodName)) ∈ lw_all := lw_g (lw_at lw_m4 196 rfl) rfl
theorem q1033 : (Jvm.Cond.code ({ cls := "HighSpots", name := "laysLevels", desc := "([I)V" } : Jvm.MethodName) prog_1_method_69_code (6 : Nat) (Option.none : Option Jvm.ClassFile.FieldType)) ∈ lw_all := lw_g (lw_at lw_m4 197 rfl) rfl
theorem q1034 : (Jvm.Cond.methodLink "HighSpots" (271 : Nat) ({ cls := "HighSpots", name := "isRim", desc := "(I)Z" } : Jvm.MethodName)) ∈ lw_all := lw_g (lw_at lw_m4 198 rfl) rfl
theorem q1035 : (Jvm.Cond.static ({ cls := "HighSpots", name := "isRim", desc := "(I)Z" } : Jvm.MethodName)) ∈ lw_all := lw_g (lw_at lw_m4 199 rfl) rfl
theorem q1036 : (Jvm.Cond.code ({ cls := "HighSpots", name := "isRim", desc := "(I)Z" } : Jvm.MethodName) prog_1_method_68_code (1 : Nat) (Option.some Jvm.ClassFile.FieldType.boolean)) ∈ lw_all := lw_g (lw_at lw_m4 200 rfl) rfl
theorem q1038 : (Jvm.Cond.instanceMethod ({ cls := "HighSpots", name := "belongs", desc := "(III)I" } : Jvm.MethodName)) ∈ lw_all := lw_g (lw_at lw_m4 202 rfl) rfl
theorem q1039 : (Jvm.Cond.selects "HighSpots" ({ cls := "HighSpots", name := "belongs", desc := "(III)I" } : Jvm.MethodName) ({ cls := "HighSpots", name := "belongs", desc := "(III)I" } : Jvm.MethodName)) ∈ lw_all := lw_g (lw_at lw_m4 203 rfl) rfl
theorem q1040 : (Jvm.Cond.code ({ cls := "HighSpots", name := "belongs", desc := "(III)I" } : Jvm.MethodName) prog_1_method_72_code (8 : Nat) (Option.some Jvm.ClassFile.FieldType.int)) ∈ lw_all := lw_g (lw_at lw_m4 204 rfl) rfl
theorem q1041 : (Jvm.Cond.methodLink "HighSpots" (278 : Nat) ({ cls := "HighSpots", name := "gapsOf", desc := "(III)I" } : Jvm.MethodName)) ∈ lw_all := lw_g (lw_at lw_m4 205 rfl) rfl
theorem q1042 : (Jvm.Cond.privateMethod ({ cls := "HighSpots", name := "gapsOf", desc := "(III)I" } : Jvm.MethodName)) ∈ lw_tbl := lw_at lw_m4 206 rfl
theorem q1043 : (Jvm.Cond.instanceMethod ({ cls := "HighSpots", name := "gapsOf", desc := "(III)I" } : Jvm.MethodName)) ∈ lw_all := lw_g (lw_at lw_m4 207 rfl) rfl
theorem q1044 : (Jvm.Cond.code ({ cls := "HighSpots", name := "gapsOf", desc := "(III)I" } : Jvm.MethodName) prog_1_method_71_code (9 : Nat) (Option.some Jvm.ClassFile.FieldType.int)) ∈ lw_all := lw_g (lw_at lw_m4 208 rfl) rfl
theorem q1046 : (Jvm.Cond.instanceMethod ({ cls := "HighSpots", name := "along", desc := "(II)I" } : Jvm.MethodName)) ∈ lw_all := lw_g (lw_at lw_m4 210 rfl) rfl
theorem q1047 : (Jvm.Cond.selects "HighSpots" ({ cls := "HighSpots", name := "along", desc := "(II)I" } : Jvm.MethodName) ({ cls := "HighSpots", name := "along", desc := "(II)I" } : Jvm.MethodName)) ∈ lw_all := lw_g (lw_at lw_m4 211 rfl) rfl
theorem q1048 : (Jvm.Cond.code ({ cls := "HighSpots", name := "along", desc := "(II)I" } : Jvm.MethodName) prog_1_method_75_code (5 : Nat) (Option.some Jvm.ClassFile.FieldType.int)) ∈ lw_all := lw_g (lw_at lw_m4 212 rfl) rfl
theorem q1049 : (Jvm.Cond.methodLink "HighSpots" (281 : Nat) ({ cls := "HighSpots", name := "stopped", desc := "(I)I" } : Jvm.MethodName)) ∈ lw_all := lw_g (lw_at lw_m4 213 rfl) rfl
theorem q1050 : (Jvm.Cond.privateMethod ({ cls := "HighSpots", name := "stopped", desc := "(I)I" } : Jvm.MethodName)) ∈ lw_tbl := lw_at lw_m4 214 rfl
theorem q1051 : (Jvm.Cond.instanceMethod ({ cls := "HighSpots", name := "stopped", desc := "(I)I" } : Jvm.MethodName)) ∈ lw_all := lw_g (lw_at lw_m4 215 rfl) rfl
theorem q1052 : (Jvm.Cond.code ({ cls := "HighSpots", name := "stopped", desc := "(I)I" } : Jvm.MethodName) prog_1_method_73_code (5 : Nat) (Option.some Jvm.ClassFile.FieldType.int)) ∈ lw_all := lw_g (lw_at lw_m4 216 rfl) rfl
theorem q1053 : (Jvm.Cond.methodLink "HighSpots" (284 : Nat) ({ cls := "HighSpots", name := "unlikeGlides", desc := "()I" } : Jvm.MethodName)) ∈ lw_all := lw_g (lw_at lw_m4 217 rfl) rfl
theorem q1054 : (Jvm.Cond.privateMethod ({ cls := "HighSpots", name := "unlikeGlides", desc := "()I" } : Jvm.MethodName)) ∈ lw_tbl := lw_at lw_m4 218 rfl
theorem q1055 : (Jvm.Cond.instanceMethod ({ cls := "HighSpots", name := "unlikeGlides", desc := "()I" } : Jvm.MethodName)) ∈ lw_all := lw_g (lw_at lw_m4 219 rfl) rfl
theorem q1056 : (Jvm.Cond.code ({ cls := "HighSpots", name := "unlikeGlides", desc := "()I" } : Jvm.MethodName) prog_1_method_74_code (5 : Nat) (Option.some Jvm.ClassFile.FieldType.int)) ∈ lw_all := lw_g (lw_at lw_m4 220 rfl) rfl
theorem q1058 : (Jvm.Cond.instanceMethod ({ cls := "HighSpots", name := "nights", desc := "(II)I" } : Jvm.MethodName)) ∈ lw_all := lw_g (lw_at lw_m4 222 rfl) rfl
theorem q1059 : (Jvm.Cond.selects "HighSpots" ({ cls := "HighSpots", name := "nights", desc := "(II)I" } : Jvm.MethodName) ({ cls := "HighSpots", name := "nights", desc := "(II)I" } : Jvm.MethodName)) ∈ lw_all := lw_g (lw_at lw_m4 223 rfl) rfl
theorem q1060 : (Jvm.Cond.code ({ cls := "HighSpots", name := "nights", desc := "(II)I" } : Jvm.MethodName) prog_1_method_76_code (3 : Nat) (Option.some Jvm.ClassFile.FieldType.int)) ∈ lw_all := lw_g (lw_at lw_m4 224 rfl) rfl
theorem q1061 : (Jvm.Cond.methodLink "HighSpots" (287 : Nat) ({ cls := "HighSpots$Bench", name := "goes", desc := "(II)LHighSpots$Bench;" } : Jvm.MethodName)) ∈ lw_all := lw_g (lw_at lw_m4 225 rfl) rfl
theorem q1140 : (Jvm.Cond.static ({ cls := "HighSpots", name := "held", desc := "(II)I" } : Jvm.MethodName)) ∈ lw_all := lw_g (lw_at lw_m5 64 rfl) rfl
theorem q1141 : (Jvm.Cond.code ({ cls := "HighSpots", name := "held", desc := "(II)I" } : Jvm.MethodName) prog_1_method_3_code (2 : Nat) (Option.some Jvm.ClassFile.FieldType.int)) ∈ lw_all := lw_g (lw_at lw_m5 65 rfl) rfl
theorem q1144 : (Jvm.Cond.instanceMethod ({ cls := "HighSpots", name := "tried", desc := "(III)I" } : Jvm.MethodName)) ∈ lw_all := lw_g (lw_at lw_m5 68 rfl) rfl
theorem q1145 : (Jvm.Cond.selects "HighSpots" ({ cls := "HighSpots", name := "tried", desc := "(III)I" } : Jvm.MethodName) ({ cls := "HighSpots", name := "tried", desc := "(III)I" } : Jvm.MethodName)) ∈ lw_all := lw_g (lw_at lw_m5 69 rfl) rfl
theorem q1146 : (Jvm.Cond.code ({ cls := "HighSpots", name := "tried", desc := "(III)I" } : Jvm.MethodName) prog_1_method_77_code (4 : Nat) (Option.some Jvm.ClassFile.FieldType.int)) ∈ lw_all := lw_g (lw_at lw_m5 70 rfl) rfl
theorem q1147 : (Jvm.Cond.methodLink "HighSpots" (294 : Nat) ({ cls := "HighSpots$Bench", name := "takes", desc := "(LHighSpots$Bench;)LHighSpots$Bench;" } : Jvm.MethodName)) ∈ lw_all := lw_g (lw_at lw_m5 71 rfl) rfl
theorem q1152 : (Jvm.Cond.instanceMethod ({ cls := "HighSpots", name := "even", desc := "(III)I" } : Jvm.MethodName)) ∈ lw_all := lw_g (lw_at lw_m5 76 rfl) rfl
theorem q1153 : (Jvm.Cond.selects "HighSpots" ({ cls := "HighSpots", name := "even", desc := "(III)I" } : Jvm.MethodName) ({ cls := "HighSpots", name := "even", desc := "(III)I" } : Jvm.MethodName)) ∈ lw_all := lw_g (lw_at lw_m5 77 rfl) rfl
theorem q1154 : (Jvm.Cond.code ({ cls := "HighSpots", name := "even", desc := "(III)I" } : Jvm.MethodName) prog_1_method_78_code (5 : Nat) (Option.some Jvm.ClassFile.FieldType.int)) ∈ lw_all := lw_g (lw_at lw_m5 78 rfl) rfl
theorem q1155 : (Jvm.Cond.methodLink "HighSpots" (301 : Nat) ({ cls := "HighSpots$Bench", name := "nightGoes", desc := "(I)V" } : Jvm.MethodName)) ∈ lw_all := lw_g (lw_at lw_m5 79 rfl) rfl
theorem q1157 : (Jvm.Cond.instanceMethod ({ cls := "HighSpots", name := "seed", desc := "(I)Z" } : Jvm.MethodName)) ∈ lw_all := lw_g (lw_at lw_m5 81 rfl) rfl
theorem q1158 : (Jvm.Cond.selects "HighSpots" ({ cls := "HighSpots", name := "seed", desc := "(I)Z" } : Jvm.MethodName) ({ cls := "HighSpots", name := "seed", desc := "(I)Z" } : Jvm.MethodName)) ∈ lw_all := lw_g (lw_at lw_m5 82 rfl) rfl
theorem q1159 : (Jvm.Cond.code ({ cls := "HighSpots", name := "seed", desc := "(I)Z" } : Jvm.MethodName) prog_1_method_79_code (2 : Nat) (Option.some Jvm.ClassFile.FieldType.boolean)) ∈ lw_all := lw_g (lw_at lw_m5 83 rfl) rfl
theorem q1160 : (Jvm.Cond.constant "HighSpots" (304 : Nat) (65536 : Int32)) ∈ lw_all := lw_g (lw_at lw_m5 84 rfl) rfl
theorem q1162 : (Jvm.Cond.instanceMethod ({ cls := "HighSpots", name := "keep", desc := "()I" } : Jvm.MethodName)) ∈ lw_all := lw_g (lw_at lw_m5 86 rfl) rfl
theorem q1163 : (Jvm.Cond.selects "HighSpots" ({ cls := "HighSpots", name := "keep", desc := "()I" } : Jvm.MethodName) ({ cls := "HighSpots", name := "keep", desc := "()I" } : Jvm.MethodName)) ∈ lw_all := lw_g (lw_at lw_m5 87 rfl) rfl
theorem q1164 : (Jvm.Cond.code ({ cls := "HighSpots", name := "keep", desc := "()I" } : Jvm.MethodName) prog_1_method_80_code (1 : Nat) (Option.some Jvm.ClassFile.FieldType.int)) ∈ lw_all := lw_g (lw_at lw_m5 88 rfl) rfl
theorem q1166 : (Jvm.Cond.instanceMethod ({ cls := "HighSpots", name := "undo", desc := "()Z" } : Jvm.MethodName)) ∈ lw_all := lw_g (lw_at lw_m5 90 rfl) rfl
theorem q1167 : (Jvm.Cond.selects "HighSpots" ({ cls := "HighSpots", name := "undo", desc := "()Z" } : Jvm.MethodName) ({ cls := "HighSpots", name := "undo", desc := "()Z" } : Jvm.MethodName)) ∈ lw_all := lw_g (lw_at lw_m5 91 rfl) rfl
theorem q1168 : (Jvm.Cond.code ({ cls := "HighSpots", name := "undo", desc := "()Z" } : Jvm.MethodName) prog_1_method_81_code (1 : Nat) (Option.some Jvm.ClassFile.FieldType.boolean)) ∈ lw_all := lw_g (lw_at lw_m5 92 rfl) rfl
theorem q1170 : (Jvm.Cond.instanceMethod ({ cls := "HighSpots", name := "check", desc := "(I)I" } : Jvm.MethodName)) ∈ lw_all := lw_g (lw_at lw_m5 94 rfl) rfl
theorem q1171 : (Jvm.Cond.selects "HighSpots" ({ cls := "HighSpots", name := "check", desc := "(I)I" } : Jvm.MethodName) ({ cls := "HighSpots", name := "check", desc := "(I)I" } : Jvm.MethodName)) ∈ lw_all := lw_g (lw_at lw_m5 95 rfl) rfl
theorem q1172 : (Jvm.Cond.code ({ cls := "HighSpots", name := "check", desc := "(I)I" } : Jvm.MethodName) prog_1_method_82_code (3 : Nat) (Option.some Jvm.ClassFile.FieldType.int)) ∈ lw_all := lw_g (lw_at lw_m5 96 rfl) rfl
theorem q1174 : (Jvm.Cond.instanceMethod ({ cls := "HighSpots", name := "count", desc := "(I)I" } : Jvm.MethodName)) ∈ lw_all := lw_g (lw_at lw_m5 98 rfl) rfl
theorem q1175 : (Jvm.Cond.selects "HighSpots" ({ cls := "HighSpots", name := "count", desc := "(I)I" } : Jvm.MethodName) ({ cls := "HighSpots", name := "count", desc := "(I)I" } : Jvm.MethodName)) ∈ lw_all := lw_g (lw_at lw_m5 99 rfl) rfl
theorem q1176 : (Jvm.Cond.code ({ cls := "HighSpots", name := "count", desc := "(I)I" } : Jvm.MethodName) prog_1_method_84_code (2 : Nat) (Option.some Jvm.ClassFile.FieldType.int)) ∈ lw_all := lw_g (lw_at lw_m5 100 rfl) rfl
theorem q1177 : (Jvm.Cond.methodLink "HighSpots" (312 : Nat) ({ cls := "HighSpots", name := "keptOff", desc := "()I" } : Jvm.MethodName)) ∈ lw_all := lw_g (lw_at lw_m5 101 rfl) rfl
theorem q1178 : (Jvm.Cond.privateMethod ({ cls := "HighSpots", name := "keptOff", desc := "()I" } : Jvm.MethodName)) ∈ lw_tbl := lw_at lw_m5 102 rfl
theorem q1179 : (Jvm.Cond.instanceMethod ({ cls := "HighSpots", name := "keptOff", desc := "()I" } : Jvm.MethodName)) ∈ lw_all := lw_g (lw_at lw_m5 103 rfl) rfl
theorem q1180 : (Jvm.Cond.code ({ cls := "HighSpots", name := "keptOff", desc := "()I" } : Jvm.MethodName) prog_1_method_83_code (6 : Nat) (Option.some Jvm.ClassFile.FieldType.int)) ∈ lw_all := lw_g (lw_at lw_m5 104 rfl) rfl
theorem in_X0 : ∀ w ∈ wsX00, w ∈ lw_all := lw_in wsX00 [261, 263, 265, 267, 269, 271, 273, 275, 277, 279, 281, 283, 285, 287, 289, 291, 293, 295, 297, 299, 301] (by decide +kernel) (by decide +kernel)

end