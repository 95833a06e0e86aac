/-! MoodFareModel -/
set_option maxRecDepth 100000
def RX4 : String := "MoodFareModel"
def TX4 : u_T := fun k => match k with
  | 0 => ("MoodFareModel", "lane", "[I", true)
  | 1 => ("MoodFareModel", "many", "[I", true)
  | 2 => ("MoodFareModel", "items", "[I", true)
  | 3 => ("MoodFareModel", "spare", "[I", true)
  | 4 => ("MoodFareModel", "status", "I", false)
  | 5 => ("MoodFareModel", "tape", "[I", true)
  | 6 => ("MoodFareModel", "taped", "I", false)
  | 7 => ("MoodFareModel", "faultKind", "I", false)
  | 8 => ("MoodFareModel", "faultPlace", "I", false)
  | 9 => ("MoodFareModel", "at", "I", false)
  | 10 => ("MoodFareModel", "start", "I", false)
  | 11 => ("MoodFareModel", "token", "I", false)
  | 12 => ("MoodFareModel", "value", "I", false)
  | 13 => ("MoodFareModel", "now", "[I", true)
  | 14 => ("MoodFareModel", "draft", "[I", true)
  | 15 => ("MoodFareModel", "tried", "[I", true)
  | 16 => ("MoodFareModel", "past", "[I", true)
  | 17 => ("MoodFareModel", "acts", "I", false)
  | 18 => ("MoodFareModel", "images", "[I", true)
  | 19 => ("MoodFareModel", "kept", "[Z", true)
  | 20 => ("MoodFareModel", "depth", "I", false)
  | 21 => ("MoodFareModel", "path", "[I", true)
  | 22 => ("MoodFareModel", "next", "[I", true)
  | 23 => ("MoodFareModel", "where", "[I", true)
  | 24 => ("MoodFareModel", "moods", "[I", true)
  | 25 => ("MoodFareModel", "costs", "[I", true)
  | 26 => ("MoodFareModel", "best", "[I", true)
  | 27 => ("MoodFareModel", "bestCost", "I", false)
  | 28 => ("MoodFareModel", "bestSize", "I", false)
  | 29 => ("MoodFareModel", "bestWhere", "I", false)
  | 30 => ("MoodFareModel", "trace", "[I", true)
  | _ => ("MoodFareModel", "traced", "I", false)
def tyX4 : Nat → FieldType := fun k => match k with
  | 0 => .array .int
  | 1 => .array .int
  | 2 => .array .int
  | 3 => .array .int
  | 4 => .int
  | 5 => .array .int
  | 6 => .int
  | 7 => .int
  | 8 => .int
  | 9 => .int
  | 10 => .int
  | 11 => .int
  | 12 => .int
  | 13 => .array .int
  | 14 => .array .int
  | 15 => .array .int
  | 16 => .array .int
  | 17 => .int
  | 18 => .array .int
  | 19 => .array .boolean
  | 20 => .int
  | 21 => .array .int
  | 22 => .array .int
  | 23 => .array .int
  | 24 => .array .int
  | 25 => .array .int
  | 26 => .array .int
  | 27 => .int
  | 28 => .int
  | 29 => .int
  | 30 => .array .int
  | _ => .int
abbrev wsX40 : List Cond := u_ws RX4 TX4 32
set_option maxRecDepth 100000 in
theorem nmX4 : ∀ a, a < 32 → ∀ b, b < 32 → a ≠ b → (TX4 a).2.1 ≠ (TX4 b).2.1 := by decide +kernel
set_option maxRecDepth 100000 in
theorem tyX4_ok : ∀ k, k < 32 → parseFieldDescriptor (TX4 k).2.2.1 = some (tyX4 k) := by decide +kernel
abbrev cX4_init : ByteArray := prog_26_method_1_code
def yX4_init : MethodName := ⟨RX4, "<init>", "()V"⟩
def dkwX4_init_7 : List UInt8 := [132, 1, 1, 167, 255, 239, 177]
abbrev dktX4_init_7 : List UInt8 := dkwX4_init_7 ++ []
def dkwX4_init_6 : List UInt8 := [16, 16, 188, 10, 181, 0, 62, 3, 60, 27, 16, 8, 162, 0, 17, 42, 180, 0, 7, 27, 18, 65, 79]
abbrev dktX4_init_6 : List UInt8 := dkwX4_init_6 ++ dktX4_init_7
def dkwX4_init_5 : List UInt8 := [16, 9, 188, 10, 181, 0, 53, 42, 16, 9, 188, 10, 181, 0, 56, 42, 16, 8, 188, 10, 181, 0, 59, 42]
abbrev dktX4_init_5 : List UInt8 := dkwX4_init_5 ++ dktX4_init_6
def dkwX4_init_4 : List UInt8 := [16, 8, 188, 10, 181, 0, 44, 42, 16, 9, 188, 10, 181, 0, 47, 42, 16, 9, 188, 10, 181, 0, 50, 42]
abbrev dktX4_init_4 : List UInt8 := dkwX4_init_4 ++ dktX4_init_5
def dkwX4_init_3 : List UInt8 := [17, 3, 240, 188, 10, 181, 0, 34, 42, 16, 84, 188, 10, 181, 0, 37, 42, 5, 188, 4, 181, 0, 40, 42]
abbrev dktX4_init_3 : List UInt8 := dkwX4_init_3 ++ dktX4_init_4
def dkwX4_init_2 : List UInt8 := [188, 10, 181, 0, 25, 42, 16, 42, 188, 10, 181, 0, 28, 42, 16, 42, 188, 10, 181, 0, 31, 42]
abbrev dktX4_init_2 : List UInt8 := dkwX4_init_2 ++ dktX4_init_3
def dkwX4_init_1 : List UInt8 := [188, 10, 181, 0, 16, 42, 16, 40, 188, 10, 181, 0, 19, 42, 16, 120, 188, 10, 181, 0, 22, 42, 16, 42]
abbrev dktX4_init_1 : List UInt8 := dkwX4_init_1 ++ dktX4_init_2
def dkwX4_init_0 : List UInt8 := [42, 183, 0, 1, 42, 16, 8, 188, 10, 181, 0, 7, 42, 16, 8, 188, 10, 181, 0, 13, 42, 17, 1, 64]
abbrev dktX4_init_0 : List UInt8 := dkwX4_init_0 ++ dktX4_init_1
theorem dksX4_init_0 : cX4_init.data.toList.drop 0 = dktX4_init_0 := by decide +kernel
theorem dksX4_init_1 : cX4_init.data.toList.drop 24 = dktX4_init_1 := dk_seg dksX4_init_0 24 rfl rfl
theorem dksX4_init_2 : cX4_init.data.toList.drop 48 = dktX4_init_2 := dk_seg dksX4_init_1 24 rfl rfl
theorem dksX4_init_3 : cX4_init.data.toList.drop 70 = dktX4_init_3 := dk_seg dksX4_init_2 22 rfl rfl
theorem dksX4_init_4 : cX4_init.data.toList.drop 94 = dktX4_init_4 := dk_seg dksX4_init_3 24 rfl rfl
theorem dksX4_init_5 : cX4_init.data.toList.drop 118 = dktX4_init_5 := dk_seg dksX4_init_4 24 rfl rfl
theorem dksX4_init_6 : cX4_init.data.toList.drop 142 = dktX4_init_6 := dk_seg dksX4_init_5 24 rfl rfl
theorem dksX4_init_7 : cX4_init.data.toList.drop 165 = dktX4_init_7 := dk_seg dksX4_init_6 23 rfl rfl
theorem dX4_init_0 : decode cX4_init 0 = .ok (.aload_n 0, 1) := dk_42 (dk_at dksX4_init_0 0 rfl rfl)
theorem dX4_init_1 : decode cX4_init 1 = .ok (.invokespecial 1, 3) := dk_183 0 1 (dk_at dksX4_init_0 1 rfl rfl)
theorem dX4_init_4 : decode cX4_init 4 = .ok (.aload_n 0, 1) := dk_42 (dk_at dksX4_init_0 4 rfl rfl)
theorem dX4_init_5 : decode cX4_init 5 = .ok (.bipush 8, 2) := dk_16 8 (dk_at dksX4_init_0 5 rfl rfl)
theorem dX4_init_7 : decode cX4_init 7 = .ok (.newarray .int, 2) := dk_188_10 (dk_at dksX4_init_0 7 rfl rfl)
theorem dX4_init_9 : decode cX4_init 9 = .ok (.putfield 7, 3) := dk_181 0 7 (dk_at dksX4_init_0 9 rfl rfl)
theorem dX4_init_12 : decode cX4_init 12 = .ok (.aload_n 0, 1) := dk_42 (dk_at dksX4_init_0 12 rfl rfl)
theorem dX4_init_13 : decode cX4_init 13 = .ok (.bipush 8, 2) := dk_16 8 (dk_at dksX4_init_0 13 rfl rfl)
theorem dX4_init_15 : decode cX4_init 15 = .ok (.newarray .int, 2) := dk_188_10 (dk_at dksX4_init_0 15 rfl rfl)
theorem dX4_init_17 : decode cX4_init 17 = .ok (.putfield 13, 3) := dk_181 0 13 (dk_at dksX4_init_0 17 rfl rfl)
theorem dX4_init_20 : decode cX4_init 20 = .ok (.aload_n 0, 1) := dk_42 (dk_at dksX4_init_0 20 rfl rfl)
theorem dX4_init_21 : decode cX4_init 21 = .ok (.sipush 320, 3) := dk_17 1 64 (dk_at dksX4_init_0 21 rfl rfl)
theorem dX4_init_24 : decode cX4_init 24 = .ok (.newarray .int, 2) := dk_188_10 (dk_at dksX4_init_1 0 rfl rfl)
theorem dX4_init_26 : decode cX4_init 26 = .ok (.putfield 16, 3) := dk_181 0 16 (dk_at dksX4_init_1 2 rfl rfl)
theorem dX4_init_29 : decode cX4_init 29 = .ok (.aload_n 0, 1) := dk_42 (dk_at dksX4_init_1 5 rfl rfl)
theorem dX4_init_30 : decode cX4_init 30 = .ok (.bipush 40, 2) := dk_16 40 (dk_at dksX4_init_1 6 rfl rfl)
theorem dX4_init_32 : decode cX4_init 32 = .ok (.newarray .int, 2) := dk_188_10 (dk_at dksX4_init_1 8 rfl rfl)
theorem dX4_init_34 : decode cX4_init 34 = .ok (.putfield 19, 3) := dk_181 0 19 (dk_at dksX4_init_1 10 rfl rfl)
theorem dX4_init_37 : decode cX4_init 37 = .ok (.aload_n 0, 1) := dk_42 (dk_at dksX4_init_1 13 rfl rfl)
theorem dX4_init_38 : decode cX4_init 38 = .ok (.bipush 120, 2) := dk_16 120 (dk_at dksX4_init_1 14 rfl rfl)
theorem dX4_init_40 : decode cX4_init 40 = .ok (.newarray .int, 2) := dk_188_10 (dk_at dksX4_init_1 16 rfl rfl)
theorem dX4_init_42 : decode cX4_init 42 = .ok (.putfield 22, 3) := dk_181 0 22 (dk_at dksX4_init_1 18 rfl rfl)
theorem dX4_init_45 : decode cX4_init 45 = .ok (.aload_n 0, 1) := dk_42 (dk_at dksX4_init_1 21 rfl rfl)
theorem dX4_init_46 : decode cX4_init 46 = .ok (.bipush 42, 2) := dk_16 42 (dk_at dksX4_init_1 22 rfl rfl)
theorem dX4_init_48 : decode cX4_init 48 = .ok (.newarray .int, 2) := dk_188_10 (dk_at dksX4_init_2 0 rfl rfl)
theorem dX4_init_50 : decode cX4_init 50 = .ok (.putfield 25, 3) := dk_181 0 25 (dk_at dksX4_init_2 2 rfl rfl)
theorem dX4_init_53 : decode cX4_init 53 = .ok (.aload_n 0, 1) := dk_42 (dk_at dksX4_init_2 5 rfl rfl)
theorem dX4_init_54 : decode cX4_init 54 = .ok (.bipush 42, 2) := dk_16 42 (dk_at dksX4_init_2 6 rfl rfl)
theorem dX4_init_56 : decode cX4_init 56 = .ok (.newarray .int, 2) := dk_188_10 (dk_at dksX4_init_2 8 rfl rfl)
theorem dX4_init_58 : decode cX4_init 58 = .ok (.putfield 28, 3) := dk_181 0 28 (dk_at dksX4_init_2 10 rfl rfl)
theorem dX4_init_61 : decode cX4_init 61 = .ok (.aload_n 0, 1) := dk_42 (dk_at dksX4_init_2 13 rfl rfl)
theorem dX4_init_62 : decode cX4_init 62 = .ok (.bipush 42, 2) := dk_16 42 (dk_at dksX4_init_2 14 rfl rfl)
theorem dX4_init_64 : decode cX4_init 64 = .ok (.newarray .int, 2) := dk_188_10 (dk_at dksX4_init_2 16 rfl rfl)
theorem dX4_init_66 : decode cX4_init 66 = .ok (.putfield 31, 3) := dk_181 0 31 (dk_at dksX4_init_2 18 rfl rfl)
theorem dX4_init_69 : decode cX4_init 69 = .ok (.aload_n 0, 1) := dk_42 (dk_at dksX4_init_2 21 rfl rfl)
theorem dX4_init_70 : decode cX4_init 70 = .ok (.sipush 1008, 3) := dk_17 3 240 (dk_at dksX4_init_3 0 rfl rfl)
theorem dX4_init_73 : decode cX4_init 73 = .ok (.newarray .int, 2) := dk_188_10 (dk_at dksX4_init_3 3 rfl rfl)
theorem dX4_init_75 : decode cX4_init 75 = .ok (.putfield 34, 3) := dk_181 0 34 (dk_at dksX4_init_3 5 rfl rfl)
theorem dX4_init_78 : decode cX4_init 78 = .ok (.aload_n 0, 1) := dk_42 (dk_at dksX4_init_3 8 rfl rfl)
theorem dX4_init_79 : decode cX4_init 79 = .ok (.bipush 84, 2) := dk_16 84 (dk_at dksX4_init_3 9 rfl rfl)
theorem dX4_init_81 : decode cX4_init 81 = .ok (.newarray .int, 2) := dk_188_10 (dk_at dksX4_init_3 11 rfl rfl)
theorem dX4_init_83 : decode cX4_init 83 = .ok (.putfield 37, 3) := dk_181 0 37 (dk_at dksX4_init_3 13 rfl rfl)
theorem dX4_init_86 : decode cX4_init 86 = .ok (.aload_n 0, 1) := dk_42 (dk_at dksX4_init_3 16 rfl rfl)
theorem dX4_init_87 : decode cX4_init 87 = .ok (.iconst 2, 1) := dk_5 (dk_at dksX4_init_3 17 rfl rfl)
theorem dX4_init_88 : decode cX4_init 88 = .ok (.newarray .boolean, 2) := dk_188_4 (dk_at dksX4_init_3 18 rfl rfl)
theorem dX4_init_90 : decode cX4_init 90 = .ok (.putfield 40, 3) := dk_181 0 40 (dk_at dksX4_init_3 20 rfl rfl)
theorem dX4_init_93 : decode cX4_init 93 = .ok (.aload_n 0, 1) := dk_42 (dk_at dksX4_init_3 23 rfl rfl)
theorem dX4_init_94 : decode cX4_init 94 = .ok (.bipush 8, 2) := dk_16 8 (dk_at dksX4_init_4 0 rfl rfl)
theorem dX4_init_96 : decode cX4_init 96 = .ok (.newarray .int, 2) := dk_188_10 (dk_at dksX4_init_4 2 rfl rfl)
theorem dX4_init_98 : decode cX4_init 98 = .ok (.putfield 44, 3) := dk_181 0 44 (dk_at dksX4_init_4 4 rfl rfl)
theorem dX4_init_101 : decode cX4_init 101 = .ok (.aload_n 0, 1) := dk_42 (dk_at dksX4_init_4 7 rfl rfl)
theorem dX4_init_102 : decode cX4_init 102 = .ok (.bipush 9, 2) := dk_16 9 (dk_at dksX4_init_4 8 rfl rfl)
theorem dX4_init_104 : decode cX4_init 104 = .ok (.newarray .int, 2) := dk_188_10 (dk_at dksX4_init_4 10 rfl rfl)
theorem dX4_init_106 : decode cX4_init 106 = .ok (.putfield 47, 3) := dk_181 0 47 (dk_at dksX4_init_4 12 rfl rfl)
theorem dX4_init_109 : decode cX4_init 109 = .ok (.aload_n 0, 1) := dk_42 (dk_at dksX4_init_4 15 rfl rfl)
theorem dX4_init_110 : decode cX4_init 110 = .ok (.bipush 9, 2) := dk_16 9 (dk_at dksX4_init_4 16 rfl rfl)
theorem dX4_init_112 : decode cX4_init 112 = .ok (.newarray .int, 2) := dk_188_10 (dk_at dksX4_init_4 18 rfl rfl)
theorem dX4_init_114 : decode cX4_init 114 = .ok (.putfield 50, 3) := dk_181 0 50 (dk_at dksX4_init_4 20 rfl rfl)
theorem dX4_init_117 : decode cX4_init 117 = .ok (.aload_n 0, 1) := dk_42 (dk_at dksX4_init_4 23 rfl rfl)
theorem dX4_init_118 : decode cX4_init 118 = .ok (.bipush 9, 2) := dk_16 9 (dk_at dksX4_init_5 0 rfl rfl)
theorem dX4_init_120 : decode cX4_init 120 = .ok (.newarray .int, 2) := dk_188_10 (dk_at dksX4_init_5 2 rfl rfl)
theorem dX4_init_122 : decode cX4_init 122 = .ok (.putfield 53, 3) := dk_181 0 53 (dk_at dksX4_init_5 4 rfl rfl)
theorem dX4_init_125 : decode cX4_init 125 = .ok (.aload_n 0, 1) := dk_42 (dk_at dksX4_init_5 7 rfl rfl)
theorem dX4_init_126 : decode cX4_init 126 = .ok (.bipush 9, 2) := dk_16 9 (dk_at dksX4_init_5 8 rfl rfl)
theorem dX4_init_128 : decode cX4_init 128 = .ok (.newarray .int, 2) := dk_188_10 (dk_at dksX4_init_5 10 rfl rfl)
theorem dX4_init_130 : decode cX4_init 130 = .ok (.putfield 56, 3) := dk_181 0 56 (dk_at dksX4_init_5 12 rfl rfl)
theorem dX4_init_133 : decode cX4_init 133 = .ok (.aload_n 0, 1) := dk_42 (dk_at dksX4_init_5 15 rfl rfl)
theorem dX4_init_134 : decode cX4_init 134 = .ok (.bipush 8, 2) := dk_16 8 (dk_at dksX4_init_5 16 rfl rfl)
theorem dX4_init_136 : decode cX4_init 136 = .ok (.newarray .int, 2) := dk_188_10 (dk_at dksX4_init_5 18 rfl rfl)
theorem dX4_init_138 : decode cX4_init 138 = .ok (.putfield 59, 3) := dk_181 0 59 (dk_at dksX4_init_5 20 rfl rfl)
theorem dX4_init_141 : decode cX4_init 141 = .ok (.aload_n 0, 1) := dk_42 (dk_at dksX4_init_5 23 rfl rfl)
theorem dX4_init_142 : decode cX4_init 142 = .ok (.bipush 16, 2) := dk_16 16 (dk_at dksX4_init_6 0 rfl rfl)
theorem dX4_init_144 : decode cX4_init 144 = .ok (.newarray .int, 2) := dk_188_10 (dk_at dksX4_init_6 2 rfl rfl)
theorem dX4_init_146 : decode cX4_init 146 = .ok (.putfield 62, 3) := dk_181 0 62 (dk_at dksX4_init_6 4 rfl rfl)
theorem dX4_init_149 : decode cX4_init 149 = .ok (.iconst 0, 1) := dk_3 (dk_at dksX4_init_6 7 rfl rfl)
theorem dX4_init_150 : decode cX4_init 150 = .ok (.istore_n 1, 1) := dk_60 (dk_at dksX4_init_6 8 rfl rfl)
theorem dX4_init_151 : decode cX4_init 151 = .ok (.iload_n 1, 1) := dk_27 (dk_at dksX4_init_6 9 rfl rfl)
theorem dX4_init_152 : decode cX4_init 152 = .ok (.bipush 8, 2) := dk_16 8 (dk_at dksX4_init_6 10 rfl rfl)
theorem dX4_init_154 : decode cX4_init 154 = .ok (.if_icmp .ge 17, 3) := dk_162 0 17 (dk_at dksX4_init_6 12 rfl rfl)
theorem dX4_init_157 : decode cX4_init 157 = .ok (.aload_n 0, 1) := dk_42 (dk_at dksX4_init_6 15 rfl rfl)
theorem dX4_init_158 : decode cX4_init 158 = .ok (.getfield 7, 3) := dk_180 0 7 (dk_at dksX4_init_6 16 rfl rfl)
theorem dX4_init_161 : decode cX4_init 161 = .ok (.iload_n 1, 1) := dk_27 (dk_at dksX4_init_6 19 rfl rfl)
theorem dX4_init_162 : decode cX4_init 162 = .ok (.ldc 65, 2) := dk_18 65 (dk_at dksX4_init_6 20 rfl rfl)
theorem dX4_init_164 : decode cX4_init 164 = .ok (.iastore, 1) := dk_79 (dk_at dksX4_init_6 22 rfl rfl)
theorem dX4_init_165 : decode cX4_init 165 = .ok (.iinc 1 1, 3) := dk_132 1 1 (dk_at dksX4_init_7 0 rfl rfl)
theorem dX4_init_168 : decode cX4_init 168 = .ok (.goto (-17), 3) := dk_167 255 239 (dk_at dksX4_init_7 3 rfl rfl)
theorem dX4_init_171 : decode cX4_init 171 = .ok (.return_, 1) := dk_177 (dk_at dksX4_init_7 6 rfl rfl)
abbrev cX4_row : ByteArray := prog_26_method_11_code
def yX4_row : MethodName := ⟨RX4, "row", "(III)I"⟩
def dkwX4_row_3 : List UInt8 := [132, 4, 1, 167, 255, 233, 42, 29, 182, 0, 84, 172]
abbrev dktX4_row_3 : List UInt8 := dkwX4_row_3 ++ []
def dkwX4_row_2 : List UInt8 := [79, 3, 54, 4, 21, 4, 16, 40, 162, 0, 22, 42, 180, 0, 16, 16, 40, 27, 104, 21, 4, 96, 3, 79]
abbrev dktX4_row_2 : List UInt8 := dkwX4_row_2 ++ dktX4_row_3
def dkwX4_row_1 : List UInt8 := [172, 29, 156, 0, 9, 42, 7, 182, 0, 80, 172, 42, 180, 0, 7, 27, 28, 79, 42, 180, 0, 13, 27, 29]
abbrev dktX4_row_1 : List UInt8 := dkwX4_row_1 ++ dktX4_row_2
def dkwX4_row_0 : List UInt8 := [27, 184, 0, 75, 153, 0, 18, 28, 3, 5, 184, 0, 71, 153, 0, 9, 29, 16, 40, 164, 0, 6, 18, 79]
abbrev dktX4_row_0 : List UInt8 := dkwX4_row_0 ++ dktX4_row_1
theorem dksX4_row_0 : cX4_row.data.toList.drop 0 = dktX4_row_0 := by decide +kernel
theorem dksX4_row_1 : cX4_row.data.toList.drop 24 = dktX4_row_1 := dk_seg dksX4_row_0 24 rfl rfl
theorem dksX4_row_2 : cX4_row.data.toList.drop 48 = dktX4_row_2 := dk_seg dksX4_row_1 24 rfl rfl
theorem dksX4_row_3 : cX4_row.data.toList.drop 72 = dktX4_row_3 := dk_seg dksX4_row_2 24 rfl rfl
theorem dX4_row_0 : decode cX4_row 0 = .ok (.iload_n 1, 1) := dk_27 (dk_at dksX4_row_0 0 rfl rfl)
theorem dX4_row_1 : decode cX4_row 1 = .ok (.invokestatic 75, 3) := dk_184 0 75 (dk_at dksX4_row_0 1 rfl rfl)
theorem dX4_row_4 : decode cX4_row 4 = .ok (.ifCond .eq 18, 3) := dk_153 0 18 (dk_at dksX4_row_0 4 rfl rfl)
theorem dX4_row_7 : decode cX4_row 7 = .ok (.iload_n 2, 1) := dk_28 (dk_at dksX4_row_0 7 rfl rfl)
theorem dX4_row_8 : decode cX4_row 8 = .ok (.iconst 0, 1) := dk_3 (dk_at dksX4_row_0 8 rfl rfl)
theorem dX4_row_9 : decode cX4_row 9 = .ok (.iconst 2, 1) := dk_5 (dk_at dksX4_row_0 9 rfl rfl)
theorem dX4_row_10 : decode cX4_row 10 = .ok (.invokestatic 71, 3) := dk_184 0 71 (dk_at dksX4_row_0 10 rfl rfl)
theorem dX4_row_13 : decode cX4_row 13 = .ok (.ifCond .eq 9, 3) := dk_153 0 9 (dk_at dksX4_row_0 13 rfl rfl)
theorem dX4_row_16 : decode cX4_row 16 = .ok (.iload_n 3, 1) := dk_29 (dk_at dksX4_row_0 16 rfl rfl)
theorem dX4_row_17 : decode cX4_row 17 = .ok (.bipush 40, 2) := dk_16 40 (dk_at dksX4_row_0 17 rfl rfl)
theorem dX4_row_19 : decode cX4_row 19 = .ok (.if_icmp .le 6, 3) := dk_164 0 6 (dk_at dksX4_row_0 19 rfl rfl)
theorem dX4_row_22 : decode cX4_row 22 = .ok (.ldc 79, 2) := dk_18 79 (dk_at dksX4_row_0 22 rfl rfl)
theorem dX4_row_24 : decode cX4_row 24 = .ok (.ireturn, 1) := dk_172 (dk_at dksX4_row_1 0 rfl rfl)
theorem dX4_row_25 : decode cX4_row 25 = .ok (.iload_n 3, 1) := dk_29 (dk_at dksX4_row_1 1 rfl rfl)
theorem dX4_row_26 : decode cX4_row 26 = .ok (.ifCond .ge 9, 3) := dk_156 0 9 (dk_at dksX4_row_1 2 rfl rfl)
theorem dX4_row_29 : decode cX4_row 29 = .ok (.aload_n 0, 1) := dk_42 (dk_at dksX4_row_1 5 rfl rfl)
theorem dX4_row_30 : decode cX4_row 30 = .ok (.iconst 4, 1) := dk_7 (dk_at dksX4_row_1 6 rfl rfl)
theorem dX4_row_31 : decode cX4_row 31 = .ok (.invokevirtual 80, 3) := dk_182 0 80 (dk_at dksX4_row_1 7 rfl rfl)
theorem dX4_row_34 : decode cX4_row 34 = .ok (.ireturn, 1) := dk_172 (dk_at dksX4_row_1 10 rfl rfl)
theorem dX4_row_35 : decode cX4_row 35 = .ok (.aload_n 0, 1) := dk_42 (dk_at dksX4_row_1 11 rfl rfl)
theorem dX4_row_36 : decode cX4_row 36 = .ok (.getfield 7, 3) := dk_180 0 7 (dk_at dksX4_row_1 12 rfl rfl)
theorem dX4_row_39 : decode cX4_row 39 = .ok (.iload_n 1, 1) := dk_27 (dk_at dksX4_row_1 15 rfl rfl)
theorem dX4_row_40 : decode cX4_row 40 = .ok (.iload_n 2, 1) := dk_28 (dk_at dksX4_row_1 16 rfl rfl)
theorem dX4_row_41 : decode cX4_row 41 = .ok (.iastore, 1) := dk_79 (dk_at dksX4_row_1 17 rfl rfl)
theorem dX4_row_42 : decode cX4_row 42 = .ok (.aload_n 0, 1) := dk_42 (dk_at dksX4_row_1 18 rfl rfl)
theorem dX4_row_43 : decode cX4_row 43 = .ok (.getfield 13, 3) := dk_180 0 13 (dk_at dksX4_row_1 19 rfl rfl)
theorem dX4_row_46 : decode cX4_row 46 = .ok (.iload_n 1, 1) := dk_27 (dk_at dksX4_row_1 22 rfl rfl)
theorem dX4_row_47 : decode cX4_row 47 = .ok (.iload_n 3, 1) := dk_29 (dk_at dksX4_row_1 23 rfl rfl)
theorem dX4_row_48 : decode cX4_row 48 = .ok (.iastore, 1) := dk_79 (dk_at dksX4_row_2 0 rfl rfl)
theorem dX4_row_49 : decode cX4_row 49 = .ok (.iconst 0, 1) := dk_3 (dk_at dksX4_row_2 1 rfl rfl)
theorem dX4_row_50 : decode cX4_row 50 = .ok (.istore 4, 2) := dk_54 4 (dk_at dksX4_row_2 2 rfl rfl)
theorem dX4_row_52 : decode cX4_row 52 = .ok (.iload 4, 2) := dk_21 4 (dk_at dksX4_row_2 4 rfl rfl)
theorem dX4_row_54 : decode cX4_row 54 = .ok (.bipush 40, 2) := dk_16 40 (dk_at dksX4_row_2 6 rfl rfl)
theorem dX4_row_56 : decode cX4_row 56 = .ok (.if_icmp .ge 22, 3) := dk_162 0 22 (dk_at dksX4_row_2 8 rfl rfl)
theorem dX4_row_59 : decode cX4_row 59 = .ok (.aload_n 0, 1) := dk_42 (dk_at dksX4_row_2 11 rfl rfl)
theorem dX4_row_60 : decode cX4_row 60 = .ok (.getfield 16, 3) := dk_180 0 16 (dk_at dksX4_row_2 12 rfl rfl)
theorem dX4_row_63 : decode cX4_row 63 = .ok (.bipush 40, 2) := dk_16 40 (dk_at dksX4_row_2 15 rfl rfl)
theorem dX4_row_65 : decode cX4_row 65 = .ok (.iload_n 1, 1) := dk_27 (dk_at dksX4_row_2 17 rfl rfl)
theorem dX4_row_66 : decode cX4_row 66 = .ok (.imul, 1) := dk_104 (dk_at dksX4_row_2 18 rfl rfl)
theorem dX4_row_67 : decode cX4_row 67 = .ok (.iload 4, 2) := dk_21 4 (dk_at dksX4_row_2 19 rfl rfl)
theorem dX4_row_69 : decode cX4_row 69 = .ok (.iadd, 1) := dk_96 (dk_at dksX4_row_2 21 rfl rfl)
theorem dX4_row_70 : decode cX4_row 70 = .ok (.iconst 0, 1) := dk_3 (dk_at dksX4_row_2 22 rfl rfl)
theorem dX4_row_71 : decode cX4_row 71 = .ok (.iastore, 1) := dk_79 (dk_at dksX4_row_2 23 rfl rfl)
theorem dX4_row_72 : decode cX4_row 72 = .ok (.iinc 4 1, 3) := dk_132 4 1 (dk_at dksX4_row_3 0 rfl rfl)
theorem dX4_row_75 : decode cX4_row 75 = .ok (.goto (-23), 3) := dk_167 255 233 (dk_at dksX4_row_3 3 rfl rfl)
theorem dX4_row_78 : decode cX4_row 78 = .ok (.aload_n 0, 1) := dk_42 (dk_at dksX4_row_3 6 rfl rfl)
theorem dX4_row_79 : decode cX4_row 79 = .ok (.iload_n 3, 1) := dk_29 (dk_at dksX4_row_3 7 rfl rfl)
theorem dX4_row_80 : decode cX4_row 80 = .ok (.invokevirtual 84, 3) := dk_182 0 84 (dk_at dksX4_row_3 8 rfl rfl)
theorem dX4_row_83 : decode cX4_row 83 = .ok (.ireturn, 1) := dk_172 (dk_at dksX4_row_3 11 rfl rfl)
abbrev cX4_isRow : ByteArray := prog_26_method_8_code
def yX4_isRow : MethodName := ⟨RX4, "isRow", "(I)Z"⟩
def dkwX4_isRow_0 : List UInt8 := [26, 3, 16, 7, 184, 0, 71, 172]
abbrev dktX4_isRow_0 : List UInt8 := dkwX4_isRow_0 ++ []
theorem dksX4_isRow_0 : cX4_isRow.data.toList.drop 0 = dktX4_isRow_0 := by decide +kernel
theorem dX4_isRow_0 : decode cX4_isRow 0 = .ok (.iload_n 0, 1) := dk_26 (dk_at dksX4_isRow_0 0 rfl rfl)
theorem dX4_isRow_1 : decode cX4_isRow 1 = .ok (.iconst 0, 1) := dk_3 (dk_at dksX4_isRow_0 1 rfl rfl)
theorem dX4_isRow_2 : decode cX4_isRow 2 = .ok (.bipush 7, 2) := dk_16 7 (dk_at dksX4_isRow_0 2 rfl rfl)
theorem dX4_isRow_4 : decode cX4_isRow 4 = .ok (.invokestatic 71, 3) := dk_184 0 71 (dk_at dksX4_isRow_0 4 rfl rfl)
theorem dX4_isRow_7 : decode cX4_isRow 7 = .ok (.ireturn, 1) := dk_172 (dk_at dksX4_isRow_0 7 rfl rfl)
abbrev cX4_in : ByteArray := prog_26_method_3_code
def yX4_in : MethodName := ⟨RX4, "in", "(III)Z"⟩
def dkwX4_in_0 : List UInt8 := [26, 27, 161, 0, 12, 26, 28, 163, 0, 7, 4, 167, 0, 4, 3, 172]
abbrev dktX4_in_0 : List UInt8 := dkwX4_in_0 ++ []
theorem dksX4_in_0 : cX4_in.data.toList.drop 0 = dktX4_in_0 := by decide +kernel
theorem dX4_in_0 : decode cX4_in 0 = .ok (.iload_n 0, 1) := dk_26 (dk_at dksX4_in_0 0 rfl rfl)
theorem dX4_in_1 : decode cX4_in 1 = .ok (.iload_n 1, 1) := dk_27 (dk_at dksX4_in_0 1 rfl rfl)
theorem dX4_in_2 : decode cX4_in 2 = .ok (.if_icmp .lt 12, 3) := dk_161 0 12 (dk_at dksX4_in_0 2 rfl rfl)
theorem dX4_in_5 : decode cX4_in 5 = .ok (.iload_n 0, 1) := dk_26 (dk_at dksX4_in_0 5 rfl rfl)
theorem dX4_in_6 : decode cX4_in 6 = .ok (.iload_n 2, 1) := dk_28 (dk_at dksX4_in_0 6 rfl rfl)
theorem dX4_in_7 : decode cX4_in 7 = .ok (.if_icmp .gt 7, 3) := dk_163 0 7 (dk_at dksX4_in_0 7 rfl rfl)
theorem dX4_in_10 : decode cX4_in 10 = .ok (.iconst 1, 1) := dk_4 (dk_at dksX4_in_0 10 rfl rfl)
theorem dX4_in_11 : decode cX4_in 11 = .ok (.goto 4, 3) := dk_167 0 4 (dk_at dksX4_in_0 11 rfl rfl)
theorem dX4_in_14 : decode cX4_in 14 = .ok (.iconst 0, 1) := dk_3 (dk_at dksX4_in_0 14 rfl rfl)
theorem dX4_in_15 : decode cX4_in 15 = .ok (.ireturn, 1) := dk_172 (dk_at dksX4_in_0 15 rfl rfl)
abbrev cX4_found : ByteArray := prog_26_method_5_code
def yX4_found : MethodName := ⟨RX4, "found", "(I)I"⟩
def dkwX4_found_0 : List UInt8 := [42, 27, 181, 0, 66, 18, 70, 27, 100, 172]
abbrev dktX4_found_0 : List UInt8 := dkwX4_found_0 ++ []
theorem dksX4_found_0 : cX4_found.data.toList.drop 0 = dktX4_found_0 := by decide +kernel
theorem dX4_found_0 : decode cX4_found 0 = .ok (.aload_n 0, 1) := dk_42 (dk_at dksX4_found_0 0 rfl rfl)
theorem dX4_found_1 : decode cX4_found 1 = .ok (.iload_n 1, 1) := dk_27 (dk_at dksX4_found_0 1 rfl rfl)
theorem dX4_found_2 : decode cX4_found 2 = .ok (.putfield 66, 3) := dk_181 0 66 (dk_at dksX4_found_0 2 rfl rfl)
theorem dX4_found_5 : decode cX4_found 5 = .ok (.ldc 70, 2) := dk_18 70 (dk_at dksX4_found_0 5 rfl rfl)
theorem dX4_found_7 : decode cX4_found 7 = .ok (.iload_n 1, 1) := dk_27 (dk_at dksX4_found_0 7 rfl rfl)
theorem dX4_found_8 : decode cX4_found 8 = .ok (.isub, 1) := dk_100 (dk_at dksX4_found_0 8 rfl rfl)
theorem dX4_found_9 : decode cX4_found 9 = .ok (.ireturn, 1) := dk_172 (dk_at dksX4_found_0 9 rfl rfl)
abbrev cX4_well : ByteArray := prog_26_method_6_code
def yX4_well : MethodName := ⟨RX4, "well", "(I)I"⟩
def dkwX4_well_0 : List UInt8 := [42, 3, 181, 0, 66, 27, 172]
abbrev dktX4_well_0 : List UInt8 := dkwX4_well_0 ++ []
theorem dksX4_well_0 : cX4_well.data.toList.drop 0 = dktX4_well_0 := by decide +kernel
theorem dX4_well_0 : decode cX4_well 0 = .ok (.aload_n 0, 1) := dk_42 (dk_at dksX4_well_0 0 rfl rfl)
theorem dX4_well_1 : decode cX4_well 1 = .ok (.iconst 0, 1) := dk_3 (dk_at dksX4_well_0 1 rfl rfl)
theorem dX4_well_2 : decode cX4_well 2 = .ok (.putfield 66, 3) := dk_181 0 66 (dk_at dksX4_well_0 2 rfl rfl)
theorem dX4_well_5 : decode cX4_well 5 = .ok (.iload_n 1, 1) := dk_27 (dk_at dksX4_well_0 5 rfl rfl)
theorem dX4_well_6 : decode cX4_well 6 = .ok (.ireturn, 1) := dk_172 (dk_at dksX4_well_0 6 rfl rfl)
abbrev cX4_set : ByteArray := prog_26_method_12_code
def yX4_set : MethodName := ⟨RX4, "set", "(III)I"⟩
def dkwX4_set_3 : List UInt8 := [180, 0, 16, 16, 40, 27, 104, 28, 96, 46, 182, 0, 84, 172]
abbrev dktX4_set_3 : List UInt8 := dkwX4_set_3 ++ []
def dkwX4_set_2 : List UInt8 := [180, 0, 16, 16, 40, 27, 104, 28, 96, 42, 180, 0, 7, 27, 46, 29, 184, 0, 90, 79, 42, 42]
abbrev dktX4_set_2 : List UInt8 := dkwX4_set_2 ++ dktX4_set_3
def dkwX4_set_1 : List UInt8 := [28, 3, 42, 180, 0, 13, 27, 46, 4, 100, 184, 0, 71, 154, 0, 9, 42, 5, 182, 0, 80, 172, 42]
abbrev dktX4_set_1 : List UInt8 := dkwX4_set_1 ++ dktX4_set_2
def dkwX4_set_0 : List UInt8 := [27, 184, 0, 75, 154, 0, 6, 18, 79, 172, 42, 27, 182, 0, 87, 153, 0, 9, 42, 4, 182, 0, 80, 172]
abbrev dktX4_set_0 : List UInt8 := dkwX4_set_0 ++ dktX4_set_1
theorem dksX4_set_0 : cX4_set.data.toList.drop 0 = dktX4_set_0 := by decide +kernel
theorem dksX4_set_1 : cX4_set.data.toList.drop 24 = dktX4_set_1 := dk_seg dksX4_set_0 24 rfl rfl
theorem dksX4_set_2 : cX4_set.data.toList.drop 47 = dktX4_set_2 := dk_seg dksX4_set_1 23 rfl rfl
theorem dksX4_set_3 : cX4_set.data.toList.drop 69 = dktX4_set_3 := dk_seg dksX4_set_2 22 rfl rfl
theorem dX4_set_0 : decode cX4_set 0 = .ok (.iload_n 1, 1) := dk_27 (dk_at dksX4_set_0 0 rfl rfl)
theorem dX4_set_1 : decode cX4_set 1 = .ok (.invokestatic 75, 3) := dk_184 0 75 (dk_at dksX4_set_0 1 rfl rfl)
theorem dX4_set_4 : decode cX4_set 4 = .ok (.ifCond .ne 6, 3) := dk_154 0 6 (dk_at dksX4_set_0 4 rfl rfl)
theorem dX4_set_7 : decode cX4_set 7 = .ok (.ldc 79, 2) := dk_18 79 (dk_at dksX4_set_0 7 rfl rfl)
theorem dX4_set_9 : decode cX4_set 9 = .ok (.ireturn, 1) := dk_172 (dk_at dksX4_set_0 9 rfl rfl)
theorem dX4_set_10 : decode cX4_set 10 = .ok (.aload_n 0, 1) := dk_42 (dk_at dksX4_set_0 10 rfl rfl)
theorem dX4_set_11 : decode cX4_set 11 = .ok (.iload_n 1, 1) := dk_27 (dk_at dksX4_set_0 11 rfl rfl)
theorem dX4_set_12 : decode cX4_set 12 = .ok (.invokevirtual 87, 3) := dk_182 0 87 (dk_at dksX4_set_0 12 rfl rfl)
theorem dX4_set_15 : decode cX4_set 15 = .ok (.ifCond .eq 9, 3) := dk_153 0 9 (dk_at dksX4_set_0 15 rfl rfl)
theorem dX4_set_18 : decode cX4_set 18 = .ok (.aload_n 0, 1) := dk_42 (dk_at dksX4_set_0 18 rfl rfl)
theorem dX4_set_19 : decode cX4_set 19 = .ok (.iconst 1, 1) := dk_4 (dk_at dksX4_set_0 19 rfl rfl)
theorem dX4_set_20 : decode cX4_set 20 = .ok (.invokevirtual 80, 3) := dk_182 0 80 (dk_at dksX4_set_0 20 rfl rfl)
theorem dX4_set_23 : decode cX4_set 23 = .ok (.ireturn, 1) := dk_172 (dk_at dksX4_set_0 23 rfl rfl)
theorem dX4_set_24 : decode cX4_set 24 = .ok (.iload_n 2, 1) := dk_28 (dk_at dksX4_set_1 0 rfl rfl)
theorem dX4_set_25 : decode cX4_set 25 = .ok (.iconst 0, 1) := dk_3 (dk_at dksX4_set_1 1 rfl rfl)
theorem dX4_set_26 : decode cX4_set 26 = .ok (.aload_n 0, 1) := dk_42 (dk_at dksX4_set_1 2 rfl rfl)
theorem dX4_set_27 : decode cX4_set 27 = .ok (.getfield 13, 3) := dk_180 0 13 (dk_at dksX4_set_1 3 rfl rfl)
theorem dX4_set_30 : decode cX4_set 30 = .ok (.iload_n 1, 1) := dk_27 (dk_at dksX4_set_1 6 rfl rfl)
theorem dX4_set_31 : decode cX4_set 31 = .ok (.iaload, 1) := dk_46 (dk_at dksX4_set_1 7 rfl rfl)
theorem dX4_set_32 : decode cX4_set 32 = .ok (.iconst 1, 1) := dk_4 (dk_at dksX4_set_1 8 rfl rfl)
theorem dX4_set_33 : decode cX4_set 33 = .ok (.isub, 1) := dk_100 (dk_at dksX4_set_1 9 rfl rfl)
theorem dX4_set_34 : decode cX4_set 34 = .ok (.invokestatic 71, 3) := dk_184 0 71 (dk_at dksX4_set_1 10 rfl rfl)
theorem dX4_set_37 : decode cX4_set 37 = .ok (.ifCond .ne 9, 3) := dk_154 0 9 (dk_at dksX4_set_1 13 rfl rfl)
theorem dX4_set_40 : decode cX4_set 40 = .ok (.aload_n 0, 1) := dk_42 (dk_at dksX4_set_1 16 rfl rfl)
theorem dX4_set_41 : decode cX4_set 41 = .ok (.iconst 2, 1) := dk_5 (dk_at dksX4_set_1 17 rfl rfl)
theorem dX4_set_42 : decode cX4_set 42 = .ok (.invokevirtual 80, 3) := dk_182 0 80 (dk_at dksX4_set_1 18 rfl rfl)
theorem dX4_set_45 : decode cX4_set 45 = .ok (.ireturn, 1) := dk_172 (dk_at dksX4_set_1 21 rfl rfl)
theorem dX4_set_46 : decode cX4_set 46 = .ok (.aload_n 0, 1) := dk_42 (dk_at dksX4_set_1 22 rfl rfl)
theorem dX4_set_47 : decode cX4_set 47 = .ok (.getfield 16, 3) := dk_180 0 16 (dk_at dksX4_set_2 0 rfl rfl)
theorem dX4_set_50 : decode cX4_set 50 = .ok (.bipush 40, 2) := dk_16 40 (dk_at dksX4_set_2 3 rfl rfl)
theorem dX4_set_52 : decode cX4_set 52 = .ok (.iload_n 1, 1) := dk_27 (dk_at dksX4_set_2 5 rfl rfl)
theorem dX4_set_53 : decode cX4_set 53 = .ok (.imul, 1) := dk_104 (dk_at dksX4_set_2 6 rfl rfl)
theorem dX4_set_54 : decode cX4_set 54 = .ok (.iload_n 2, 1) := dk_28 (dk_at dksX4_set_2 7 rfl rfl)
theorem dX4_set_55 : decode cX4_set 55 = .ok (.iadd, 1) := dk_96 (dk_at dksX4_set_2 8 rfl rfl)
theorem dX4_set_56 : decode cX4_set 56 = .ok (.aload_n 0, 1) := dk_42 (dk_at dksX4_set_2 9 rfl rfl)
theorem dX4_set_57 : decode cX4_set 57 = .ok (.getfield 7, 3) := dk_180 0 7 (dk_at dksX4_set_2 10 rfl rfl)
theorem dX4_set_60 : decode cX4_set 60 = .ok (.iload_n 1, 1) := dk_27 (dk_at dksX4_set_2 13 rfl rfl)
theorem dX4_set_61 : decode cX4_set 61 = .ok (.iaload, 1) := dk_46 (dk_at dksX4_set_2 14 rfl rfl)
theorem dX4_set_62 : decode cX4_set 62 = .ok (.iload_n 3, 1) := dk_29 (dk_at dksX4_set_2 15 rfl rfl)
theorem dX4_set_63 : decode cX4_set 63 = .ok (.invokestatic 90, 3) := dk_184 0 90 (dk_at dksX4_set_2 16 rfl rfl)
theorem dX4_set_66 : decode cX4_set 66 = .ok (.iastore, 1) := dk_79 (dk_at dksX4_set_2 19 rfl rfl)
theorem dX4_set_67 : decode cX4_set 67 = .ok (.aload_n 0, 1) := dk_42 (dk_at dksX4_set_2 20 rfl rfl)
theorem dX4_set_68 : decode cX4_set 68 = .ok (.aload_n 0, 1) := dk_42 (dk_at dksX4_set_2 21 rfl rfl)
theorem dX4_set_69 : decode cX4_set 69 = .ok (.getfield 16, 3) := dk_180 0 16 (dk_at dksX4_set_3 0 rfl rfl)
theorem dX4_set_72 : decode cX4_set 72 = .ok (.bipush 40, 2) := dk_16 40 (dk_at dksX4_set_3 3 rfl rfl)
theorem dX4_set_74 : decode cX4_set 74 = .ok (.iload_n 1, 1) := dk_27 (dk_at dksX4_set_3 5 rfl rfl)
theorem dX4_set_75 : decode cX4_set 75 = .ok (.imul, 1) := dk_104 (dk_at dksX4_set_3 6 rfl rfl)
theorem dX4_set_76 : decode cX4_set 76 = .ok (.iload_n 2, 1) := dk_28 (dk_at dksX4_set_3 7 rfl rfl)
theorem dX4_set_77 : decode cX4_set 77 = .ok (.iadd, 1) := dk_96 (dk_at dksX4_set_3 8 rfl rfl)
theorem dX4_set_78 : decode cX4_set 78 = .ok (.iaload, 1) := dk_46 (dk_at dksX4_set_3 9 rfl rfl)
theorem dX4_set_79 : decode cX4_set 79 = .ok (.invokevirtual 84, 3) := dk_182 0 84 (dk_at dksX4_set_3 10 rfl rfl)
theorem dX4_set_82 : decode cX4_set 82 = .ok (.ireturn, 1) := dk_172 (dk_at dksX4_set_3 13 rfl rfl)
abbrev cX4_isMissing : ByteArray := prog_26_method_9_code
def yX4_isMissing : MethodName := ⟨RX4, "isMissing", "(I)Z"⟩
def dkwX4_isMissing_0 : List UInt8 := [42, 180, 0, 7, 27, 46, 18, 65, 160, 0, 7, 4, 167, 0, 4, 3, 172]
abbrev dktX4_isMissing_0 : List UInt8 := dkwX4_isMissing_0 ++ []
theorem dksX4_isMissing_0 : cX4_isMissing.data.toList.drop 0 = dktX4_isMissing_0 := by decide +kernel
theorem dX4_isMissing_0 : decode cX4_isMissing 0 = .ok (.aload_n 0, 1) := dk_42 (dk_at dksX4_isMissing_0 0 rfl rfl)
theorem dX4_isMissing_1 : decode cX4_isMissing 1 = .ok (.getfield 7, 3) := dk_180 0 7 (dk_at dksX4_isMissing_0 1 rfl rfl)
theorem dX4_isMissing_4 : decode cX4_isMissing 4 = .ok (.iload_n 1, 1) := dk_27 (dk_at dksX4_isMissing_0 4 rfl rfl)
theorem dX4_isMissing_5 : decode cX4_isMissing 5 = .ok (.iaload, 1) := dk_46 (dk_at dksX4_isMissing_0 5 rfl rfl)
theorem dX4_isMissing_6 : decode cX4_isMissing 6 = .ok (.ldc 65, 2) := dk_18 65 (dk_at dksX4_isMissing_0 6 rfl rfl)
theorem dX4_isMissing_8 : decode cX4_isMissing 8 = .ok (.if_icmp .ne 7, 3) := dk_160 0 7 (dk_at dksX4_isMissing_0 8 rfl rfl)
theorem dX4_isMissing_11 : decode cX4_isMissing 11 = .ok (.iconst 1, 1) := dk_4 (dk_at dksX4_isMissing_0 11 rfl rfl)
theorem dX4_isMissing_12 : decode cX4_isMissing 12 = .ok (.goto 4, 3) := dk_167 0 4 (dk_at dksX4_isMissing_0 12 rfl rfl)
theorem dX4_isMissing_15 : decode cX4_isMissing 15 = .ok (.iconst 0, 1) := dk_3 (dk_at dksX4_isMissing_0 15 rfl rfl)
theorem dX4_isMissing_16 : decode cX4_isMissing 16 = .ok (.ireturn, 1) := dk_172 (dk_at dksX4_isMissing_0 16 rfl rfl)
abbrev cX4_cut : ByteArray := prog_26_method_10_code
def yX4_cut : MethodName := ⟨RX4, "cut", "(II)I"⟩
def dkwX4_cut_1 : List UInt8 := [16, 16, 122, 167, 0, 4, 27, 172]
abbrev dktX4_cut_1 : List UInt8 := dkwX4_cut_1 ++ []
def dkwX4_cut_0 : List UInt8 := [26, 154, 0, 13, 27, 16, 24, 120, 16, 24, 122, 167, 0, 19, 26, 4, 160, 0, 13, 27, 16, 16, 120]
abbrev dktX4_cut_0 : List UInt8 := dkwX4_cut_0 ++ dktX4_cut_1
theorem dksX4_cut_0 : cX4_cut.data.toList.drop 0 = dktX4_cut_0 := by decide +kernel
theorem dksX4_cut_1 : cX4_cut.data.toList.drop 23 = dktX4_cut_1 := dk_seg dksX4_cut_0 23 rfl rfl
theorem dX4_cut_0 : decode cX4_cut 0 = .ok (.iload_n 0, 1) := dk_26 (dk_at dksX4_cut_0 0 rfl rfl)
theorem dX4_cut_1 : decode cX4_cut 1 = .ok (.ifCond .ne 13, 3) := dk_154 0 13 (dk_at dksX4_cut_0 1 rfl rfl)
theorem dX4_cut_4 : decode cX4_cut 4 = .ok (.iload_n 1, 1) := dk_27 (dk_at dksX4_cut_0 4 rfl rfl)
theorem dX4_cut_5 : decode cX4_cut 5 = .ok (.bipush 24, 2) := dk_16 24 (dk_at dksX4_cut_0 5 rfl rfl)
theorem dX4_cut_7 : decode cX4_cut 7 = .ok (.ishl, 1) := dk_120 (dk_at dksX4_cut_0 7 rfl rfl)
theorem dX4_cut_8 : decode cX4_cut 8 = .ok (.bipush 24, 2) := dk_16 24 (dk_at dksX4_cut_0 8 rfl rfl)
theorem dX4_cut_10 : decode cX4_cut 10 = .ok (.ishr, 1) := dk_122 (dk_at dksX4_cut_0 10 rfl rfl)
theorem dX4_cut_11 : decode cX4_cut 11 = .ok (.goto 19, 3) := dk_167 0 19 (dk_at dksX4_cut_0 11 rfl rfl)
theorem dX4_cut_14 : decode cX4_cut 14 = .ok (.iload_n 0, 1) := dk_26 (dk_at dksX4_cut_0 14 rfl rfl)
theorem dX4_cut_15 : decode cX4_cut 15 = .ok (.iconst 1, 1) := dk_4 (dk_at dksX4_cut_0 15 rfl rfl)
theorem dX4_cut_16 : decode cX4_cut 16 = .ok (.if_icmp .ne 13, 3) := dk_160 0 13 (dk_at dksX4_cut_0 16 rfl rfl)
theorem dX4_cut_19 : decode cX4_cut 19 = .ok (.iload_n 1, 1) := dk_27 (dk_at dksX4_cut_0 19 rfl rfl)
theorem dX4_cut_20 : decode cX4_cut 20 = .ok (.bipush 16, 2) := dk_16 16 (dk_at dksX4_cut_0 20 rfl rfl)
theorem dX4_cut_22 : decode cX4_cut 22 = .ok (.ishl, 1) := dk_120 (dk_at dksX4_cut_0 22 rfl rfl)
theorem dX4_cut_23 : decode cX4_cut 23 = .ok (.bipush 16, 2) := dk_16 16 (dk_at dksX4_cut_1 0 rfl rfl)
theorem dX4_cut_25 : decode cX4_cut 25 = .ok (.ishr, 1) := dk_122 (dk_at dksX4_cut_1 2 rfl rfl)
theorem dX4_cut_26 : decode cX4_cut 26 = .ok (.goto 4, 3) := dk_167 0 4 (dk_at dksX4_cut_1 3 rfl rfl)
theorem dX4_cut_29 : decode cX4_cut 29 = .ok (.iload_n 1, 1) := dk_27 (dk_at dksX4_cut_1 6 rfl rfl)
theorem dX4_cut_30 : decode cX4_cut 30 = .ok (.ireturn, 1) := dk_172 (dk_at dksX4_cut_1 7 rfl rfl)
abbrev cX4_copy : ByteArray := prog_26_method_14_code
def yX4_copy : MethodName := ⟨RX4, "copy", "(IIIII)I"⟩
def dkwX4_copy_7 : List UInt8 := [167, 255, 224, 42, 21, 5, 182, 0, 84, 172]
abbrev dktX4_copy_7 : List UInt8 := dkwX4_copy_7 ++ []
def dkwX4_copy_6 : List UInt8 := [180, 0, 16, 16, 40, 29, 104, 21, 4, 96, 21, 6, 96, 42, 180, 0, 19, 21, 6, 46, 79, 132, 6, 1]
abbrev dktX4_copy_6 : List UInt8 := dkwX4_copy_6 ++ dktX4_copy_7
def dkwX4_copy_5 : List UInt8 := [21, 6, 96, 46, 79, 132, 6, 1, 167, 255, 225, 3, 54, 6, 21, 6, 21, 5, 162, 0, 31, 42]
abbrev dktX4_copy_5 : List UInt8 := dkwX4_copy_5 ++ dktX4_copy_6
def dkwX4_copy_4 : List UInt8 := [21, 6, 21, 5, 162, 0, 30, 42, 180, 0, 19, 21, 6, 42, 180, 0, 16, 16, 40, 27, 104, 28, 96]
abbrev dktX4_copy_4 : List UInt8 := dkwX4_copy_4 ++ dktX4_copy_5
def dkwX4_copy_3 : List UInt8 := [153, 0, 15, 42, 29, 21, 4, 21, 5, 182, 0, 94, 154, 0, 9, 42, 5, 182, 0, 80, 172, 3, 54, 6]
abbrev dktX4_copy_3 : List UInt8 := dkwX4_copy_3 ++ dktX4_copy_4
def dkwX4_copy_2 : List UInt8 := [180, 0, 7, 29, 46, 159, 0, 9, 42, 8, 182, 0, 80, 172, 42, 27, 28, 21, 5, 182, 0, 94]
abbrev dktX4_copy_2 : List UInt8 := dkwX4_copy_2 ++ dktX4_copy_3
def dkwX4_copy_1 : List UInt8 := [154, 0, 11, 42, 29, 182, 0, 87, 153, 0, 9, 42, 4, 182, 0, 80, 172, 42, 180, 0, 7, 27, 46, 42]
abbrev dktX4_copy_1 : List UInt8 := dkwX4_copy_1 ++ dktX4_copy_2
def dkwX4_copy_0 : List UInt8 := [27, 184, 0, 75, 153, 0, 10, 29, 184, 0, 75, 154, 0, 6, 18, 79, 172, 42, 27, 182, 0, 87]
abbrev dktX4_copy_0 : List UInt8 := dkwX4_copy_0 ++ dktX4_copy_1
theorem dksX4_copy_0 : cX4_copy.data.toList.drop 0 = dktX4_copy_0 := by decide +kernel
theorem dksX4_copy_1 : cX4_copy.data.toList.drop 22 = dktX4_copy_1 := dk_seg dksX4_copy_0 22 rfl rfl
theorem dksX4_copy_2 : cX4_copy.data.toList.drop 46 = dktX4_copy_2 := dk_seg dksX4_copy_1 24 rfl rfl
theorem dksX4_copy_3 : cX4_copy.data.toList.drop 68 = dktX4_copy_3 := dk_seg dksX4_copy_2 22 rfl rfl
theorem dksX4_copy_4 : cX4_copy.data.toList.drop 92 = dktX4_copy_4 := dk_seg dksX4_copy_3 24 rfl rfl
theorem dksX4_copy_5 : cX4_copy.data.toList.drop 115 = dktX4_copy_5 := dk_seg dksX4_copy_4 23 rfl rfl
theorem dksX4_copy_6 : cX4_copy.data.toList.drop 137 = dktX4_copy_6 := dk_seg dksX4_copy_5 22 rfl rfl
theorem dksX4_copy_7 : cX4_copy.data.toList.drop 161 = dktX4_copy_7 := dk_seg dksX4_copy_6 24 rfl rfl
theorem dX4_copy_0 : decode cX4_copy 0 = .ok (.iload_n 1, 1) := dk_27 (dk_at dksX4_copy_0 0 rfl rfl)
theorem dX4_copy_1 : decode cX4_copy 1 = .ok (.invokestatic 75, 3) := dk_184 0 75 (dk_at dksX4_copy_0 1 rfl rfl)
theorem dX4_copy_4 : decode cX4_copy 4 = .ok (.ifCond .eq 10, 3) := dk_153 0 10 (dk_at dksX4_copy_0 4 rfl rfl)
theorem dX4_copy_7 : decode cX4_copy 7 = .ok (.iload_n 3, 1) := dk_29 (dk_at dksX4_copy_0 7 rfl rfl)
theorem dX4_copy_8 : decode cX4_copy 8 = .ok (.invokestatic 75, 3) := dk_184 0 75 (dk_at dksX4_copy_0 8 rfl rfl)
theorem dX4_copy_11 : decode cX4_copy 11 = .ok (.ifCond .ne 6, 3) := dk_154 0 6 (dk_at dksX4_copy_0 11 rfl rfl)
theorem dX4_copy_14 : decode cX4_copy 14 = .ok (.ldc 79, 2) := dk_18 79 (dk_at dksX4_copy_0 14 rfl rfl)
theorem dX4_copy_16 : decode cX4_copy 16 = .ok (.ireturn, 1) := dk_172 (dk_at dksX4_copy_0 16 rfl rfl)
theorem dX4_copy_17 : decode cX4_copy 17 = .ok (.aload_n 0, 1) := dk_42 (dk_at dksX4_copy_0 17 rfl rfl)
theorem dX4_copy_18 : decode cX4_copy 18 = .ok (.iload_n 1, 1) := dk_27 (dk_at dksX4_copy_0 18 rfl rfl)
theorem dX4_copy_19 : decode cX4_copy 19 = .ok (.invokevirtual 87, 3) := dk_182 0 87 (dk_at dksX4_copy_0 19 rfl rfl)
theorem dX4_copy_22 : decode cX4_copy 22 = .ok (.ifCond .ne 11, 3) := dk_154 0 11 (dk_at dksX4_copy_1 0 rfl rfl)
theorem dX4_copy_25 : decode cX4_copy 25 = .ok (.aload_n 0, 1) := dk_42 (dk_at dksX4_copy_1 3 rfl rfl)
theorem dX4_copy_26 : decode cX4_copy 26 = .ok (.iload_n 3, 1) := dk_29 (dk_at dksX4_copy_1 4 rfl rfl)
theorem dX4_copy_27 : decode cX4_copy 27 = .ok (.invokevirtual 87, 3) := dk_182 0 87 (dk_at dksX4_copy_1 5 rfl rfl)
theorem dX4_copy_30 : decode cX4_copy 30 = .ok (.ifCond .eq 9, 3) := dk_153 0 9 (dk_at dksX4_copy_1 8 rfl rfl)
theorem dX4_copy_33 : decode cX4_copy 33 = .ok (.aload_n 0, 1) := dk_42 (dk_at dksX4_copy_1 11 rfl rfl)
theorem dX4_copy_34 : decode cX4_copy 34 = .ok (.iconst 1, 1) := dk_4 (dk_at dksX4_copy_1 12 rfl rfl)
theorem dX4_copy_35 : decode cX4_copy 35 = .ok (.invokevirtual 80, 3) := dk_182 0 80 (dk_at dksX4_copy_1 13 rfl rfl)
theorem dX4_copy_38 : decode cX4_copy 38 = .ok (.ireturn, 1) := dk_172 (dk_at dksX4_copy_1 16 rfl rfl)
theorem dX4_copy_39 : decode cX4_copy 39 = .ok (.aload_n 0, 1) := dk_42 (dk_at dksX4_copy_1 17 rfl rfl)
theorem dX4_copy_40 : decode cX4_copy 40 = .ok (.getfield 7, 3) := dk_180 0 7 (dk_at dksX4_copy_1 18 rfl rfl)
theorem dX4_copy_43 : decode cX4_copy 43 = .ok (.iload_n 1, 1) := dk_27 (dk_at dksX4_copy_1 21 rfl rfl)
theorem dX4_copy_44 : decode cX4_copy 44 = .ok (.iaload, 1) := dk_46 (dk_at dksX4_copy_1 22 rfl rfl)
theorem dX4_copy_45 : decode cX4_copy 45 = .ok (.aload_n 0, 1) := dk_42 (dk_at dksX4_copy_1 23 rfl rfl)
theorem dX4_copy_46 : decode cX4_copy 46 = .ok (.getfield 7, 3) := dk_180 0 7 (dk_at dksX4_copy_2 0 rfl rfl)
theorem dX4_copy_49 : decode cX4_copy 49 = .ok (.iload_n 3, 1) := dk_29 (dk_at dksX4_copy_2 3 rfl rfl)
theorem dX4_copy_50 : decode cX4_copy 50 = .ok (.iaload, 1) := dk_46 (dk_at dksX4_copy_2 4 rfl rfl)
theorem dX4_copy_51 : decode cX4_copy 51 = .ok (.if_icmp .eq 9, 3) := dk_159 0 9 (dk_at dksX4_copy_2 5 rfl rfl)
theorem dX4_copy_54 : decode cX4_copy 54 = .ok (.aload_n 0, 1) := dk_42 (dk_at dksX4_copy_2 8 rfl rfl)
theorem dX4_copy_55 : decode cX4_copy 55 = .ok (.iconst 5, 1) := dk_8 (dk_at dksX4_copy_2 9 rfl rfl)
theorem dX4_copy_56 : decode cX4_copy 56 = .ok (.invokevirtual 80, 3) := dk_182 0 80 (dk_at dksX4_copy_2 10 rfl rfl)
theorem dX4_copy_59 : decode cX4_copy 59 = .ok (.ireturn, 1) := dk_172 (dk_at dksX4_copy_2 13 rfl rfl)
theorem dX4_copy_60 : decode cX4_copy 60 = .ok (.aload_n 0, 1) := dk_42 (dk_at dksX4_copy_2 14 rfl rfl)
theorem dX4_copy_61 : decode cX4_copy 61 = .ok (.iload_n 1, 1) := dk_27 (dk_at dksX4_copy_2 15 rfl rfl)
theorem dX4_copy_62 : decode cX4_copy 62 = .ok (.iload_n 2, 1) := dk_28 (dk_at dksX4_copy_2 16 rfl rfl)
theorem dX4_copy_63 : decode cX4_copy 63 = .ok (.iload 5, 2) := dk_21 5 (dk_at dksX4_copy_2 17 rfl rfl)
theorem dX4_copy_65 : decode cX4_copy 65 = .ok (.invokevirtual 94, 3) := dk_182 0 94 (dk_at dksX4_copy_2 19 rfl rfl)
theorem dX4_copy_68 : decode cX4_copy 68 = .ok (.ifCond .eq 15, 3) := dk_153 0 15 (dk_at dksX4_copy_3 0 rfl rfl)
theorem dX4_copy_71 : decode cX4_copy 71 = .ok (.aload_n 0, 1) := dk_42 (dk_at dksX4_copy_3 3 rfl rfl)
theorem dX4_copy_72 : decode cX4_copy 72 = .ok (.iload_n 3, 1) := dk_29 (dk_at dksX4_copy_3 4 rfl rfl)
theorem dX4_copy_73 : decode cX4_copy 73 = .ok (.iload 4, 2) := dk_21 4 (dk_at dksX4_copy_3 5 rfl rfl)
theorem dX4_copy_75 : decode cX4_copy 75 = .ok (.iload 5, 2) := dk_21 5 (dk_at dksX4_copy_3 7 rfl rfl)
theorem dX4_copy_77 : decode cX4_copy 77 = .ok (.invokevirtual 94, 3) := dk_182 0 94 (dk_at dksX4_copy_3 9 rfl rfl)
theorem dX4_copy_80 : decode cX4_copy 80 = .ok (.ifCond .ne 9, 3) := dk_154 0 9 (dk_at dksX4_copy_3 12 rfl rfl)
theorem dX4_copy_83 : decode cX4_copy 83 = .ok (.aload_n 0, 1) := dk_42 (dk_at dksX4_copy_3 15 rfl rfl)
theorem dX4_copy_84 : decode cX4_copy 84 = .ok (.iconst 2, 1) := dk_5 (dk_at dksX4_copy_3 16 rfl rfl)
theorem dX4_copy_85 : decode cX4_copy 85 = .ok (.invokevirtual 80, 3) := dk_182 0 80 (dk_at dksX4_copy_3 17 rfl rfl)
theorem dX4_copy_88 : decode cX4_copy 88 = .ok (.ireturn, 1) := dk_172 (dk_at dksX4_copy_3 20 rfl rfl)
theorem dX4_copy_89 : decode cX4_copy 89 = .ok (.iconst 0, 1) := dk_3 (dk_at dksX4_copy_3 21 rfl rfl)
theorem dX4_copy_90 : decode cX4_copy 90 = .ok (.istore 6, 2) := dk_54 6 (dk_at dksX4_copy_3 22 rfl rfl)
theorem dX4_copy_92 : decode cX4_copy 92 = .ok (.iload 6, 2) := dk_21 6 (dk_at dksX4_copy_4 0 rfl rfl)
theorem dX4_copy_94 : decode cX4_copy 94 = .ok (.iload 5, 2) := dk_21 5 (dk_at dksX4_copy_4 2 rfl rfl)
theorem dX4_copy_96 : decode cX4_copy 96 = .ok (.if_icmp .ge 30, 3) := dk_162 0 30 (dk_at dksX4_copy_4 4 rfl rfl)
theorem dX4_copy_99 : decode cX4_copy 99 = .ok (.aload_n 0, 1) := dk_42 (dk_at dksX4_copy_4 7 rfl rfl)
theorem dX4_copy_100 : decode cX4_copy 100 = .ok (.getfield 19, 3) := dk_180 0 19 (dk_at dksX4_copy_4 8 rfl rfl)
theorem dX4_copy_103 : decode cX4_copy 103 = .ok (.iload 6, 2) := dk_21 6 (dk_at dksX4_copy_4 11 rfl rfl)
theorem dX4_copy_105 : decode cX4_copy 105 = .ok (.aload_n 0, 1) := dk_42 (dk_at dksX4_copy_4 13 rfl rfl)
theorem dX4_copy_106 : decode cX4_copy 106 = .ok (.getfield 16, 3) := dk_180 0 16 (dk_at dksX4_copy_4 14 rfl rfl)
theorem dX4_copy_109 : decode cX4_copy 109 = .ok (.bipush 40, 2) := dk_16 40 (dk_at dksX4_copy_4 17 rfl rfl)
theorem dX4_copy_111 : decode cX4_copy 111 = .ok (.iload_n 1, 1) := dk_27 (dk_at dksX4_copy_4 19 rfl rfl)
theorem dX4_copy_112 : decode cX4_copy 112 = .ok (.imul, 1) := dk_104 (dk_at dksX4_copy_4 20 rfl rfl)
theorem dX4_copy_113 : decode cX4_copy 113 = .ok (.iload_n 2, 1) := dk_28 (dk_at dksX4_copy_4 21 rfl rfl)
theorem dX4_copy_114 : decode cX4_copy 114 = .ok (.iadd, 1) := dk_96 (dk_at dksX4_copy_4 22 rfl rfl)
theorem dX4_copy_115 : decode cX4_copy 115 = .ok (.iload 6, 2) := dk_21 6 (dk_at dksX4_copy_5 0 rfl rfl)
theorem dX4_copy_117 : decode cX4_copy 117 = .ok (.iadd, 1) := dk_96 (dk_at dksX4_copy_5 2 rfl rfl)
theorem dX4_copy_118 : decode cX4_copy 118 = .ok (.iaload, 1) := dk_46 (dk_at dksX4_copy_5 3 rfl rfl)
theorem dX4_copy_119 : decode cX4_copy 119 = .ok (.iastore, 1) := dk_79 (dk_at dksX4_copy_5 4 rfl rfl)
theorem dX4_copy_120 : decode cX4_copy 120 = .ok (.iinc 6 1, 3) := dk_132 6 1 (dk_at dksX4_copy_5 5 rfl rfl)
theorem dX4_copy_123 : decode cX4_copy 123 = .ok (.goto (-31), 3) := dk_167 255 225 (dk_at dksX4_copy_5 8 rfl rfl)
theorem dX4_copy_126 : decode cX4_copy 126 = .ok (.iconst 0, 1) := dk_3 (dk_at dksX4_copy_5 11 rfl rfl)
theorem dX4_copy_127 : decode cX4_copy 127 = .ok (.istore 6, 2) := dk_54 6 (dk_at dksX4_copy_5 12 rfl rfl)
theorem dX4_copy_129 : decode cX4_copy 129 = .ok (.iload 6, 2) := dk_21 6 (dk_at dksX4_copy_5 14 rfl rfl)
theorem dX4_copy_131 : decode cX4_copy 131 = .ok (.iload 5, 2) := dk_21 5 (dk_at dksX4_copy_5 16 rfl rfl)
theorem dX4_copy_133 : decode cX4_copy 133 = .ok (.if_icmp .ge 31, 3) := dk_162 0 31 (dk_at dksX4_copy_5 18 rfl rfl)
theorem dX4_copy_136 : decode cX4_copy 136 = .ok (.aload_n 0, 1) := dk_42 (dk_at dksX4_copy_5 21 rfl rfl)
theorem dX4_copy_137 : decode cX4_copy 137 = .ok (.getfield 16, 3) := dk_180 0 16 (dk_at dksX4_copy_6 0 rfl rfl)
theorem dX4_copy_140 : decode cX4_copy 140 = .ok (.bipush 40, 2) := dk_16 40 (dk_at dksX4_copy_6 3 rfl rfl)
theorem dX4_copy_142 : decode cX4_copy 142 = .ok (.iload_n 3, 1) := dk_29 (dk_at dksX4_copy_6 5 rfl rfl)
theorem dX4_copy_143 : decode cX4_copy 143 = .ok (.imul, 1) := dk_104 (dk_at dksX4_copy_6 6 rfl rfl)
theorem dX4_copy_144 : decode cX4_copy 144 = .ok (.iload 4, 2) := dk_21 4 (dk_at dksX4_copy_6 7 rfl rfl)
theorem dX4_copy_146 : decode cX4_copy 146 = .ok (.iadd, 1) := dk_96 (dk_at dksX4_copy_6 9 rfl rfl)
theorem dX4_copy_147 : decode cX4_copy 147 = .ok (.iload 6, 2) := dk_21 6 (dk_at dksX4_copy_6 10 rfl rfl)
theorem dX4_copy_149 : decode cX4_copy 149 = .ok (.iadd, 1) := dk_96 (dk_at dksX4_copy_6 12 rfl rfl)
theorem dX4_copy_150 : decode cX4_copy 150 = .ok (.aload_n 0, 1) := dk_42 (dk_at dksX4_copy_6 13 rfl rfl)
theorem dX4_copy_151 : decode cX4_copy 151 = .ok (.getfield 19, 3) := dk_180 0 19 (dk_at dksX4_copy_6 14 rfl rfl)
theorem dX4_copy_154 : decode cX4_copy 154 = .ok (.iload 6, 2) := dk_21 6 (dk_at dksX4_copy_6 17 rfl rfl)
theorem dX4_copy_156 : decode cX4_copy 156 = .ok (.iaload, 1) := dk_46 (dk_at dksX4_copy_6 19 rfl rfl)
theorem dX4_copy_157 : decode cX4_copy 157 = .ok (.iastore, 1) := dk_79 (dk_at dksX4_copy_6 20 rfl rfl)
theorem dX4_copy_158 : decode cX4_copy 158 = .ok (.iinc 6 1, 3) := dk_132 6 1 (dk_at dksX4_copy_6 21 rfl rfl)
theorem dX4_copy_161 : decode cX4_copy 161 = .ok (.goto (-32), 3) := dk_167 255 224 (dk_at dksX4_copy_7 0 rfl rfl)
theorem dX4_copy_164 : decode cX4_copy 164 = .ok (.aload_n 0, 1) := dk_42 (dk_at dksX4_copy_7 3 rfl rfl)
theorem dX4_copy_165 : decode cX4_copy 165 = .ok (.iload 5, 2) := dk_21 5 (dk_at dksX4_copy_7 4 rfl rfl)
theorem dX4_copy_167 : decode cX4_copy 167 = .ok (.invokevirtual 84, 3) := dk_182 0 84 (dk_at dksX4_copy_7 6 rfl rfl)
theorem dX4_copy_170 : decode cX4_copy 170 = .ok (.ireturn, 1) := dk_172 (dk_at dksX4_copy_7 9 rfl rfl)
abbrev cX4_isPart : ByteArray := prog_26_method_13_code
def yX4_isPart : MethodName := ⟨RX4, "isPart", "(III)Z"⟩
def dkwX4_isPart_1 : List UInt8 := [46, 28, 100, 163, 0, 7, 4, 167, 0, 4, 3, 172]
abbrev dktX4_isPart_1 : List UInt8 := dkwX4_isPart_1 ++ []
def dkwX4_isPart_0 : List UInt8 := [28, 155, 0, 33, 29, 155, 0, 29, 28, 42, 180, 0, 13, 27, 46, 163, 0, 19, 29, 42, 180, 0, 13, 27]
abbrev dktX4_isPart_0 : List UInt8 := dkwX4_isPart_0 ++ dktX4_isPart_1
theorem dksX4_isPart_0 : cX4_isPart.data.toList.drop 0 = dktX4_isPart_0 := by decide +kernel
theorem dksX4_isPart_1 : cX4_isPart.data.toList.drop 24 = dktX4_isPart_1 := dk_seg dksX4_isPart_0 24 rfl rfl
theorem dX4_isPart_0 : decode cX4_isPart 0 = .ok (.iload_n 2, 1) := dk_28 (dk_at dksX4_isPart_0 0 rfl rfl)
theorem dX4_isPart_1 : decode cX4_isPart 1 = .ok (.ifCond .lt 33, 3) := dk_155 0 33 (dk_at dksX4_isPart_0 1 rfl rfl)
theorem dX4_isPart_4 : decode cX4_isPart 4 = .ok (.iload_n 3, 1) := dk_29 (dk_at dksX4_isPart_0 4 rfl rfl)
theorem dX4_isPart_5 : decode cX4_isPart 5 = .ok (.ifCond .lt 29, 3) := dk_155 0 29 (dk_at dksX4_isPart_0 5 rfl rfl)
theorem dX4_isPart_8 : decode cX4_isPart 8 = .ok (.iload_n 2, 1) := dk_28 (dk_at dksX4_isPart_0 8 rfl rfl)
theorem dX4_isPart_9 : decode cX4_isPart 9 = .ok (.aload_n 0, 1) := dk_42 (dk_at dksX4_isPart_0 9 rfl rfl)
theorem dX4_isPart_10 : decode cX4_isPart 10 = .ok (.getfield 13, 3) := dk_180 0 13 (dk_at dksX4_isPart_0 10 rfl rfl)
theorem dX4_isPart_13 : decode cX4_isPart 13 = .ok (.iload_n 1, 1) := dk_27 (dk_at dksX4_isPart_0 13 rfl rfl)
theorem dX4_isPart_14 : decode cX4_isPart 14 = .ok (.iaload, 1) := dk_46 (dk_at dksX4_isPart_0 14 rfl rfl)
theorem dX4_isPart_15 : decode cX4_isPart 15 = .ok (.if_icmp .gt 19, 3) := dk_163 0 19 (dk_at dksX4_isPart_0 15 rfl rfl)
theorem dX4_isPart_18 : decode cX4_isPart 18 = .ok (.iload_n 3, 1) := dk_29 (dk_at dksX4_isPart_0 18 rfl rfl)
theorem dX4_isPart_19 : decode cX4_isPart 19 = .ok (.aload_n 0, 1) := dk_42 (dk_at dksX4_isPart_0 19 rfl rfl)
theorem dX4_isPart_20 : decode cX4_isPart 20 = .ok (.getfield 13, 3) := dk_180 0 13 (dk_at dksX4_isPart_0 20 rfl rfl)
theorem dX4_isPart_23 : decode cX4_isPart 23 = .ok (.iload_n 1, 1) := dk_27 (dk_at dksX4_isPart_0 23 rfl rfl)
theorem dX4_isPart_24 : decode cX4_isPart 24 = .ok (.iaload, 1) := dk_46 (dk_at dksX4_isPart_1 0 rfl rfl)
theorem dX4_isPart_25 : decode cX4_isPart 25 = .ok (.iload_n 2, 1) := dk_28 (dk_at dksX4_isPart_1 1 rfl rfl)
theorem dX4_isPart_26 : decode cX4_isPart 26 = .ok (.isub, 1) := dk_100 (dk_at dksX4_isPart_1 2 rfl rfl)
theorem dX4_isPart_27 : decode cX4_isPart 27 = .ok (.if_icmp .gt 7, 3) := dk_163 0 7 (dk_at dksX4_isPart_1 3 rfl rfl)
theorem dX4_isPart_30 : decode cX4_isPart 30 = .ok (.iconst 1, 1) := dk_4 (dk_at dksX4_isPart_1 6 rfl rfl)
theorem dX4_isPart_31 : decode cX4_isPart 31 = .ok (.goto 4, 3) := dk_167 0 4 (dk_at dksX4_isPart_1 7 rfl rfl)
theorem dX4_isPart_34 : decode cX4_isPart 34 = .ok (.iconst 0, 1) := dk_3 (dk_at dksX4_isPart_1 10 rfl rfl)
theorem dX4_isPart_35 : decode cX4_isPart 35 = .ok (.ireturn, 1) := dk_172 (dk_at dksX4_isPart_1 11 rfl rfl)
abbrev cX4_drop : ByteArray := prog_26_method_15_code
def yX4_drop : MethodName := ⟨RX4, "drop", "(I)I"⟩
def dkwX4_drop_1 : List UInt8 := [42, 180, 0, 7, 27, 18, 65, 79, 42, 42, 180, 0, 13, 27, 46, 182, 0, 84, 172]
abbrev dktX4_drop_1 : List UInt8 := dkwX4_drop_1 ++ []
def dkwX4_drop_0 : List UInt8 := [27, 184, 0, 75, 154, 0, 6, 18, 79, 172, 42, 27, 182, 0, 87, 153, 0, 9, 42, 4, 182, 0, 80, 172]
abbrev dktX4_drop_0 : List UInt8 := dkwX4_drop_0 ++ dktX4_drop_1
theorem dksX4_drop_0 : cX4_drop.data.toList.drop 0 = dktX4_drop_0 := by decide +kernel
theorem dksX4_drop_1 : cX4_drop.data.toList.drop 24 = dktX4_drop_1 := dk_seg dksX4_drop_0 24 rfl rfl
theorem dX4_drop_0 : decode cX4_drop 0 = .ok (.iload_n 1, 1) := dk_27 (dk_at dksX4_drop_0 0 rfl rfl)
theorem dX4_drop_1 : decode cX4_drop 1 = .ok (.invokestatic 75, 3) := dk_184 0 75 (dk_at dksX4_drop_0 1 rfl rfl)
theorem dX4_drop_4 : decode cX4_drop 4 = .ok (.ifCond .ne 6, 3) := dk_154 0 6 (dk_at dksX4_drop_0 4 rfl rfl)
theorem dX4_drop_7 : decode cX4_drop 7 = .ok (.ldc 79, 2) := dk_18 79 (dk_at dksX4_drop_0 7 rfl rfl)
theorem dX4_drop_9 : decode cX4_drop 9 = .ok (.ireturn, 1) := dk_172 (dk_at dksX4_drop_0 9 rfl rfl)
theorem dX4_drop_10 : decode cX4_drop 10 = .ok (.aload_n 0, 1) := dk_42 (dk_at dksX4_drop_0 10 rfl rfl)
theorem dX4_drop_11 : decode cX4_drop 11 = .ok (.iload_n 1, 1) := dk_27 (dk_at dksX4_drop_0 11 rfl rfl)
theorem dX4_drop_12 : decode cX4_drop 12 = .ok (.invokevirtual 87, 3) := dk_182 0 87 (dk_at dksX4_drop_0 12 rfl rfl)
theorem dX4_drop_15 : decode cX4_drop 15 = .ok (.ifCond .eq 9, 3) := dk_153 0 9 (dk_at dksX4_drop_0 15 rfl rfl)
theorem dX4_drop_18 : decode cX4_drop 18 = .ok (.aload_n 0, 1) := dk_42 (dk_at dksX4_drop_0 18 rfl rfl)
theorem dX4_drop_19 : decode cX4_drop 19 = .ok (.iconst 1, 1) := dk_4 (dk_at dksX4_drop_0 19 rfl rfl)
theorem dX4_drop_20 : decode cX4_drop 20 = .ok (.invokevirtual 80, 3) := dk_182 0 80 (dk_at dksX4_drop_0 20 rfl rfl)
theorem dX4_drop_23 : decode cX4_drop 23 = .ok (.ireturn, 1) := dk_172 (dk_at dksX4_drop_0 23 rfl rfl)
theorem dX4_drop_24 : decode cX4_drop 24 = .ok (.aload_n 0, 1) := dk_42 (dk_at dksX4_drop_1 0 rfl rfl)
theorem dX4_drop_25 : decode cX4_drop 25 = .ok (.getfield 7, 3) := dk_180 0 7 (dk_at dksX4_drop_1 1 rfl rfl)
theorem dX4_drop_28 : decode cX4_drop 28 = .ok (.iload_n 1, 1) := dk_27 (dk_at dksX4_drop_1 4 rfl rfl)
theorem dX4_drop_29 : decode cX4_drop 29 = .ok (.ldc 65, 2) := dk_18 65 (dk_at dksX4_drop_1 5 rfl rfl)
theorem dX4_drop_31 : decode cX4_drop 31 = .ok (.iastore, 1) := dk_79 (dk_at dksX4_drop_1 7 rfl rfl)
theorem dX4_drop_32 : decode cX4_drop 32 = .ok (.aload_n 0, 1) := dk_42 (dk_at dksX4_drop_1 8 rfl rfl)
theorem dX4_drop_33 : decode cX4_drop 33 = .ok (.aload_n 0, 1) := dk_42 (dk_at dksX4_drop_1 9 rfl rfl)
theorem dX4_drop_34 : decode cX4_drop 34 = .ok (.getfield 13, 3) := dk_180 0 13 (dk_at dksX4_drop_1 10 rfl rfl)
theorem dX4_drop_37 : decode cX4_drop 37 = .ok (.iload_n 1, 1) := dk_27 (dk_at dksX4_drop_1 13 rfl rfl)
theorem dX4_drop_38 : decode cX4_drop 38 = .ok (.iaload, 1) := dk_46 (dk_at dksX4_drop_1 14 rfl rfl)
theorem dX4_drop_39 : decode cX4_drop 39 = .ok (.invokevirtual 84, 3) := dk_182 0 84 (dk_at dksX4_drop_1 15 rfl rfl)
theorem dX4_drop_42 : decode cX4_drop 42 = .ok (.ireturn, 1) := dk_172 (dk_at dksX4_drop_1 18 rfl rfl)
abbrev cX4_feed : ByteArray := prog_26_method_16_code
def yX4_feed : MethodName := ⟨RX4, "feed", "(I)I"⟩
def dkwX4_feed_2 : List UInt8 := [180, 0, 97, 172]
abbrev dktX4_feed_2 : List UInt8 := dkwX4_feed_2 ++ []
def dkwX4_feed_1 : List UInt8 := [18, 100, 172, 42, 180, 0, 22, 42, 180, 0, 97, 27, 79, 42, 89, 180, 0, 97, 4, 96, 181, 0, 97, 42]
abbrev dktX4_feed_1 : List UInt8 := dkwX4_feed_1 ++ dktX4_feed_2
def dkwX4_feed_0 : List UInt8 := [27, 3, 17, 0, 255, 184, 0, 71, 154, 0, 6, 18, 79, 172, 42, 180, 0, 97, 16, 120, 160, 0, 6]
abbrev dktX4_feed_0 : List UInt8 := dkwX4_feed_0 ++ dktX4_feed_1
theorem dksX4_feed_0 : cX4_feed.data.toList.drop 0 = dktX4_feed_0 := by decide +kernel
theorem dksX4_feed_1 : cX4_feed.data.toList.drop 23 = dktX4_feed_1 := dk_seg dksX4_feed_0 23 rfl rfl
theorem dksX4_feed_2 : cX4_feed.data.toList.drop 47 = dktX4_feed_2 := dk_seg dksX4_feed_1 24 rfl rfl
theorem dX4_feed_0 : decode cX4_feed 0 = .ok (.iload_n 1, 1) := dk_27 (dk_at dksX4_feed_0 0 rfl rfl)
theorem dX4_feed_1 : decode cX4_feed 1 = .ok (.iconst 0, 1) := dk_3 (dk_at dksX4_feed_0 1 rfl rfl)
theorem dX4_feed_2 : decode cX4_feed 2 = .ok (.sipush 255, 3) := dk_17 0 255 (dk_at dksX4_feed_0 2 rfl rfl)
theorem dX4_feed_5 : decode cX4_feed 5 = .ok (.invokestatic 71, 3) := dk_184 0 71 (dk_at dksX4_feed_0 5 rfl rfl)
theorem dX4_feed_8 : decode cX4_feed 8 = .ok (.ifCond .ne 6, 3) := dk_154 0 6 (dk_at dksX4_feed_0 8 rfl rfl)
theorem dX4_feed_11 : decode cX4_feed 11 = .ok (.ldc 79, 2) := dk_18 79 (dk_at dksX4_feed_0 11 rfl rfl)
theorem dX4_feed_13 : decode cX4_feed 13 = .ok (.ireturn, 1) := dk_172 (dk_at dksX4_feed_0 13 rfl rfl)
theorem dX4_feed_14 : decode cX4_feed 14 = .ok (.aload_n 0, 1) := dk_42 (dk_at dksX4_feed_0 14 rfl rfl)
theorem dX4_feed_15 : decode cX4_feed 15 = .ok (.getfield 97, 3) := dk_180 0 97 (dk_at dksX4_feed_0 15 rfl rfl)
theorem dX4_feed_18 : decode cX4_feed 18 = .ok (.bipush 120, 2) := dk_16 120 (dk_at dksX4_feed_0 18 rfl rfl)
theorem dX4_feed_20 : decode cX4_feed 20 = .ok (.if_icmp .ne 6, 3) := dk_160 0 6 (dk_at dksX4_feed_0 20 rfl rfl)
theorem dX4_feed_23 : decode cX4_feed 23 = .ok (.ldc 100, 2) := dk_18 100 (dk_at dksX4_feed_1 0 rfl rfl)
theorem dX4_feed_25 : decode cX4_feed 25 = .ok (.ireturn, 1) := dk_172 (dk_at dksX4_feed_1 2 rfl rfl)
theorem dX4_feed_26 : decode cX4_feed 26 = .ok (.aload_n 0, 1) := dk_42 (dk_at dksX4_feed_1 3 rfl rfl)
theorem dX4_feed_27 : decode cX4_feed 27 = .ok (.getfield 22, 3) := dk_180 0 22 (dk_at dksX4_feed_1 4 rfl rfl)
theorem dX4_feed_30 : decode cX4_feed 30 = .ok (.aload_n 0, 1) := dk_42 (dk_at dksX4_feed_1 7 rfl rfl)
theorem dX4_feed_31 : decode cX4_feed 31 = .ok (.getfield 97, 3) := dk_180 0 97 (dk_at dksX4_feed_1 8 rfl rfl)
theorem dX4_feed_34 : decode cX4_feed 34 = .ok (.iload_n 1, 1) := dk_27 (dk_at dksX4_feed_1 11 rfl rfl)
theorem dX4_feed_35 : decode cX4_feed 35 = .ok (.iastore, 1) := dk_79 (dk_at dksX4_feed_1 12 rfl rfl)
theorem dX4_feed_36 : decode cX4_feed 36 = .ok (.aload_n 0, 1) := dk_42 (dk_at dksX4_feed_1 13 rfl rfl)
theorem dX4_feed_37 : decode cX4_feed 37 = .ok (.dup, 1) := dk_89 (dk_at dksX4_feed_1 14 rfl rfl)
theorem dX4_feed_38 : decode cX4_feed 38 = .ok (.getfield 97, 3) := dk_180 0 97 (dk_at dksX4_feed_1 15 rfl rfl)
theorem dX4_feed_41 : decode cX4_feed 41 = .ok (.iconst 1, 1) := dk_4 (dk_at dksX4_feed_1 18 rfl rfl)
theorem dX4_feed_42 : decode cX4_feed 42 = .ok (.iadd, 1) := dk_96 (dk_at dksX4_feed_1 19 rfl rfl)
theorem dX4_feed_43 : decode cX4_feed 43 = .ok (.putfield 97, 3) := dk_181 0 97 (dk_at dksX4_feed_1 20 rfl rfl)
theorem dX4_feed_46 : decode cX4_feed 46 = .ok (.aload_n 0, 1) := dk_42 (dk_at dksX4_feed_1 23 rfl rfl)
theorem dX4_feed_47 : decode cX4_feed 47 = .ok (.getfield 97, 3) := dk_180 0 97 (dk_at dksX4_feed_2 0 rfl rfl)
theorem dX4_feed_50 : decode cX4_feed 50 = .ok (.ireturn, 1) := dk_172 (dk_at dksX4_feed_2 3 rfl rfl)
abbrev cX4_town : ByteArray := prog_26_method_28_code
def yX4_town : MethodName := ⟨RX4, "town", "()I"⟩
def dkwX4_town_11 : List UInt8 := [184, 0, 156, 42, 3, 181, 0, 160, 42, 180, 0, 25, 16, 25, 46, 172]
abbrev dktX4_town_11 : List UInt8 := dkwX4_town_11 ++ []
def dkwX4_town_10 : List UInt8 := [182, 0, 119, 154, 0, 11, 18, 155, 42, 180, 0, 116, 100, 172, 42, 180, 0, 28, 3, 42, 180, 0, 25, 3]
abbrev dktX4_town_10 : List UInt8 := dkwX4_town_10 ++ dktX4_town_11
def dkwX4_town_9 : List UInt8 := [153, 0, 17, 42, 180, 0, 113, 153, 0, 10, 42, 3, 4, 182, 0, 129, 87, 42, 3, 181, 0, 97, 42]
abbrev dktX4_town_9 : List UInt8 := dkwX4_town_9 ++ dktX4_town_10
def dkwX4_town_8 : List UInt8 := [160, 0, 19, 42, 180, 0, 110, 16, 120, 160, 0, 10, 42, 182, 0, 152, 167, 255, 228, 42, 182, 0, 119]
abbrev dktX4_town_8 : List UInt8 := dkwX4_town_8 ++ dktX4_town_9
def dkwX4_town_7 : List UInt8 := [158, 0, 10, 42, 182, 0, 149, 167, 255, 227, 42, 182, 0, 119, 153, 0, 27, 42, 180, 0, 113, 4]
abbrev dktX4_town_7 : List UInt8 := dkwX4_town_7 ++ dktX4_town_8
def dkwX4_town_6 : List UInt8 := [87, 42, 182, 0, 119, 153, 0, 28, 42, 180, 0, 113, 4, 160, 0, 20, 42, 180, 0, 110, 184, 0, 136]
abbrev dktX4_town_6 : List UInt8 := dkwX4_town_6 ++ dktX4_town_7
def dkwX4_town_5 : List UInt8 := [42, 180, 0, 113, 4, 160, 0, 13, 42, 180, 0, 110, 184, 0, 136, 157, 0, 10, 42, 3, 4, 182, 0, 129]
abbrev dktX4_town_5 : List UInt8 := dkwX4_town_5 ++ dktX4_town_6
def dkwX4_town_4 : List UInt8 := [180, 0, 113, 7, 160, 0, 7, 4, 167, 0, 4, 3, 4, 182, 0, 129, 87, 42, 182, 0, 119, 153, 0, 28]
abbrev dktX4_town_4 : List UInt8 := dkwX4_town_4 ++ dktX4_town_5
def dkwX4_town_3 : List UInt8 := [4, 16, 9, 182, 0, 133, 79, 42, 180, 0, 28, 4, 42, 3, 16, 9, 182, 0, 139, 79, 42, 42]
abbrev dktX4_town_3 : List UInt8 := dkwX4_town_3 ++ dktX4_town_4
def dkwX4_town_2 : List UInt8 := [180, 0, 110, 16, 116, 160, 0, 7, 4, 167, 0, 4, 3, 4, 182, 0, 129, 87, 42, 180, 0, 28, 3, 42]
abbrev dktX4_town_2 : List UInt8 := dkwX4_town_2 ++ dktX4_town_3
def dkwX4_town_1 : List UInt8 := [181, 0, 101, 42, 2, 181, 0, 116, 42, 182, 0, 126, 42, 42, 180, 0, 113, 4, 160, 0, 16, 42]
abbrev dktX4_town_1 : List UInt8 := dkwX4_town_1 ++ dktX4_town_2
def dkwX4_town_0 : List UInt8 := [3, 60, 27, 16, 42, 162, 0, 16, 42, 180, 0, 28, 27, 3, 79, 132, 1, 1, 167, 255, 240, 42, 3]
abbrev dktX4_town_0 : List UInt8 := dkwX4_town_0 ++ dktX4_town_1
theorem dksX4_town_0 : cX4_town.data.toList.drop 0 = dktX4_town_0 := by decide +kernel
theorem dksX4_town_1 : cX4_town.data.toList.drop 23 = dktX4_town_1 := dk_seg dksX4_town_0 23 rfl rfl
theorem dksX4_town_2 : cX4_town.data.toList.drop 45 = dktX4_town_2 := dk_seg dksX4_town_1 22 rfl rfl
theorem dksX4_town_3 : cX4_town.data.toList.drop 69 = dktX4_town_3 := dk_seg dksX4_town_2 24 rfl rfl
theorem dksX4_town_4 : cX4_town.data.toList.drop 91 = dktX4_town_4 := dk_seg dksX4_town_3 22 rfl rfl
theorem dksX4_town_5 : cX4_town.data.toList.drop 115 = dktX4_town_5 := dk_seg dksX4_town_4 24 rfl rfl
theorem dksX4_town_6 : cX4_town.data.toList.drop 139 = dktX4_town_6 := dk_seg dksX4_town_5 24 rfl rfl
theorem dksX4_town_7 : cX4_town.data.toList.drop 162 = dktX4_town_7 := dk_seg dksX4_town_6 23 rfl rfl
theorem dksX4_town_8 : cX4_town.data.toList.drop 184 = dktX4_town_8 := dk_seg dksX4_town_7 22 rfl rfl
theorem dksX4_town_9 : cX4_town.data.toList.drop 207 = dktX4_town_9 := dk_seg dksX4_town_8 23 rfl rfl
theorem dksX4_town_10 : cX4_town.data.toList.drop 230 = dktX4_town_10 := dk_seg dksX4_town_9 23 rfl rfl
theorem dksX4_town_11 : cX4_town.data.toList.drop 254 = dktX4_town_11 := dk_seg dksX4_town_10 24 rfl rfl
theorem dX4_town_0 : decode cX4_town 0 = .ok (.iconst 0, 1) := dk_3 (dk_at dksX4_town_0 0 rfl rfl)
theorem dX4_town_1 : decode cX4_town 1 = .ok (.istore_n 1, 1) := dk_60 (dk_at dksX4_town_0 1 rfl rfl)
theorem dX4_town_2 : decode cX4_town 2 = .ok (.iload_n 1, 1) := dk_27 (dk_at dksX4_town_0 2 rfl rfl)
theorem dX4_town_3 : decode cX4_town 3 = .ok (.bipush 42, 2) := dk_16 42 (dk_at dksX4_town_0 3 rfl rfl)
theorem dX4_town_5 : decode cX4_town 5 = .ok (.if_icmp .ge 16, 3) := dk_162 0 16 (dk_at dksX4_town_0 5 rfl rfl)
theorem dX4_town_8 : decode cX4_town 8 = .ok (.aload_n 0, 1) := dk_42 (dk_at dksX4_town_0 8 rfl rfl)
theorem dX4_town_9 : decode cX4_town 9 = .ok (.getfield 28, 3) := dk_180 0 28 (dk_at dksX4_town_0 9 rfl rfl)
theorem dX4_town_12 : decode cX4_town 12 = .ok (.iload_n 1, 1) := dk_27 (dk_at dksX4_town_0 12 rfl rfl)
theorem dX4_town_13 : decode cX4_town 13 = .ok (.iconst 0, 1) := dk_3 (dk_at dksX4_town_0 13 rfl rfl)
theorem dX4_town_14 : decode cX4_town 14 = .ok (.iastore, 1) := dk_79 (dk_at dksX4_town_0 14 rfl rfl)
theorem dX4_town_15 : decode cX4_town 15 = .ok (.iinc 1 1, 3) := dk_132 1 1 (dk_at dksX4_town_0 15 rfl rfl)
theorem dX4_town_18 : decode cX4_town 18 = .ok (.goto (-16), 3) := dk_167 255 240 (dk_at dksX4_town_0 18 rfl rfl)
theorem dX4_town_21 : decode cX4_town 21 = .ok (.aload_n 0, 1) := dk_42 (dk_at dksX4_town_0 21 rfl rfl)
theorem dX4_town_22 : decode cX4_town 22 = .ok (.iconst 0, 1) := dk_3 (dk_at dksX4_town_0 22 rfl rfl)
theorem dX4_town_23 : decode cX4_town 23 = .ok (.putfield 101, 3) := dk_181 0 101 (dk_at dksX4_town_1 0 rfl rfl)
theorem dX4_town_26 : decode cX4_town 26 = .ok (.aload_n 0, 1) := dk_42 (dk_at dksX4_town_1 3 rfl rfl)
theorem dX4_town_27 : decode cX4_town 27 = .ok (.iconst (-1), 1) := dk_2 (dk_at dksX4_town_1 4 rfl rfl)
theorem dX4_town_28 : decode cX4_town 28 = .ok (.putfield 116, 3) := dk_181 0 116 (dk_at dksX4_town_1 5 rfl rfl)
theorem dX4_town_31 : decode cX4_town 31 = .ok (.aload_n 0, 1) := dk_42 (dk_at dksX4_town_1 8 rfl rfl)
theorem dX4_town_32 : decode cX4_town 32 = .ok (.invokevirtual 126, 3) := dk_182 0 126 (dk_at dksX4_town_1 9 rfl rfl)
theorem dX4_town_35 : decode cX4_town 35 = .ok (.aload_n 0, 1) := dk_42 (dk_at dksX4_town_1 12 rfl rfl)
theorem dX4_town_36 : decode cX4_town 36 = .ok (.aload_n 0, 1) := dk_42 (dk_at dksX4_town_1 13 rfl rfl)
theorem dX4_town_37 : decode cX4_town 37 = .ok (.getfield 113, 3) := dk_180 0 113 (dk_at dksX4_town_1 14 rfl rfl)
theorem dX4_town_40 : decode cX4_town 40 = .ok (.iconst 1, 1) := dk_4 (dk_at dksX4_town_1 17 rfl rfl)
theorem dX4_town_41 : decode cX4_town 41 = .ok (.if_icmp .ne 16, 3) := dk_160 0 16 (dk_at dksX4_town_1 18 rfl rfl)
theorem dX4_town_44 : decode cX4_town 44 = .ok (.aload_n 0, 1) := dk_42 (dk_at dksX4_town_1 21 rfl rfl)
theorem dX4_town_45 : decode cX4_town 45 = .ok (.getfield 110, 3) := dk_180 0 110 (dk_at dksX4_town_2 0 rfl rfl)
theorem dX4_town_48 : decode cX4_town 48 = .ok (.bipush 116, 2) := dk_16 116 (dk_at dksX4_town_2 3 rfl rfl)
theorem dX4_town_50 : decode cX4_town 50 = .ok (.if_icmp .ne 7, 3) := dk_160 0 7 (dk_at dksX4_town_2 5 rfl rfl)
theorem dX4_town_53 : decode cX4_town 53 = .ok (.iconst 1, 1) := dk_4 (dk_at dksX4_town_2 8 rfl rfl)
theorem dX4_town_54 : decode cX4_town 54 = .ok (.goto 4, 3) := dk_167 0 4 (dk_at dksX4_town_2 9 rfl rfl)
theorem dX4_town_57 : decode cX4_town 57 = .ok (.iconst 0, 1) := dk_3 (dk_at dksX4_town_2 12 rfl rfl)
theorem dX4_town_58 : decode cX4_town 58 = .ok (.iconst 1, 1) := dk_4 (dk_at dksX4_town_2 13 rfl rfl)
theorem dX4_town_59 : decode cX4_town 59 = .ok (.invokevirtual 129, 3) := dk_182 0 129 (dk_at dksX4_town_2 14 rfl rfl)
theorem dX4_town_62 : decode cX4_town 62 = .ok (.pop, 1) := dk_87 (dk_at dksX4_town_2 17 rfl rfl)
theorem dX4_town_63 : decode cX4_town 63 = .ok (.aload_n 0, 1) := dk_42 (dk_at dksX4_town_2 18 rfl rfl)
theorem dX4_town_64 : decode cX4_town 64 = .ok (.getfield 28, 3) := dk_180 0 28 (dk_at dksX4_town_2 19 rfl rfl)
theorem dX4_town_67 : decode cX4_town 67 = .ok (.iconst 0, 1) := dk_3 (dk_at dksX4_town_2 22 rfl rfl)
theorem dX4_town_68 : decode cX4_town 68 = .ok (.aload_n 0, 1) := dk_42 (dk_at dksX4_town_2 23 rfl rfl)
theorem dX4_town_69 : decode cX4_town 69 = .ok (.iconst 1, 1) := dk_4 (dk_at dksX4_town_3 0 rfl rfl)
theorem dX4_town_70 : decode cX4_town 70 = .ok (.bipush 9, 2) := dk_16 9 (dk_at dksX4_town_3 1 rfl rfl)
theorem dX4_town_72 : decode cX4_town 72 = .ok (.invokevirtual 133, 3) := dk_182 0 133 (dk_at dksX4_town_3 3 rfl rfl)
theorem dX4_town_75 : decode cX4_town 75 = .ok (.iastore, 1) := dk_79 (dk_at dksX4_town_3 6 rfl rfl)
theorem dX4_town_76 : decode cX4_town 76 = .ok (.aload_n 0, 1) := dk_42 (dk_at dksX4_town_3 7 rfl rfl)
theorem dX4_town_77 : decode cX4_town 77 = .ok (.getfield 28, 3) := dk_180 0 28 (dk_at dksX4_town_3 8 rfl rfl)
theorem dX4_town_80 : decode cX4_town 80 = .ok (.iconst 1, 1) := dk_4 (dk_at dksX4_town_3 11 rfl rfl)
theorem dX4_town_81 : decode cX4_town 81 = .ok (.aload_n 0, 1) := dk_42 (dk_at dksX4_town_3 12 rfl rfl)
theorem dX4_town_82 : decode cX4_town 82 = .ok (.iconst 0, 1) := dk_3 (dk_at dksX4_town_3 13 rfl rfl)
theorem dX4_town_83 : decode cX4_town 83 = .ok (.bipush 9, 2) := dk_16 9 (dk_at dksX4_town_3 14 rfl rfl)
theorem dX4_town_85 : decode cX4_town 85 = .ok (.invokevirtual 139, 3) := dk_182 0 139 (dk_at dksX4_town_3 16 rfl rfl)
theorem dX4_town_88 : decode cX4_town 88 = .ok (.iastore, 1) := dk_79 (dk_at dksX4_town_3 19 rfl rfl)
theorem dX4_town_89 : decode cX4_town 89 = .ok (.aload_n 0, 1) := dk_42 (dk_at dksX4_town_3 20 rfl rfl)
theorem dX4_town_90 : decode cX4_town 90 = .ok (.aload_n 0, 1) := dk_42 (dk_at dksX4_town_3 21 rfl rfl)
theorem dX4_town_91 : decode cX4_town 91 = .ok (.getfield 113, 3) := dk_180 0 113 (dk_at dksX4_town_4 0 rfl rfl)
theorem dX4_town_94 : decode cX4_town 94 = .ok (.iconst 4, 1) := dk_7 (dk_at dksX4_town_4 3 rfl rfl)
theorem dX4_town_95 : decode cX4_town 95 = .ok (.if_icmp .ne 7, 3) := dk_160 0 7 (dk_at dksX4_town_4 4 rfl rfl)
theorem dX4_town_98 : decode cX4_town 98 = .ok (.iconst 1, 1) := dk_4 (dk_at dksX4_town_4 7 rfl rfl)
theorem dX4_town_99 : decode cX4_town 99 = .ok (.goto 4, 3) := dk_167 0 4 (dk_at dksX4_town_4 8 rfl rfl)
theorem dX4_town_102 : decode cX4_town 102 = .ok (.iconst 0, 1) := dk_3 (dk_at dksX4_town_4 11 rfl rfl)
theorem dX4_town_103 : decode cX4_town 103 = .ok (.iconst 1, 1) := dk_4 (dk_at dksX4_town_4 12 rfl rfl)
theorem dX4_town_104 : decode cX4_town 104 = .ok (.invokevirtual 129, 3) := dk_182 0 129 (dk_at dksX4_town_4 13 rfl rfl)
theorem dX4_town_107 : decode cX4_town 107 = .ok (.pop, 1) := dk_87 (dk_at dksX4_town_4 16 rfl rfl)
theorem dX4_town_108 : decode cX4_town 108 = .ok (.aload_n 0, 1) := dk_42 (dk_at dksX4_town_4 17 rfl rfl)
theorem dX4_town_109 : decode cX4_town 109 = .ok (.invokevirtual 119, 3) := dk_182 0 119 (dk_at dksX4_town_4 18 rfl rfl)
theorem dX4_town_112 : decode cX4_town 112 = .ok (.ifCond .eq 28, 3) := dk_153 0 28 (dk_at dksX4_town_4 21 rfl rfl)
theorem dX4_town_115 : decode cX4_town 115 = .ok (.aload_n 0, 1) := dk_42 (dk_at dksX4_town_5 0 rfl rfl)
theorem dX4_town_116 : decode cX4_town 116 = .ok (.getfield 113, 3) := dk_180 0 113 (dk_at dksX4_town_5 1 rfl rfl)
theorem dX4_town_119 : decode cX4_town 119 = .ok (.iconst 1, 1) := dk_4 (dk_at dksX4_town_5 4 rfl rfl)
theorem dX4_town_120 : decode cX4_town 120 = .ok (.if_icmp .ne 13, 3) := dk_160 0 13 (dk_at dksX4_town_5 5 rfl rfl)
theorem dX4_town_123 : decode cX4_town 123 = .ok (.aload_n 0, 1) := dk_42 (dk_at dksX4_town_5 8 rfl rfl)
theorem dX4_town_124 : decode cX4_town 124 = .ok (.getfield 110, 3) := dk_180 0 110 (dk_at dksX4_town_5 9 rfl rfl)
theorem dX4_town_127 : decode cX4_town 127 = .ok (.invokestatic 136, 3) := dk_184 0 136 (dk_at dksX4_town_5 12 rfl rfl)
theorem dX4_town_130 : decode cX4_town 130 = .ok (.ifCond .gt 10, 3) := dk_157 0 10 (dk_at dksX4_town_5 15 rfl rfl)
theorem dX4_town_133 : decode cX4_town 133 = .ok (.aload_n 0, 1) := dk_42 (dk_at dksX4_town_5 18 rfl rfl)
theorem dX4_town_134 : decode cX4_town 134 = .ok (.iconst 0, 1) := dk_3 (dk_at dksX4_town_5 19 rfl rfl)
theorem dX4_town_135 : decode cX4_town 135 = .ok (.iconst 1, 1) := dk_4 (dk_at dksX4_town_5 20 rfl rfl)
theorem dX4_town_136 : decode cX4_town 136 = .ok (.invokevirtual 129, 3) := dk_182 0 129 (dk_at dksX4_town_5 21 rfl rfl)
theorem dX4_town_139 : decode cX4_town 139 = .ok (.pop, 1) := dk_87 (dk_at dksX4_town_6 0 rfl rfl)
theorem dX4_town_140 : decode cX4_town 140 = .ok (.aload_n 0, 1) := dk_42 (dk_at dksX4_town_6 1 rfl rfl)
theorem dX4_town_141 : decode cX4_town 141 = .ok (.invokevirtual 119, 3) := dk_182 0 119 (dk_at dksX4_town_6 2 rfl rfl)
theorem dX4_town_144 : decode cX4_town 144 = .ok (.ifCond .eq 28, 3) := dk_153 0 28 (dk_at dksX4_town_6 5 rfl rfl)
theorem dX4_town_147 : decode cX4_town 147 = .ok (.aload_n 0, 1) := dk_42 (dk_at dksX4_town_6 8 rfl rfl)
theorem dX4_town_148 : decode cX4_town 148 = .ok (.getfield 113, 3) := dk_180 0 113 (dk_at dksX4_town_6 9 rfl rfl)
theorem dX4_town_151 : decode cX4_town 151 = .ok (.iconst 1, 1) := dk_4 (dk_at dksX4_town_6 12 rfl rfl)
theorem dX4_town_152 : decode cX4_town 152 = .ok (.if_icmp .ne 20, 3) := dk_160 0 20 (dk_at dksX4_town_6 13 rfl rfl)
theorem dX4_town_155 : decode cX4_town 155 = .ok (.aload_n 0, 1) := dk_42 (dk_at dksX4_town_6 16 rfl rfl)
theorem dX4_town_156 : decode cX4_town 156 = .ok (.getfield 110, 3) := dk_180 0 110 (dk_at dksX4_town_6 17 rfl rfl)
theorem dX4_town_159 : decode cX4_town 159 = .ok (.invokestatic 136, 3) := dk_184 0 136 (dk_at dksX4_town_6 20 rfl rfl)
theorem dX4_town_162 : decode cX4_town 162 = .ok (.ifCond .le 10, 3) := dk_158 0 10 (dk_at dksX4_town_7 0 rfl rfl)
theorem dX4_town_165 : decode cX4_town 165 = .ok (.aload_n 0, 1) := dk_42 (dk_at dksX4_town_7 3 rfl rfl)
theorem dX4_town_166 : decode cX4_town 166 = .ok (.invokevirtual 149, 3) := dk_182 0 149 (dk_at dksX4_town_7 4 rfl rfl)
theorem dX4_town_169 : decode cX4_town 169 = .ok (.goto (-29), 3) := dk_167 255 227 (dk_at dksX4_town_7 7 rfl rfl)
theorem dX4_town_172 : decode cX4_town 172 = .ok (.aload_n 0, 1) := dk_42 (dk_at dksX4_town_7 10 rfl rfl)
theorem dX4_town_173 : decode cX4_town 173 = .ok (.invokevirtual 119, 3) := dk_182 0 119 (dk_at dksX4_town_7 11 rfl rfl)
theorem dX4_town_176 : decode cX4_town 176 = .ok (.ifCond .eq 27, 3) := dk_153 0 27 (dk_at dksX4_town_7 14 rfl rfl)
theorem dX4_town_179 : decode cX4_town 179 = .ok (.aload_n 0, 1) := dk_42 (dk_at dksX4_town_7 17 rfl rfl)
theorem dX4_town_180 : decode cX4_town 180 = .ok (.getfield 113, 3) := dk_180 0 113 (dk_at dksX4_town_7 18 rfl rfl)
theorem dX4_town_183 : decode cX4_town 183 = .ok (.iconst 1, 1) := dk_4 (dk_at dksX4_town_7 21 rfl rfl)
theorem dX4_town_184 : decode cX4_town 184 = .ok (.if_icmp .ne 19, 3) := dk_160 0 19 (dk_at dksX4_town_8 0 rfl rfl)
theorem dX4_town_187 : decode cX4_town 187 = .ok (.aload_n 0, 1) := dk_42 (dk_at dksX4_town_8 3 rfl rfl)
theorem dX4_town_188 : decode cX4_town 188 = .ok (.getfield 110, 3) := dk_180 0 110 (dk_at dksX4_town_8 4 rfl rfl)
theorem dX4_town_191 : decode cX4_town 191 = .ok (.bipush 120, 2) := dk_16 120 (dk_at dksX4_town_8 7 rfl rfl)
theorem dX4_town_193 : decode cX4_town 193 = .ok (.if_icmp .ne 10, 3) := dk_160 0 10 (dk_at dksX4_town_8 9 rfl rfl)
theorem dX4_town_196 : decode cX4_town 196 = .ok (.aload_n 0, 1) := dk_42 (dk_at dksX4_town_8 12 rfl rfl)
theorem dX4_town_197 : decode cX4_town 197 = .ok (.invokevirtual 152, 3) := dk_182 0 152 (dk_at dksX4_town_8 13 rfl rfl)
theorem dX4_town_200 : decode cX4_town 200 = .ok (.goto (-28), 3) := dk_167 255 228 (dk_at dksX4_town_8 16 rfl rfl)
theorem dX4_town_203 : decode cX4_town 203 = .ok (.aload_n 0, 1) := dk_42 (dk_at dksX4_town_8 19 rfl rfl)
theorem dX4_town_204 : decode cX4_town 204 = .ok (.invokevirtual 119, 3) := dk_182 0 119 (dk_at dksX4_town_8 20 rfl rfl)
theorem dX4_town_207 : decode cX4_town 207 = .ok (.ifCond .eq 17, 3) := dk_153 0 17 (dk_at dksX4_town_9 0 rfl rfl)
theorem dX4_town_210 : decode cX4_town 210 = .ok (.aload_n 0, 1) := dk_42 (dk_at dksX4_town_9 3 rfl rfl)
theorem dX4_town_211 : decode cX4_town 211 = .ok (.getfield 113, 3) := dk_180 0 113 (dk_at dksX4_town_9 4 rfl rfl)
theorem dX4_town_214 : decode cX4_town 214 = .ok (.ifCond .eq 10, 3) := dk_153 0 10 (dk_at dksX4_town_9 7 rfl rfl)
theorem dX4_town_217 : decode cX4_town 217 = .ok (.aload_n 0, 1) := dk_42 (dk_at dksX4_town_9 10 rfl rfl)
theorem dX4_town_218 : decode cX4_town 218 = .ok (.iconst 0, 1) := dk_3 (dk_at dksX4_town_9 11 rfl rfl)
theorem dX4_town_219 : decode cX4_town 219 = .ok (.iconst 1, 1) := dk_4 (dk_at dksX4_town_9 12 rfl rfl)
theorem dX4_town_220 : decode cX4_town 220 = .ok (.invokevirtual 129, 3) := dk_182 0 129 (dk_at dksX4_town_9 13 rfl rfl)
theorem dX4_town_223 : decode cX4_town 223 = .ok (.pop, 1) := dk_87 (dk_at dksX4_town_9 16 rfl rfl)
theorem dX4_town_224 : decode cX4_town 224 = .ok (.aload_n 0, 1) := dk_42 (dk_at dksX4_town_9 17 rfl rfl)
theorem dX4_town_225 : decode cX4_town 225 = .ok (.iconst 0, 1) := dk_3 (dk_at dksX4_town_9 18 rfl rfl)
theorem dX4_town_226 : decode cX4_town 226 = .ok (.putfield 97, 3) := dk_181 0 97 (dk_at dksX4_town_9 19 rfl rfl)
theorem dX4_town_229 : decode cX4_town 229 = .ok (.aload_n 0, 1) := dk_42 (dk_at dksX4_town_9 22 rfl rfl)
theorem dX4_town_230 : decode cX4_town 230 = .ok (.invokevirtual 119, 3) := dk_182 0 119 (dk_at dksX4_town_10 0 rfl rfl)
theorem dX4_town_233 : decode cX4_town 233 = .ok (.ifCond .ne 11, 3) := dk_154 0 11 (dk_at dksX4_town_10 3 rfl rfl)
theorem dX4_town_236 : decode cX4_town 236 = .ok (.ldc 155, 2) := dk_18 155 (dk_at dksX4_town_10 6 rfl rfl)
theorem dX4_town_238 : decode cX4_town 238 = .ok (.aload_n 0, 1) := dk_42 (dk_at dksX4_town_10 8 rfl rfl)
theorem dX4_town_239 : decode cX4_town 239 = .ok (.getfield 116, 3) := dk_180 0 116 (dk_at dksX4_town_10 9 rfl rfl)
theorem dX4_town_242 : decode cX4_town 242 = .ok (.isub, 1) := dk_100 (dk_at dksX4_town_10 12 rfl rfl)
theorem dX4_town_243 : decode cX4_town 243 = .ok (.ireturn, 1) := dk_172 (dk_at dksX4_town_10 13 rfl rfl)
theorem dX4_town_244 : decode cX4_town 244 = .ok (.aload_n 0, 1) := dk_42 (dk_at dksX4_town_10 14 rfl rfl)
theorem dX4_town_245 : decode cX4_town 245 = .ok (.getfield 28, 3) := dk_180 0 28 (dk_at dksX4_town_10 15 rfl rfl)
theorem dX4_town_248 : decode cX4_town 248 = .ok (.iconst 0, 1) := dk_3 (dk_at dksX4_town_10 18 rfl rfl)
theorem dX4_town_249 : decode cX4_town 249 = .ok (.aload_n 0, 1) := dk_42 (dk_at dksX4_town_10 19 rfl rfl)
theorem dX4_town_250 : decode cX4_town 250 = .ok (.getfield 25, 3) := dk_180 0 25 (dk_at dksX4_town_10 20 rfl rfl)
theorem dX4_town_253 : decode cX4_town 253 = .ok (.iconst 0, 1) := dk_3 (dk_at dksX4_town_10 23 rfl rfl)
theorem dX4_town_254 : decode cX4_town 254 = .ok (.invokestatic 156, 3) := dk_184 0 156 (dk_at dksX4_town_11 0 rfl rfl)
theorem dX4_town_257 : decode cX4_town 257 = .ok (.aload_n 0, 1) := dk_42 (dk_at dksX4_town_11 3 rfl rfl)
theorem dX4_town_258 : decode cX4_town 258 = .ok (.iconst 0, 1) := dk_3 (dk_at dksX4_town_11 4 rfl rfl)
theorem dX4_town_259 : decode cX4_town 259 = .ok (.putfield 160, 3) := dk_181 0 160 (dk_at dksX4_town_11 5 rfl rfl)
theorem dX4_town_262 : decode cX4_town 262 = .ok (.aload_n 0, 1) := dk_42 (dk_at dksX4_town_11 8 rfl rfl)
theorem dX4_town_263 : decode cX4_town 263 = .ok (.getfield 25, 3) := dk_180 0 25 (dk_at dksX4_town_11 9 rfl rfl)
theorem dX4_town_266 : decode cX4_town 266 = .ok (.bipush 25, 2) := dk_16 25 (dk_at dksX4_town_11 12 rfl rfl)
theorem dX4_town_268 : decode cX4_town 268 = .ok (.iaload, 1) := dk_46 (dk_at dksX4_town_11 14 rfl rfl)
theorem dX4_town_269 : decode cX4_town 269 = .ok (.ireturn, 1) := dk_172 (dk_at dksX4_town_11 15 rfl rfl)
abbrev cX4_advances : ByteArray := prog_26_method_18_code
def yX4_advances : MethodName := ⟨RX4, "advances", "()V"⟩
def dkwX4_advances_8 : List UInt8 := [180, 0, 113, 154, 0, 7, 3, 167, 0, 4, 4, 96, 181, 0, 101, 177]
abbrev dktX4_advances_8 : List UInt8 := dkwX4_advances_8 ++ []
def dkwX4_advances_7 : List UInt8 := [6, 167, 0, 14, 27, 16, 59, 160, 0, 7, 7, 167, 0, 4, 8, 181, 0, 113, 42, 89, 180, 0, 101, 42]
abbrev dktX4_advances_7 : List UInt8 := dkwX4_advances_7 ++ dktX4_advances_8
def dkwX4_advances_6 : List UInt8 := [167, 0, 39, 27, 16, 97, 16, 122, 184, 0, 71, 153, 0, 7, 4, 167, 0, 24, 27, 16, 44, 160, 0, 7]
abbrev dktX4_advances_6 : List UInt8 := dkwX4_advances_6 ++ dktX4_advances_7
def dkwX4_advances_5 : List UInt8 := [42, 180, 0, 104, 100, 6, 162, 0, 7, 5, 167, 0, 4, 8, 181, 0, 113, 177, 42, 27, 156, 0, 7, 3]
abbrev dktX4_advances_5 : List UInt8 := dkwX4_advances_5 ++ dktX4_advances_6
def dkwX4_advances_4 : List UInt8 := [180, 0, 110, 181, 0, 110, 42, 89, 180, 0, 101, 4, 96, 181, 0, 101, 167, 255, 185, 42, 42, 180, 0, 101]
abbrev dktX4_advances_4 : List UInt8 := dkwX4_advances_4 ++ dktX4_advances_5
def dkwX4_advances_3 : List UInt8 := [16, 10, 42, 180, 0, 110, 104, 42, 42, 180, 0, 101, 182, 0, 107, 96, 16, 48, 100, 167, 0, 7, 42]
abbrev dktX4_advances_3 : List UInt8 := dkwX4_advances_3 ++ dktX4_advances_4
def dkwX4_advances_2 : List UInt8 := [16, 48, 16, 57, 184, 0, 71, 153, 0, 59, 42, 42, 180, 0, 101, 42, 180, 0, 104, 100, 5, 162, 0, 25]
abbrev dktX4_advances_2 : List UInt8 := dkwX4_advances_2 ++ dktX4_advances_3
def dkwX4_advances_1 : List UInt8 := [16, 48, 16, 57, 184, 0, 71, 153, 0, 105, 42, 3, 181, 0, 110, 42, 42, 180, 0, 101, 182, 0, 107]
abbrev dktX4_advances_1 : List UInt8 := dkwX4_advances_1 ++ dktX4_advances_2
def dkwX4_advances_0 : List UInt8 := [42, 42, 180, 0, 101, 181, 0, 104, 42, 42, 180, 0, 101, 182, 0, 107, 60, 42, 27, 181, 0, 110, 27]
abbrev dktX4_advances_0 : List UInt8 := dkwX4_advances_0 ++ dktX4_advances_1
theorem dksX4_advances_0 : cX4_advances.data.toList.drop 0 = dktX4_advances_0 := by decide +kernel
theorem dksX4_advances_1 : cX4_advances.data.toList.drop 23 = dktX4_advances_1 := dk_seg dksX4_advances_0 23 rfl rfl
theorem dksX4_advances_2 : cX4_advances.data.toList.drop 46 = dktX4_advances_2 := dk_seg dksX4_advances_1 23 rfl rfl
theorem dksX4_advances_3 : cX4_advances.data.toList.drop 70 = dktX4_advances_3 := dk_seg dksX4_advances_2 24 rfl rfl
theorem dksX4_advances_4 : cX4_advances.data.toList.drop 93 = dktX4_advances_4 := dk_seg dksX4_advances_3 23 rfl rfl
theorem dksX4_advances_5 : cX4_advances.data.toList.drop 117 = dktX4_advances_5 := dk_seg dksX4_advances_4 24 rfl rfl
theorem dksX4_advances_6 : cX4_advances.data.toList.drop 141 = dktX4_advances_6 := dk_seg dksX4_advances_5 24 rfl rfl
theorem dksX4_advances_7 : cX4_advances.data.toList.drop 165 = dktX4_advances_7 := dk_seg dksX4_advances_6 24 rfl rfl
theorem dksX4_advances_8 : cX4_advances.data.toList.drop 189 = dktX4_advances_8 := dk_seg dksX4_advances_7 24 rfl rfl
theorem dX4_advances_0 : decode cX4_advances 0 = .ok (.aload_n 0, 1) := dk_42 (dk_at dksX4_advances_0 0 rfl rfl)
theorem dX4_advances_1 : decode cX4_advances 1 = .ok (.aload_n 0, 1) := dk_42 (dk_at dksX4_advances_0 1 rfl rfl)
theorem dX4_advances_2 : decode cX4_advances 2 = .ok (.getfield 101, 3) := dk_180 0 101 (dk_at dksX4_advances_0 2 rfl rfl)
theorem dX4_advances_5 : decode cX4_advances 5 = .ok (.putfield 104, 3) := dk_181 0 104 (dk_at dksX4_advances_0 5 rfl rfl)
theorem dX4_advances_8 : decode cX4_advances 8 = .ok (.aload_n 0, 1) := dk_42 (dk_at dksX4_advances_0 8 rfl rfl)
theorem dX4_advances_9 : decode cX4_advances 9 = .ok (.aload_n 0, 1) := dk_42 (dk_at dksX4_advances_0 9 rfl rfl)
theorem dX4_advances_10 : decode cX4_advances 10 = .ok (.getfield 101, 3) := dk_180 0 101 (dk_at dksX4_advances_0 10 rfl rfl)
theorem dX4_advances_13 : decode cX4_advances 13 = .ok (.invokevirtual 107, 3) := dk_182 0 107 (dk_at dksX4_advances_0 13 rfl rfl)
theorem dX4_advances_16 : decode cX4_advances 16 = .ok (.istore_n 1, 1) := dk_60 (dk_at dksX4_advances_0 16 rfl rfl)
theorem dX4_advances_17 : decode cX4_advances 17 = .ok (.aload_n 0, 1) := dk_42 (dk_at dksX4_advances_0 17 rfl rfl)
theorem dX4_advances_18 : decode cX4_advances 18 = .ok (.iload_n 1, 1) := dk_27 (dk_at dksX4_advances_0 18 rfl rfl)
theorem dX4_advances_19 : decode cX4_advances 19 = .ok (.putfield 110, 3) := dk_181 0 110 (dk_at dksX4_advances_0 19 rfl rfl)
theorem dX4_advances_22 : decode cX4_advances 22 = .ok (.iload_n 1, 1) := dk_27 (dk_at dksX4_advances_0 22 rfl rfl)
theorem dX4_advances_23 : decode cX4_advances 23 = .ok (.bipush 48, 2) := dk_16 48 (dk_at dksX4_advances_1 0 rfl rfl)
theorem dX4_advances_25 : decode cX4_advances 25 = .ok (.bipush 57, 2) := dk_16 57 (dk_at dksX4_advances_1 2 rfl rfl)
theorem dX4_advances_27 : decode cX4_advances 27 = .ok (.invokestatic 71, 3) := dk_184 0 71 (dk_at dksX4_advances_1 4 rfl rfl)
theorem dX4_advances_30 : decode cX4_advances 30 = .ok (.ifCond .eq 105, 3) := dk_153 0 105 (dk_at dksX4_advances_1 7 rfl rfl)
theorem dX4_advances_33 : decode cX4_advances 33 = .ok (.aload_n 0, 1) := dk_42 (dk_at dksX4_advances_1 10 rfl rfl)
theorem dX4_advances_34 : decode cX4_advances 34 = .ok (.iconst 0, 1) := dk_3 (dk_at dksX4_advances_1 11 rfl rfl)
theorem dX4_advances_35 : decode cX4_advances 35 = .ok (.putfield 110, 3) := dk_181 0 110 (dk_at dksX4_advances_1 12 rfl rfl)
theorem dX4_advances_38 : decode cX4_advances 38 = .ok (.aload_n 0, 1) := dk_42 (dk_at dksX4_advances_1 15 rfl rfl)
theorem dX4_advances_39 : decode cX4_advances 39 = .ok (.aload_n 0, 1) := dk_42 (dk_at dksX4_advances_1 16 rfl rfl)
theorem dX4_advances_40 : decode cX4_advances 40 = .ok (.getfield 101, 3) := dk_180 0 101 (dk_at dksX4_advances_1 17 rfl rfl)
theorem dX4_advances_43 : decode cX4_advances 43 = .ok (.invokevirtual 107, 3) := dk_182 0 107 (dk_at dksX4_advances_1 20 rfl rfl)
theorem dX4_advances_46 : decode cX4_advances 46 = .ok (.bipush 48, 2) := dk_16 48 (dk_at dksX4_advances_2 0 rfl rfl)
theorem dX4_advances_48 : decode cX4_advances 48 = .ok (.bipush 57, 2) := dk_16 57 (dk_at dksX4_advances_2 2 rfl rfl)
theorem dX4_advances_50 : decode cX4_advances 50 = .ok (.invokestatic 71, 3) := dk_184 0 71 (dk_at dksX4_advances_2 4 rfl rfl)
theorem dX4_advances_53 : decode cX4_advances 53 = .ok (.ifCond .eq 59, 3) := dk_153 0 59 (dk_at dksX4_advances_2 7 rfl rfl)
theorem dX4_advances_56 : decode cX4_advances 56 = .ok (.aload_n 0, 1) := dk_42 (dk_at dksX4_advances_2 10 rfl rfl)
theorem dX4_advances_57 : decode cX4_advances 57 = .ok (.aload_n 0, 1) := dk_42 (dk_at dksX4_advances_2 11 rfl rfl)
theorem dX4_advances_58 : decode cX4_advances 58 = .ok (.getfield 101, 3) := dk_180 0 101 (dk_at dksX4_advances_2 12 rfl rfl)
theorem dX4_advances_61 : decode cX4_advances 61 = .ok (.aload_n 0, 1) := dk_42 (dk_at dksX4_advances_2 15 rfl rfl)
theorem dX4_advances_62 : decode cX4_advances 62 = .ok (.getfield 104, 3) := dk_180 0 104 (dk_at dksX4_advances_2 16 rfl rfl)
theorem dX4_advances_65 : decode cX4_advances 65 = .ok (.isub, 1) := dk_100 (dk_at dksX4_advances_2 19 rfl rfl)
theorem dX4_advances_66 : decode cX4_advances 66 = .ok (.iconst 2, 1) := dk_5 (dk_at dksX4_advances_2 20 rfl rfl)
theorem dX4_advances_67 : decode cX4_advances 67 = .ok (.if_icmp .ge 25, 3) := dk_162 0 25 (dk_at dksX4_advances_2 21 rfl rfl)
theorem dX4_advances_70 : decode cX4_advances 70 = .ok (.bipush 10, 2) := dk_16 10 (dk_at dksX4_advances_3 0 rfl rfl)
theorem dX4_advances_72 : decode cX4_advances 72 = .ok (.aload_n 0, 1) := dk_42 (dk_at dksX4_advances_3 2 rfl rfl)
theorem dX4_advances_73 : decode cX4_advances 73 = .ok (.getfield 110, 3) := dk_180 0 110 (dk_at dksX4_advances_3 3 rfl rfl)
theorem dX4_advances_76 : decode cX4_advances 76 = .ok (.imul, 1) := dk_104 (dk_at dksX4_advances_3 6 rfl rfl)
theorem dX4_advances_77 : decode cX4_advances 77 = .ok (.aload_n 0, 1) := dk_42 (dk_at dksX4_advances_3 7 rfl rfl)
theorem dX4_advances_78 : decode cX4_advances 78 = .ok (.aload_n 0, 1) := dk_42 (dk_at dksX4_advances_3 8 rfl rfl)
theorem dX4_advances_79 : decode cX4_advances 79 = .ok (.getfield 101, 3) := dk_180 0 101 (dk_at dksX4_advances_3 9 rfl rfl)
theorem dX4_advances_82 : decode cX4_advances 82 = .ok (.invokevirtual 107, 3) := dk_182 0 107 (dk_at dksX4_advances_3 12 rfl rfl)
theorem dX4_advances_85 : decode cX4_advances 85 = .ok (.iadd, 1) := dk_96 (dk_at dksX4_advances_3 15 rfl rfl)
theorem dX4_advances_86 : decode cX4_advances 86 = .ok (.bipush 48, 2) := dk_16 48 (dk_at dksX4_advances_3 16 rfl rfl)
theorem dX4_advances_88 : decode cX4_advances 88 = .ok (.isub, 1) := dk_100 (dk_at dksX4_advances_3 18 rfl rfl)
theorem dX4_advances_89 : decode cX4_advances 89 = .ok (.goto 7, 3) := dk_167 0 7 (dk_at dksX4_advances_3 19 rfl rfl)
theorem dX4_advances_92 : decode cX4_advances 92 = .ok (.aload_n 0, 1) := dk_42 (dk_at dksX4_advances_3 22 rfl rfl)
theorem dX4_advances_93 : decode cX4_advances 93 = .ok (.getfield 110, 3) := dk_180 0 110 (dk_at dksX4_advances_4 0 rfl rfl)
theorem dX4_advances_96 : decode cX4_advances 96 = .ok (.putfield 110, 3) := dk_181 0 110 (dk_at dksX4_advances_4 3 rfl rfl)
theorem dX4_advances_99 : decode cX4_advances 99 = .ok (.aload_n 0, 1) := dk_42 (dk_at dksX4_advances_4 6 rfl rfl)
theorem dX4_advances_100 : decode cX4_advances 100 = .ok (.dup, 1) := dk_89 (dk_at dksX4_advances_4 7 rfl rfl)
theorem dX4_advances_101 : decode cX4_advances 101 = .ok (.getfield 101, 3) := dk_180 0 101 (dk_at dksX4_advances_4 8 rfl rfl)
theorem dX4_advances_104 : decode cX4_advances 104 = .ok (.iconst 1, 1) := dk_4 (dk_at dksX4_advances_4 11 rfl rfl)
theorem dX4_advances_105 : decode cX4_advances 105 = .ok (.iadd, 1) := dk_96 (dk_at dksX4_advances_4 12 rfl rfl)
theorem dX4_advances_106 : decode cX4_advances 106 = .ok (.putfield 101, 3) := dk_181 0 101 (dk_at dksX4_advances_4 13 rfl rfl)
theorem dX4_advances_109 : decode cX4_advances 109 = .ok (.goto (-71), 3) := dk_167 255 185 (dk_at dksX4_advances_4 16 rfl rfl)
theorem dX4_advances_112 : decode cX4_advances 112 = .ok (.aload_n 0, 1) := dk_42 (dk_at dksX4_advances_4 19 rfl rfl)
theorem dX4_advances_113 : decode cX4_advances 113 = .ok (.aload_n 0, 1) := dk_42 (dk_at dksX4_advances_4 20 rfl rfl)
theorem dX4_advances_114 : decode cX4_advances 114 = .ok (.getfield 101, 3) := dk_180 0 101 (dk_at dksX4_advances_4 21 rfl rfl)
theorem dX4_advances_117 : decode cX4_advances 117 = .ok (.aload_n 0, 1) := dk_42 (dk_at dksX4_advances_5 0 rfl rfl)
theorem dX4_advances_118 : decode cX4_advances 118 = .ok (.getfield 104, 3) := dk_180 0 104 (dk_at dksX4_advances_5 1 rfl rfl)
theorem dX4_advances_121 : decode cX4_advances 121 = .ok (.isub, 1) := dk_100 (dk_at dksX4_advances_5 4 rfl rfl)
theorem dX4_advances_122 : decode cX4_advances 122 = .ok (.iconst 3, 1) := dk_6 (dk_at dksX4_advances_5 5 rfl rfl)
theorem dX4_advances_123 : decode cX4_advances 123 = .ok (.if_icmp .ge 7, 3) := dk_162 0 7 (dk_at dksX4_advances_5 6 rfl rfl)
theorem dX4_advances_126 : decode cX4_advances 126 = .ok (.iconst 2, 1) := dk_5 (dk_at dksX4_advances_5 9 rfl rfl)
theorem dX4_advances_127 : decode cX4_advances 127 = .ok (.goto 4, 3) := dk_167 0 4 (dk_at dksX4_advances_5 10 rfl rfl)
theorem dX4_advances_130 : decode cX4_advances 130 = .ok (.iconst 5, 1) := dk_8 (dk_at dksX4_advances_5 13 rfl rfl)
theorem dX4_advances_131 : decode cX4_advances 131 = .ok (.putfield 113, 3) := dk_181 0 113 (dk_at dksX4_advances_5 14 rfl rfl)
theorem dX4_advances_134 : decode cX4_advances 134 = .ok (.return_, 1) := dk_177 (dk_at dksX4_advances_5 17 rfl rfl)
theorem dX4_advances_135 : decode cX4_advances 135 = .ok (.aload_n 0, 1) := dk_42 (dk_at dksX4_advances_5 18 rfl rfl)
theorem dX4_advances_136 : decode cX4_advances 136 = .ok (.iload_n 1, 1) := dk_27 (dk_at dksX4_advances_5 19 rfl rfl)
theorem dX4_advances_137 : decode cX4_advances 137 = .ok (.ifCond .ge 7, 3) := dk_156 0 7 (dk_at dksX4_advances_5 20 rfl rfl)
theorem dX4_advances_140 : decode cX4_advances 140 = .ok (.iconst 0, 1) := dk_3 (dk_at dksX4_advances_5 23 rfl rfl)
theorem dX4_advances_141 : decode cX4_advances 141 = .ok (.goto 39, 3) := dk_167 0 39 (dk_at dksX4_advances_6 0 rfl rfl)
theorem dX4_advances_144 : decode cX4_advances 144 = .ok (.iload_n 1, 1) := dk_27 (dk_at dksX4_advances_6 3 rfl rfl)
theorem dX4_advances_145 : decode cX4_advances 145 = .ok (.bipush 97, 2) := dk_16 97 (dk_at dksX4_advances_6 4 rfl rfl)
theorem dX4_advances_147 : decode cX4_advances 147 = .ok (.bipush 122, 2) := dk_16 122 (dk_at dksX4_advances_6 6 rfl rfl)
theorem dX4_advances_149 : decode cX4_advances 149 = .ok (.invokestatic 71, 3) := dk_184 0 71 (dk_at dksX4_advances_6 8 rfl rfl)
theorem dX4_advances_152 : decode cX4_advances 152 = .ok (.ifCond .eq 7, 3) := dk_153 0 7 (dk_at dksX4_advances_6 11 rfl rfl)
theorem dX4_advances_155 : decode cX4_advances 155 = .ok (.iconst 1, 1) := dk_4 (dk_at dksX4_advances_6 14 rfl rfl)
theorem dX4_advances_156 : decode cX4_advances 156 = .ok (.goto 24, 3) := dk_167 0 24 (dk_at dksX4_advances_6 15 rfl rfl)
theorem dX4_advances_159 : decode cX4_advances 159 = .ok (.iload_n 1, 1) := dk_27 (dk_at dksX4_advances_6 18 rfl rfl)
theorem dX4_advances_160 : decode cX4_advances 160 = .ok (.bipush 44, 2) := dk_16 44 (dk_at dksX4_advances_6 19 rfl rfl)
theorem dX4_advances_162 : decode cX4_advances 162 = .ok (.if_icmp .ne 7, 3) := dk_160 0 7 (dk_at dksX4_advances_6 21 rfl rfl)
theorem dX4_advances_165 : decode cX4_advances 165 = .ok (.iconst 3, 1) := dk_6 (dk_at dksX4_advances_7 0 rfl rfl)
theorem dX4_advances_166 : decode cX4_advances 166 = .ok (.goto 14, 3) := dk_167 0 14 (dk_at dksX4_advances_7 1 rfl rfl)
theorem dX4_advances_169 : decode cX4_advances 169 = .ok (.iload_n 1, 1) := dk_27 (dk_at dksX4_advances_7 4 rfl rfl)
theorem dX4_advances_170 : decode cX4_advances 170 = .ok (.bipush 59, 2) := dk_16 59 (dk_at dksX4_advances_7 5 rfl rfl)
theorem dX4_advances_172 : decode cX4_advances 172 = .ok (.if_icmp .ne 7, 3) := dk_160 0 7 (dk_at dksX4_advances_7 7 rfl rfl)
theorem dX4_advances_175 : decode cX4_advances 175 = .ok (.iconst 4, 1) := dk_7 (dk_at dksX4_advances_7 10 rfl rfl)
theorem dX4_advances_176 : decode cX4_advances 176 = .ok (.goto 4, 3) := dk_167 0 4 (dk_at dksX4_advances_7 11 rfl rfl)
theorem dX4_advances_179 : decode cX4_advances 179 = .ok (.iconst 5, 1) := dk_8 (dk_at dksX4_advances_7 14 rfl rfl)
theorem dX4_advances_180 : decode cX4_advances 180 = .ok (.putfield 113, 3) := dk_181 0 113 (dk_at dksX4_advances_7 15 rfl rfl)
theorem dX4_advances_183 : decode cX4_advances 183 = .ok (.aload_n 0, 1) := dk_42 (dk_at dksX4_advances_7 18 rfl rfl)
theorem dX4_advances_184 : decode cX4_advances 184 = .ok (.dup, 1) := dk_89 (dk_at dksX4_advances_7 19 rfl rfl)
theorem dX4_advances_185 : decode cX4_advances 185 = .ok (.getfield 101, 3) := dk_180 0 101 (dk_at dksX4_advances_7 20 rfl rfl)
theorem dX4_advances_188 : decode cX4_advances 188 = .ok (.aload_n 0, 1) := dk_42 (dk_at dksX4_advances_7 23 rfl rfl)
theorem dX4_advances_189 : decode cX4_advances 189 = .ok (.getfield 113, 3) := dk_180 0 113 (dk_at dksX4_advances_8 0 rfl rfl)
theorem dX4_advances_192 : decode cX4_advances 192 = .ok (.ifCond .ne 7, 3) := dk_154 0 7 (dk_at dksX4_advances_8 3 rfl rfl)
theorem dX4_advances_195 : decode cX4_advances 195 = .ok (.iconst 0, 1) := dk_3 (dk_at dksX4_advances_8 6 rfl rfl)
theorem dX4_advances_196 : decode cX4_advances 196 = .ok (.goto 4, 3) := dk_167 0 4 (dk_at dksX4_advances_8 7 rfl rfl)
theorem dX4_advances_199 : decode cX4_advances 199 = .ok (.iconst 1, 1) := dk_4 (dk_at dksX4_advances_8 10 rfl rfl)
theorem dX4_advances_200 : decode cX4_advances 200 = .ok (.iadd, 1) := dk_96 (dk_at dksX4_advances_8 11 rfl rfl)
theorem dX4_advances_201 : decode cX4_advances 201 = .ok (.putfield 101, 3) := dk_181 0 101 (dk_at dksX4_advances_8 12 rfl rfl)
theorem dX4_advances_204 : decode cX4_advances 204 = .ok (.return_, 1) := dk_177 (dk_at dksX4_advances_8 15 rfl rfl)
abbrev cX4_byteAt : ByteArray := prog_26_method_17_code
def yX4_byteAt : MethodName := ⟨RX4, "byteAt", "(I)I"⟩
def dkwX4_byteAt_0 : List UInt8 := [27, 42, 180, 0, 97, 162, 0, 12, 42, 180, 0, 22, 27, 46, 167, 0, 4, 2, 172]
abbrev dktX4_byteAt_0 : List UInt8 := dkwX4_byteAt_0 ++ []
theorem dksX4_byteAt_0 : cX4_byteAt.data.toList.drop 0 = dktX4_byteAt_0 := by decide +kernel
theorem dX4_byteAt_0 : decode cX4_byteAt 0 = .ok (.iload_n 1, 1) := dk_27 (dk_at dksX4_byteAt_0 0 rfl rfl)
theorem dX4_byteAt_1 : decode cX4_byteAt 1 = .ok (.aload_n 0, 1) := dk_42 (dk_at dksX4_byteAt_0 1 rfl rfl)
theorem dX4_byteAt_2 : decode cX4_byteAt 2 = .ok (.getfield 97, 3) := dk_180 0 97 (dk_at dksX4_byteAt_0 2 rfl rfl)
theorem dX4_byteAt_5 : decode cX4_byteAt 5 = .ok (.if_icmp .ge 12, 3) := dk_162 0 12 (dk_at dksX4_byteAt_0 5 rfl rfl)
theorem dX4_byteAt_8 : decode cX4_byteAt 8 = .ok (.aload_n 0, 1) := dk_42 (dk_at dksX4_byteAt_0 8 rfl rfl)
theorem dX4_byteAt_9 : decode cX4_byteAt 9 = .ok (.getfield 22, 3) := dk_180 0 22 (dk_at dksX4_byteAt_0 9 rfl rfl)
theorem dX4_byteAt_12 : decode cX4_byteAt 12 = .ok (.iload_n 1, 1) := dk_27 (dk_at dksX4_byteAt_0 12 rfl rfl)
theorem dX4_byteAt_13 : decode cX4_byteAt 13 = .ok (.iaload, 1) := dk_46 (dk_at dksX4_byteAt_0 13 rfl rfl)
theorem dX4_byteAt_14 : decode cX4_byteAt 14 = .ok (.goto 4, 3) := dk_167 0 4 (dk_at dksX4_byteAt_0 14 rfl rfl)
theorem dX4_byteAt_17 : decode cX4_byteAt 17 = .ok (.iconst (-1), 1) := dk_2 (dk_at dksX4_byteAt_0 17 rfl rfl)
theorem dX4_byteAt_18 : decode cX4_byteAt 18 = .ok (.ireturn, 1) := dk_172 (dk_at dksX4_byteAt_0 18 rfl rfl)
abbrev cX4_takes : ByteArray := prog_26_method_20_code
def yX4_takes : MethodName := ⟨RX4, "takes", "(ZI)I"⟩
def dkwX4_takes_1 : List UInt8 := [181, 0, 123, 3, 172, 42, 180, 0, 110, 62, 42, 182, 0, 126, 29, 172]
abbrev dktX4_takes_1 : List UInt8 := dkwX4_takes_1 ++ []
def dkwX4_takes_0 : List UInt8 := [42, 182, 0, 119, 154, 0, 5, 3, 172, 27, 154, 0, 18, 42, 42, 180, 0, 104, 181, 0, 116, 42, 28]
abbrev dktX4_takes_0 : List UInt8 := dkwX4_takes_0 ++ dktX4_takes_1
theorem dksX4_takes_0 : cX4_takes.data.toList.drop 0 = dktX4_takes_0 := by decide +kernel
theorem dksX4_takes_1 : cX4_takes.data.toList.drop 23 = dktX4_takes_1 := dk_seg dksX4_takes_0 23 rfl rfl
theorem dX4_takes_0 : decode cX4_takes 0 = .ok (.aload_n 0, 1) := dk_42 (dk_at dksX4_takes_0 0 rfl rfl)
theorem dX4_takes_1 : decode cX4_takes 1 = .ok (.invokevirtual 119, 3) := dk_182 0 119 (dk_at dksX4_takes_0 1 rfl rfl)
theorem dX4_takes_4 : decode cX4_takes 4 = .ok (.ifCond .ne 5, 3) := dk_154 0 5 (dk_at dksX4_takes_0 4 rfl rfl)
theorem dX4_takes_7 : decode cX4_takes 7 = .ok (.iconst 0, 1) := dk_3 (dk_at dksX4_takes_0 7 rfl rfl)
theorem dX4_takes_8 : decode cX4_takes 8 = .ok (.ireturn, 1) := dk_172 (dk_at dksX4_takes_0 8 rfl rfl)
theorem dX4_takes_9 : decode cX4_takes 9 = .ok (.iload_n 1, 1) := dk_27 (dk_at dksX4_takes_0 9 rfl rfl)
theorem dX4_takes_10 : decode cX4_takes 10 = .ok (.ifCond .ne 18, 3) := dk_154 0 18 (dk_at dksX4_takes_0 10 rfl rfl)
theorem dX4_takes_13 : decode cX4_takes 13 = .ok (.aload_n 0, 1) := dk_42 (dk_at dksX4_takes_0 13 rfl rfl)
theorem dX4_takes_14 : decode cX4_takes 14 = .ok (.aload_n 0, 1) := dk_42 (dk_at dksX4_takes_0 14 rfl rfl)
theorem dX4_takes_15 : decode cX4_takes 15 = .ok (.getfield 104, 3) := dk_180 0 104 (dk_at dksX4_takes_0 15 rfl rfl)
theorem dX4_takes_18 : decode cX4_takes 18 = .ok (.putfield 116, 3) := dk_181 0 116 (dk_at dksX4_takes_0 18 rfl rfl)
theorem dX4_takes_21 : decode cX4_takes 21 = .ok (.aload_n 0, 1) := dk_42 (dk_at dksX4_takes_0 21 rfl rfl)
theorem dX4_takes_22 : decode cX4_takes 22 = .ok (.iload_n 2, 1) := dk_28 (dk_at dksX4_takes_0 22 rfl rfl)
theorem dX4_takes_23 : decode cX4_takes 23 = .ok (.putfield 123, 3) := dk_181 0 123 (dk_at dksX4_takes_1 0 rfl rfl)
theorem dX4_takes_26 : decode cX4_takes 26 = .ok (.iconst 0, 1) := dk_3 (dk_at dksX4_takes_1 3 rfl rfl)
theorem dX4_takes_27 : decode cX4_takes 27 = .ok (.ireturn, 1) := dk_172 (dk_at dksX4_takes_1 4 rfl rfl)
theorem dX4_takes_28 : decode cX4_takes 28 = .ok (.aload_n 0, 1) := dk_42 (dk_at dksX4_takes_1 5 rfl rfl)
theorem dX4_takes_29 : decode cX4_takes 29 = .ok (.getfield 110, 3) := dk_180 0 110 (dk_at dksX4_takes_1 6 rfl rfl)
theorem dX4_takes_32 : decode cX4_takes 32 = .ok (.istore_n 3, 1) := dk_62 (dk_at dksX4_takes_1 9 rfl rfl)
theorem dX4_takes_33 : decode cX4_takes 33 = .ok (.aload_n 0, 1) := dk_42 (dk_at dksX4_takes_1 10 rfl rfl)
theorem dX4_takes_34 : decode cX4_takes 34 = .ok (.invokevirtual 126, 3) := dk_182 0 126 (dk_at dksX4_takes_1 11 rfl rfl)
theorem dX4_takes_37 : decode cX4_takes 37 = .ok (.iload_n 3, 1) := dk_29 (dk_at dksX4_takes_1 14 rfl rfl)
theorem dX4_takes_38 : decode cX4_takes 38 = .ok (.ireturn, 1) := dk_172 (dk_at dksX4_takes_1 15 rfl rfl)
abbrev cX4_isWell : ByteArray := prog_26_method_19_code
def yX4_isWell : MethodName := ⟨RX4, "isWell", "()Z"⟩
def dkwX4_isWell_0 : List UInt8 := [42, 180, 0, 116, 156, 0, 7, 4, 167, 0, 4, 3, 172]
abbrev dktX4_isWell_0 : List UInt8 := dkwX4_isWell_0 ++ []
theorem dksX4_isWell_0 : cX4_isWell.data.toList.drop 0 = dktX4_isWell_0 := by decide +kernel
theorem dX4_isWell_0 : decode cX4_isWell 0 = .ok (.aload_n 0, 1) := dk_42 (dk_at dksX4_isWell_0 0 rfl rfl)
theorem dX4_isWell_1 : decode cX4_isWell 1 = .ok (.getfield 116, 3) := dk_180 0 116 (dk_at dksX4_isWell_0 1 rfl rfl)
theorem dX4_isWell_4 : decode cX4_isWell 4 = .ok (.ifCond .ge 7, 3) := dk_156 0 7 (dk_at dksX4_isWell_0 4 rfl rfl)
theorem dX4_isWell_7 : decode cX4_isWell 7 = .ok (.iconst 1, 1) := dk_4 (dk_at dksX4_isWell_0 7 rfl rfl)
theorem dX4_isWell_8 : decode cX4_isWell 8 = .ok (.goto 4, 3) := dk_167 0 4 (dk_at dksX4_isWell_0 8 rfl rfl)
theorem dX4_isWell_11 : decode cX4_isWell 11 = .ok (.iconst 0, 1) := dk_3 (dk_at dksX4_isWell_0 11 rfl rfl)
theorem dX4_isWell_12 : decode cX4_isWell 12 = .ok (.ireturn, 1) := dk_172 (dk_at dksX4_isWell_0 12 rfl rfl)
abbrev cX4_figure : ByteArray := prog_26_method_21_code
def yX4_figure : MethodName := ⟨RX4, "figure", "(II)I"⟩
def dkwX4_figure_1 : List UInt8 := [180, 0, 110, 27, 28, 184, 0, 71, 5, 182, 0, 129, 172]
abbrev dktX4_figure_1 : List UInt8 := dkwX4_figure_1 ++ []
def dkwX4_figure_0 : List UInt8 := [42, 182, 0, 119, 153, 0, 18, 42, 180, 0, 113, 5, 159, 0, 10, 42, 3, 4, 182, 0, 129, 172, 42, 42]
abbrev dktX4_figure_0 : List UInt8 := dkwX4_figure_0 ++ dktX4_figure_1
theorem dksX4_figure_0 : cX4_figure.data.toList.drop 0 = dktX4_figure_0 := by decide +kernel
theorem dksX4_figure_1 : cX4_figure.data.toList.drop 24 = dktX4_figure_1 := dk_seg dksX4_figure_0 24 rfl rfl
theorem dX4_figure_0 : decode cX4_figure 0 = .ok (.aload_n 0, 1) := dk_42 (dk_at dksX4_figure_0 0 rfl rfl)
theorem dX4_figure_1 : decode cX4_figure 1 = .ok (.invokevirtual 119, 3) := dk_182 0 119 (dk_at dksX4_figure_0 1 rfl rfl)
theorem dX4_figure_4 : decode cX4_figure 4 = .ok (.ifCond .eq 18, 3) := dk_153 0 18 (dk_at dksX4_figure_0 4 rfl rfl)
theorem dX4_figure_7 : decode cX4_figure 7 = .ok (.aload_n 0, 1) := dk_42 (dk_at dksX4_figure_0 7 rfl rfl)
theorem dX4_figure_8 : decode cX4_figure 8 = .ok (.getfield 113, 3) := dk_180 0 113 (dk_at dksX4_figure_0 8 rfl rfl)
theorem dX4_figure_11 : decode cX4_figure 11 = .ok (.iconst 2, 1) := dk_5 (dk_at dksX4_figure_0 11 rfl rfl)
theorem dX4_figure_12 : decode cX4_figure 12 = .ok (.if_icmp .eq 10, 3) := dk_159 0 10 (dk_at dksX4_figure_0 12 rfl rfl)
theorem dX4_figure_15 : decode cX4_figure 15 = .ok (.aload_n 0, 1) := dk_42 (dk_at dksX4_figure_0 15 rfl rfl)
theorem dX4_figure_16 : decode cX4_figure 16 = .ok (.iconst 0, 1) := dk_3 (dk_at dksX4_figure_0 16 rfl rfl)
theorem dX4_figure_17 : decode cX4_figure 17 = .ok (.iconst 1, 1) := dk_4 (dk_at dksX4_figure_0 17 rfl rfl)
theorem dX4_figure_18 : decode cX4_figure 18 = .ok (.invokevirtual 129, 3) := dk_182 0 129 (dk_at dksX4_figure_0 18 rfl rfl)
theorem dX4_figure_21 : decode cX4_figure 21 = .ok (.ireturn, 1) := dk_172 (dk_at dksX4_figure_0 21 rfl rfl)
theorem dX4_figure_22 : decode cX4_figure 22 = .ok (.aload_n 0, 1) := dk_42 (dk_at dksX4_figure_0 22 rfl rfl)
theorem dX4_figure_23 : decode cX4_figure 23 = .ok (.aload_n 0, 1) := dk_42 (dk_at dksX4_figure_0 23 rfl rfl)
theorem dX4_figure_24 : decode cX4_figure 24 = .ok (.getfield 110, 3) := dk_180 0 110 (dk_at dksX4_figure_1 0 rfl rfl)
theorem dX4_figure_27 : decode cX4_figure 27 = .ok (.iload_n 1, 1) := dk_27 (dk_at dksX4_figure_1 3 rfl rfl)
theorem dX4_figure_28 : decode cX4_figure 28 = .ok (.iload_n 2, 1) := dk_28 (dk_at dksX4_figure_1 4 rfl rfl)
theorem dX4_figure_29 : decode cX4_figure 29 = .ok (.invokestatic 71, 3) := dk_184 0 71 (dk_at dksX4_figure_1 5 rfl rfl)
theorem dX4_figure_32 : decode cX4_figure 32 = .ok (.iconst 2, 1) := dk_5 (dk_at dksX4_figure_1 8 rfl rfl)
theorem dX4_figure_33 : decode cX4_figure 33 = .ok (.invokevirtual 129, 3) := dk_182 0 129 (dk_at dksX4_figure_1 9 rfl rfl)
theorem dX4_figure_36 : decode cX4_figure 36 = .ok (.ireturn, 1) := dk_172 (dk_at dksX4_figure_1 12 rfl rfl)
abbrev cX4_follows : ByteArray := prog_26_method_23_code
def yX4_follows : MethodName := ⟨RX4, "follows", "(II)I"⟩
def dkwX4_follows_1 : List UInt8 := [182, 0, 133, 172]
abbrev dktX4_follows_1 : List UInt8 := dkwX4_follows_1 ++ []
def dkwX4_follows_0 : List UInt8 := [42, 42, 180, 0, 113, 6, 160, 0, 7, 4, 167, 0, 4, 3, 4, 182, 0, 129, 87, 42, 27, 28]
abbrev dktX4_follows_0 : List UInt8 := dkwX4_follows_0 ++ dktX4_follows_1
theorem dksX4_follows_0 : cX4_follows.data.toList.drop 0 = dktX4_follows_0 := by decide +kernel
theorem dksX4_follows_1 : cX4_follows.data.toList.drop 22 = dktX4_follows_1 := dk_seg dksX4_follows_0 22 rfl rfl
theorem dX4_follows_0 : decode cX4_follows 0 = .ok (.aload_n 0, 1) := dk_42 (dk_at dksX4_follows_0 0 rfl rfl)
theorem dX4_follows_1 : decode cX4_follows 1 = .ok (.aload_n 0, 1) := dk_42 (dk_at dksX4_follows_0 1 rfl rfl)
theorem dX4_follows_2 : decode cX4_follows 2 = .ok (.getfield 113, 3) := dk_180 0 113 (dk_at dksX4_follows_0 2 rfl rfl)
theorem dX4_follows_5 : decode cX4_follows 5 = .ok (.iconst 3, 1) := dk_6 (dk_at dksX4_follows_0 5 rfl rfl)
theorem dX4_follows_6 : decode cX4_follows 6 = .ok (.if_icmp .ne 7, 3) := dk_160 0 7 (dk_at dksX4_follows_0 6 rfl rfl)
theorem dX4_follows_9 : decode cX4_follows 9 = .ok (.iconst 1, 1) := dk_4 (dk_at dksX4_follows_0 9 rfl rfl)
theorem dX4_follows_10 : decode cX4_follows 10 = .ok (.goto 4, 3) := dk_167 0 4 (dk_at dksX4_follows_0 10 rfl rfl)
theorem dX4_follows_13 : decode cX4_follows 13 = .ok (.iconst 0, 1) := dk_3 (dk_at dksX4_follows_0 13 rfl rfl)
theorem dX4_follows_14 : decode cX4_follows 14 = .ok (.iconst 1, 1) := dk_4 (dk_at dksX4_follows_0 14 rfl rfl)
theorem dX4_follows_15 : decode cX4_follows 15 = .ok (.invokevirtual 129, 3) := dk_182 0 129 (dk_at dksX4_follows_0 15 rfl rfl)
theorem dX4_follows_18 : decode cX4_follows 18 = .ok (.pop, 1) := dk_87 (dk_at dksX4_follows_0 18 rfl rfl)
theorem dX4_follows_19 : decode cX4_follows 19 = .ok (.aload_n 0, 1) := dk_42 (dk_at dksX4_follows_0 19 rfl rfl)
theorem dX4_follows_20 : decode cX4_follows 20 = .ok (.iload_n 1, 1) := dk_27 (dk_at dksX4_follows_0 20 rfl rfl)
theorem dX4_follows_21 : decode cX4_follows 21 = .ok (.iload_n 2, 1) := dk_28 (dk_at dksX4_follows_0 21 rfl rfl)
theorem dX4_follows_22 : decode cX4_follows 22 = .ok (.invokevirtual 133, 3) := dk_182 0 133 (dk_at dksX4_follows_1 0 rfl rfl)
theorem dX4_follows_25 : decode cX4_follows 25 = .ok (.ireturn, 1) := dk_172 (dk_at dksX4_follows_1 3 rfl rfl)
abbrev cX4_kindOf : ByteArray := prog_26_method_22_code
def yX4_kindOf : MethodName := ⟨RX4, "kindOf", "(I)I"⟩
def dkwX4_kindOf_2 : List UInt8 := [167, 0, 4, 3, 172]
abbrev dktX4_kindOf_2 : List UInt8 := dkwX4_kindOf_2 ++ []
def dkwX4_kindOf_1 : List UInt8 := [160, 0, 7, 6, 167, 0, 24, 26, 16, 103, 160, 0, 7, 7, 167, 0, 14, 26, 16, 114, 160, 0, 7, 8]
abbrev dktX4_kindOf_1 : List UInt8 := dkwX4_kindOf_1 ++ dktX4_kindOf_2
def dkwX4_kindOf_0 : List UInt8 := [26, 16, 106, 160, 0, 7, 4, 167, 0, 44, 26, 16, 108, 160, 0, 7, 5, 167, 0, 34, 26, 16, 104]
abbrev dktX4_kindOf_0 : List UInt8 := dkwX4_kindOf_0 ++ dktX4_kindOf_1
theorem dksX4_kindOf_0 : cX4_kindOf.data.toList.drop 0 = dktX4_kindOf_0 := by decide +kernel
theorem dksX4_kindOf_1 : cX4_kindOf.data.toList.drop 23 = dktX4_kindOf_1 := dk_seg dksX4_kindOf_0 23 rfl rfl
theorem dksX4_kindOf_2 : cX4_kindOf.data.toList.drop 47 = dktX4_kindOf_2 := dk_seg dksX4_kindOf_1 24 rfl rfl
theorem dX4_kindOf_0 : decode cX4_kindOf 0 = .ok (.iload_n 0, 1) := dk_26 (dk_at dksX4_kindOf_0 0 rfl rfl)
theorem dX4_kindOf_1 : decode cX4_kindOf 1 = .ok (.bipush 106, 2) := dk_16 106 (dk_at dksX4_kindOf_0 1 rfl rfl)
theorem dX4_kindOf_3 : decode cX4_kindOf 3 = .ok (.if_icmp .ne 7, 3) := dk_160 0 7 (dk_at dksX4_kindOf_0 3 rfl rfl)
theorem dX4_kindOf_6 : decode cX4_kindOf 6 = .ok (.iconst 1, 1) := dk_4 (dk_at dksX4_kindOf_0 6 rfl rfl)
theorem dX4_kindOf_7 : decode cX4_kindOf 7 = .ok (.goto 44, 3) := dk_167 0 44 (dk_at dksX4_kindOf_0 7 rfl rfl)
theorem dX4_kindOf_10 : decode cX4_kindOf 10 = .ok (.iload_n 0, 1) := dk_26 (dk_at dksX4_kindOf_0 10 rfl rfl)
theorem dX4_kindOf_11 : decode cX4_kindOf 11 = .ok (.bipush 108, 2) := dk_16 108 (dk_at dksX4_kindOf_0 11 rfl rfl)
theorem dX4_kindOf_13 : decode cX4_kindOf 13 = .ok (.if_icmp .ne 7, 3) := dk_160 0 7 (dk_at dksX4_kindOf_0 13 rfl rfl)
theorem dX4_kindOf_16 : decode cX4_kindOf 16 = .ok (.iconst 2, 1) := dk_5 (dk_at dksX4_kindOf_0 16 rfl rfl)
theorem dX4_kindOf_17 : decode cX4_kindOf 17 = .ok (.goto 34, 3) := dk_167 0 34 (dk_at dksX4_kindOf_0 17 rfl rfl)
theorem dX4_kindOf_20 : decode cX4_kindOf 20 = .ok (.iload_n 0, 1) := dk_26 (dk_at dksX4_kindOf_0 20 rfl rfl)
theorem dX4_kindOf_21 : decode cX4_kindOf 21 = .ok (.bipush 104, 2) := dk_16 104 (dk_at dksX4_kindOf_0 21 rfl rfl)
theorem dX4_kindOf_23 : decode cX4_kindOf 23 = .ok (.if_icmp .ne 7, 3) := dk_160 0 7 (dk_at dksX4_kindOf_1 0 rfl rfl)
theorem dX4_kindOf_26 : decode cX4_kindOf 26 = .ok (.iconst 3, 1) := dk_6 (dk_at dksX4_kindOf_1 3 rfl rfl)
theorem dX4_kindOf_27 : decode cX4_kindOf 27 = .ok (.goto 24, 3) := dk_167 0 24 (dk_at dksX4_kindOf_1 4 rfl rfl)
theorem dX4_kindOf_30 : decode cX4_kindOf 30 = .ok (.iload_n 0, 1) := dk_26 (dk_at dksX4_kindOf_1 7 rfl rfl)
theorem dX4_kindOf_31 : decode cX4_kindOf 31 = .ok (.bipush 103, 2) := dk_16 103 (dk_at dksX4_kindOf_1 8 rfl rfl)
theorem dX4_kindOf_33 : decode cX4_kindOf 33 = .ok (.if_icmp .ne 7, 3) := dk_160 0 7 (dk_at dksX4_kindOf_1 10 rfl rfl)
theorem dX4_kindOf_36 : decode cX4_kindOf 36 = .ok (.iconst 4, 1) := dk_7 (dk_at dksX4_kindOf_1 13 rfl rfl)
theorem dX4_kindOf_37 : decode cX4_kindOf 37 = .ok (.goto 14, 3) := dk_167 0 14 (dk_at dksX4_kindOf_1 14 rfl rfl)
theorem dX4_kindOf_40 : decode cX4_kindOf 40 = .ok (.iload_n 0, 1) := dk_26 (dk_at dksX4_kindOf_1 17 rfl rfl)
theorem dX4_kindOf_41 : decode cX4_kindOf 41 = .ok (.bipush 114, 2) := dk_16 114 (dk_at dksX4_kindOf_1 18 rfl rfl)
theorem dX4_kindOf_43 : decode cX4_kindOf 43 = .ok (.if_icmp .ne 7, 3) := dk_160 0 7 (dk_at dksX4_kindOf_1 20 rfl rfl)
theorem dX4_kindOf_46 : decode cX4_kindOf 46 = .ok (.iconst 5, 1) := dk_8 (dk_at dksX4_kindOf_1 23 rfl rfl)
theorem dX4_kindOf_47 : decode cX4_kindOf 47 = .ok (.goto 4, 3) := dk_167 0 4 (dk_at dksX4_kindOf_2 0 rfl rfl)
theorem dX4_kindOf_50 : decode cX4_kindOf 50 = .ok (.iconst 0, 1) := dk_3 (dk_at dksX4_kindOf_2 3 rfl rfl)
theorem dX4_kindOf_51 : decode cX4_kindOf 51 = .ok (.ireturn, 1) := dk_172 (dk_at dksX4_kindOf_2 4 rfl rfl)
abbrev cX4_readsCorner : ByteArray := prog_26_method_24_code
def yX4_readsCorner : MethodName := ⟨RX4, "readsCorner", "()V"⟩
def dkwX4_readsCorner_6 : List UInt8 := [177]
abbrev dktX4_readsCorner_6 : List UInt8 := dkwX4_readsCorner_6 ++ []
def dkwX4_readsCorner_5 : List UInt8 := [96, 29, 79, 42, 180, 0, 28, 28, 5, 96, 21, 4, 79, 42, 180, 0, 28, 16, 6, 92, 46, 4, 96, 79]
abbrev dktX4_readsCorner_5 : List UInt8 := dkwX4_readsCorner_5 ++ dktX4_readsCorner_6
def dkwX4_readsCorner_4 : List UInt8 := [182, 0, 129, 87, 42, 182, 0, 119, 153, 0, 40, 42, 180, 0, 28, 28, 27, 79, 42, 180, 0, 28, 28, 4]
abbrev dktX4_readsCorner_4 : List UInt8 := dkwX4_readsCorner_4 ++ dktX4_readsCorner_5
def dkwX4_readsCorner_3 : List UInt8 := [16, 9, 182, 0, 139, 54, 4, 42, 42, 180, 0, 113, 7, 160, 0, 7, 4, 167, 0, 4, 3, 4]
abbrev dktX4_readsCorner_3 : List UInt8 := dkwX4_readsCorner_3 ++ dktX4_readsCorner_4
def dkwX4_readsCorner_2 : List UInt8 := [42, 180, 0, 28, 16, 6, 46, 167, 0, 4, 3, 104, 96, 61, 42, 3, 16, 9, 182, 0, 133, 62, 42, 3]
abbrev dktX4_readsCorner_2 : List UInt8 := dkwX4_readsCorner_2 ++ dktX4_readsCorner_3
def dkwX4_readsCorner_1 : List UInt8 := [167, 0, 4, 3, 6, 182, 0, 129, 87, 16, 7, 6, 42, 180, 0, 28, 16, 6, 46, 16, 6, 162, 0, 13]
abbrev dktX4_readsCorner_1 : List UInt8 := dkwX4_readsCorner_1 ++ dktX4_readsCorner_2
def dkwX4_readsCorner_0 : List UInt8 := [42, 180, 0, 110, 184, 0, 136, 60, 42, 42, 180, 0, 28, 16, 6, 46, 16, 6, 162, 0, 7, 4]
abbrev dktX4_readsCorner_0 : List UInt8 := dkwX4_readsCorner_0 ++ dktX4_readsCorner_1
theorem dksX4_readsCorner_0 : cX4_readsCorner.data.toList.drop 0 = dktX4_readsCorner_0 := by decide +kernel
theorem dksX4_readsCorner_1 : cX4_readsCorner.data.toList.drop 22 = dktX4_readsCorner_1 := dk_seg dksX4_readsCorner_0 22 rfl rfl
theorem dksX4_readsCorner_2 : cX4_readsCorner.data.toList.drop 46 = dktX4_readsCorner_2 := dk_seg dksX4_readsCorner_1 24 rfl rfl
theorem dksX4_readsCorner_3 : cX4_readsCorner.data.toList.drop 70 = dktX4_readsCorner_3 := dk_seg dksX4_readsCorner_2 24 rfl rfl
theorem dksX4_readsCorner_4 : cX4_readsCorner.data.toList.drop 92 = dktX4_readsCorner_4 := dk_seg dksX4_readsCorner_3 22 rfl rfl
theorem dksX4_readsCorner_5 : cX4_readsCorner.data.toList.drop 116 = dktX4_readsCorner_5 := dk_seg dksX4_readsCorner_4 24 rfl rfl
theorem dksX4_readsCorner_6 : cX4_readsCorner.data.toList.drop 140 = dktX4_readsCorner_6 := dk_seg dksX4_readsCorner_5 24 rfl rfl
theorem dX4_readsCorner_0 : decode cX4_readsCorner 0 = .ok (.aload_n 0, 1) := dk_42 (dk_at dksX4_readsCorner_0 0 rfl rfl)
theorem dX4_readsCorner_1 : decode cX4_readsCorner 1 = .ok (.getfield 110, 3) := dk_180 0 110 (dk_at dksX4_readsCorner_0 1 rfl rfl)
theorem dX4_readsCorner_4 : decode cX4_readsCorner 4 = .ok (.invokestatic 136, 3) := dk_184 0 136 (dk_at dksX4_readsCorner_0 4 rfl rfl)
theorem dX4_readsCorner_7 : decode cX4_readsCorner 7 = .ok (.istore_n 1, 1) := dk_60 (dk_at dksX4_readsCorner_0 7 rfl rfl)
theorem dX4_readsCorner_8 : decode cX4_readsCorner 8 = .ok (.aload_n 0, 1) := dk_42 (dk_at dksX4_readsCorner_0 8 rfl rfl)
theorem dX4_readsCorner_9 : decode cX4_readsCorner 9 = .ok (.aload_n 0, 1) := dk_42 (dk_at dksX4_readsCorner_0 9 rfl rfl)
theorem dX4_readsCorner_10 : decode cX4_readsCorner 10 = .ok (.getfield 28, 3) := dk_180 0 28 (dk_at dksX4_readsCorner_0 10 rfl rfl)
theorem dX4_readsCorner_13 : decode cX4_readsCorner 13 = .ok (.bipush 6, 2) := dk_16 6 (dk_at dksX4_readsCorner_0 13 rfl rfl)
theorem dX4_readsCorner_15 : decode cX4_readsCorner 15 = .ok (.iaload, 1) := dk_46 (dk_at dksX4_readsCorner_0 15 rfl rfl)
theorem dX4_readsCorner_16 : decode cX4_readsCorner 16 = .ok (.bipush 6, 2) := dk_16 6 (dk_at dksX4_readsCorner_0 16 rfl rfl)
theorem dX4_readsCorner_18 : decode cX4_readsCorner 18 = .ok (.if_icmp .ge 7, 3) := dk_162 0 7 (dk_at dksX4_readsCorner_0 18 rfl rfl)
theorem dX4_readsCorner_21 : decode cX4_readsCorner 21 = .ok (.iconst 1, 1) := dk_4 (dk_at dksX4_readsCorner_0 21 rfl rfl)
theorem dX4_readsCorner_22 : decode cX4_readsCorner 22 = .ok (.goto 4, 3) := dk_167 0 4 (dk_at dksX4_readsCorner_1 0 rfl rfl)
theorem dX4_readsCorner_25 : decode cX4_readsCorner 25 = .ok (.iconst 0, 1) := dk_3 (dk_at dksX4_readsCorner_1 3 rfl rfl)
theorem dX4_readsCorner_26 : decode cX4_readsCorner 26 = .ok (.iconst 3, 1) := dk_6 (dk_at dksX4_readsCorner_1 4 rfl rfl)
theorem dX4_readsCorner_27 : decode cX4_readsCorner 27 = .ok (.invokevirtual 129, 3) := dk_182 0 129 (dk_at dksX4_readsCorner_1 5 rfl rfl)
theorem dX4_readsCorner_30 : decode cX4_readsCorner 30 = .ok (.pop, 1) := dk_87 (dk_at dksX4_readsCorner_1 8 rfl rfl)
theorem dX4_readsCorner_31 : decode cX4_readsCorner 31 = .ok (.bipush 7, 2) := dk_16 7 (dk_at dksX4_readsCorner_1 9 rfl rfl)
theorem dX4_readsCorner_33 : decode cX4_readsCorner 33 = .ok (.iconst 3, 1) := dk_6 (dk_at dksX4_readsCorner_1 11 rfl rfl)
theorem dX4_readsCorner_34 : decode cX4_readsCorner 34 = .ok (.aload_n 0, 1) := dk_42 (dk_at dksX4_readsCorner_1 12 rfl rfl)
theorem dX4_readsCorner_35 : decode cX4_readsCorner 35 = .ok (.getfield 28, 3) := dk_180 0 28 (dk_at dksX4_readsCorner_1 13 rfl rfl)
theorem dX4_readsCorner_38 : decode cX4_readsCorner 38 = .ok (.bipush 6, 2) := dk_16 6 (dk_at dksX4_readsCorner_1 16 rfl rfl)
theorem dX4_readsCorner_40 : decode cX4_readsCorner 40 = .ok (.iaload, 1) := dk_46 (dk_at dksX4_readsCorner_1 18 rfl rfl)
theorem dX4_readsCorner_41 : decode cX4_readsCorner 41 = .ok (.bipush 6, 2) := dk_16 6 (dk_at dksX4_readsCorner_1 19 rfl rfl)
theorem dX4_readsCorner_43 : decode cX4_readsCorner 43 = .ok (.if_icmp .ge 13, 3) := dk_162 0 13 (dk_at dksX4_readsCorner_1 21 rfl rfl)
theorem dX4_readsCorner_46 : decode cX4_readsCorner 46 = .ok (.aload_n 0, 1) := dk_42 (dk_at dksX4_readsCorner_2 0 rfl rfl)
theorem dX4_readsCorner_47 : decode cX4_readsCorner 47 = .ok (.getfield 28, 3) := dk_180 0 28 (dk_at dksX4_readsCorner_2 1 rfl rfl)
theorem dX4_readsCorner_50 : decode cX4_readsCorner 50 = .ok (.bipush 6, 2) := dk_16 6 (dk_at dksX4_readsCorner_2 4 rfl rfl)
theorem dX4_readsCorner_52 : decode cX4_readsCorner 52 = .ok (.iaload, 1) := dk_46 (dk_at dksX4_readsCorner_2 6 rfl rfl)
theorem dX4_readsCorner_53 : decode cX4_readsCorner 53 = .ok (.goto 4, 3) := dk_167 0 4 (dk_at dksX4_readsCorner_2 7 rfl rfl)
theorem dX4_readsCorner_56 : decode cX4_readsCorner 56 = .ok (.iconst 0, 1) := dk_3 (dk_at dksX4_readsCorner_2 10 rfl rfl)
theorem dX4_readsCorner_57 : decode cX4_readsCorner 57 = .ok (.imul, 1) := dk_104 (dk_at dksX4_readsCorner_2 11 rfl rfl)
theorem dX4_readsCorner_58 : decode cX4_readsCorner 58 = .ok (.iadd, 1) := dk_96 (dk_at dksX4_readsCorner_2 12 rfl rfl)
theorem dX4_readsCorner_59 : decode cX4_readsCorner 59 = .ok (.istore_n 2, 1) := dk_61 (dk_at dksX4_readsCorner_2 13 rfl rfl)
theorem dX4_readsCorner_60 : decode cX4_readsCorner 60 = .ok (.aload_n 0, 1) := dk_42 (dk_at dksX4_readsCorner_2 14 rfl rfl)
theorem dX4_readsCorner_61 : decode cX4_readsCorner 61 = .ok (.iconst 0, 1) := dk_3 (dk_at dksX4_readsCorner_2 15 rfl rfl)
theorem dX4_readsCorner_62 : decode cX4_readsCorner 62 = .ok (.bipush 9, 2) := dk_16 9 (dk_at dksX4_readsCorner_2 16 rfl rfl)
theorem dX4_readsCorner_64 : decode cX4_readsCorner 64 = .ok (.invokevirtual 133, 3) := dk_182 0 133 (dk_at dksX4_readsCorner_2 18 rfl rfl)
theorem dX4_readsCorner_67 : decode cX4_readsCorner 67 = .ok (.istore_n 3, 1) := dk_62 (dk_at dksX4_readsCorner_2 21 rfl rfl)
theorem dX4_readsCorner_68 : decode cX4_readsCorner 68 = .ok (.aload_n 0, 1) := dk_42 (dk_at dksX4_readsCorner_2 22 rfl rfl)
theorem dX4_readsCorner_69 : decode cX4_readsCorner 69 = .ok (.iconst 0, 1) := dk_3 (dk_at dksX4_readsCorner_2 23 rfl rfl)
theorem dX4_readsCorner_70 : decode cX4_readsCorner 70 = .ok (.bipush 9, 2) := dk_16 9 (dk_at dksX4_readsCorner_3 0 rfl rfl)
theorem dX4_readsCorner_72 : decode cX4_readsCorner 72 = .ok (.invokevirtual 139, 3) := dk_182 0 139 (dk_at dksX4_readsCorner_3 2 rfl rfl)
theorem dX4_readsCorner_75 : decode cX4_readsCorner 75 = .ok (.istore 4, 2) := dk_54 4 (dk_at dksX4_readsCorner_3 5 rfl rfl)
theorem dX4_readsCorner_77 : decode cX4_readsCorner 77 = .ok (.aload_n 0, 1) := dk_42 (dk_at dksX4_readsCorner_3 7 rfl rfl)
theorem dX4_readsCorner_78 : decode cX4_readsCorner 78 = .ok (.aload_n 0, 1) := dk_42 (dk_at dksX4_readsCorner_3 8 rfl rfl)
theorem dX4_readsCorner_79 : decode cX4_readsCorner 79 = .ok (.getfield 113, 3) := dk_180 0 113 (dk_at dksX4_readsCorner_3 9 rfl rfl)
theorem dX4_readsCorner_82 : decode cX4_readsCorner 82 = .ok (.iconst 4, 1) := dk_7 (dk_at dksX4_readsCorner_3 12 rfl rfl)
theorem dX4_readsCorner_83 : decode cX4_readsCorner 83 = .ok (.if_icmp .ne 7, 3) := dk_160 0 7 (dk_at dksX4_readsCorner_3 13 rfl rfl)
theorem dX4_readsCorner_86 : decode cX4_readsCorner 86 = .ok (.iconst 1, 1) := dk_4 (dk_at dksX4_readsCorner_3 16 rfl rfl)
theorem dX4_readsCorner_87 : decode cX4_readsCorner 87 = .ok (.goto 4, 3) := dk_167 0 4 (dk_at dksX4_readsCorner_3 17 rfl rfl)
theorem dX4_readsCorner_90 : decode cX4_readsCorner 90 = .ok (.iconst 0, 1) := dk_3 (dk_at dksX4_readsCorner_3 20 rfl rfl)
theorem dX4_readsCorner_91 : decode cX4_readsCorner 91 = .ok (.iconst 1, 1) := dk_4 (dk_at dksX4_readsCorner_3 21 rfl rfl)
theorem dX4_readsCorner_92 : decode cX4_readsCorner 92 = .ok (.invokevirtual 129, 3) := dk_182 0 129 (dk_at dksX4_readsCorner_4 0 rfl rfl)
theorem dX4_readsCorner_95 : decode cX4_readsCorner 95 = .ok (.pop, 1) := dk_87 (dk_at dksX4_readsCorner_4 3 rfl rfl)
theorem dX4_readsCorner_96 : decode cX4_readsCorner 96 = .ok (.aload_n 0, 1) := dk_42 (dk_at dksX4_readsCorner_4 4 rfl rfl)
theorem dX4_readsCorner_97 : decode cX4_readsCorner 97 = .ok (.invokevirtual 119, 3) := dk_182 0 119 (dk_at dksX4_readsCorner_4 5 rfl rfl)
theorem dX4_readsCorner_100 : decode cX4_readsCorner 100 = .ok (.ifCond .eq 40, 3) := dk_153 0 40 (dk_at dksX4_readsCorner_4 8 rfl rfl)
theorem dX4_readsCorner_103 : decode cX4_readsCorner 103 = .ok (.aload_n 0, 1) := dk_42 (dk_at dksX4_readsCorner_4 11 rfl rfl)
theorem dX4_readsCorner_104 : decode cX4_readsCorner 104 = .ok (.getfield 28, 3) := dk_180 0 28 (dk_at dksX4_readsCorner_4 12 rfl rfl)
theorem dX4_readsCorner_107 : decode cX4_readsCorner 107 = .ok (.iload_n 2, 1) := dk_28 (dk_at dksX4_readsCorner_4 15 rfl rfl)
theorem dX4_readsCorner_108 : decode cX4_readsCorner 108 = .ok (.iload_n 1, 1) := dk_27 (dk_at dksX4_readsCorner_4 16 rfl rfl)
theorem dX4_readsCorner_109 : decode cX4_readsCorner 109 = .ok (.iastore, 1) := dk_79 (dk_at dksX4_readsCorner_4 17 rfl rfl)
theorem dX4_readsCorner_110 : decode cX4_readsCorner 110 = .ok (.aload_n 0, 1) := dk_42 (dk_at dksX4_readsCorner_4 18 rfl rfl)
theorem dX4_readsCorner_111 : decode cX4_readsCorner 111 = .ok (.getfield 28, 3) := dk_180 0 28 (dk_at dksX4_readsCorner_4 19 rfl rfl)
theorem dX4_readsCorner_114 : decode cX4_readsCorner 114 = .ok (.iload_n 2, 1) := dk_28 (dk_at dksX4_readsCorner_4 22 rfl rfl)
theorem dX4_readsCorner_115 : decode cX4_readsCorner 115 = .ok (.iconst 1, 1) := dk_4 (dk_at dksX4_readsCorner_4 23 rfl rfl)
theorem dX4_readsCorner_116 : decode cX4_readsCorner 116 = .ok (.iadd, 1) := dk_96 (dk_at dksX4_readsCorner_5 0 rfl rfl)
theorem dX4_readsCorner_117 : decode cX4_readsCorner 117 = .ok (.iload_n 3, 1) := dk_29 (dk_at dksX4_readsCorner_5 1 rfl rfl)
theorem dX4_readsCorner_118 : decode cX4_readsCorner 118 = .ok (.iastore, 1) := dk_79 (dk_at dksX4_readsCorner_5 2 rfl rfl)
theorem dX4_readsCorner_119 : decode cX4_readsCorner 119 = .ok (.aload_n 0, 1) := dk_42 (dk_at dksX4_readsCorner_5 3 rfl rfl)
theorem dX4_readsCorner_120 : decode cX4_readsCorner 120 = .ok (.getfield 28, 3) := dk_180 0 28 (dk_at dksX4_readsCorner_5 4 rfl rfl)
theorem dX4_readsCorner_123 : decode cX4_readsCorner 123 = .ok (.iload_n 2, 1) := dk_28 (dk_at dksX4_readsCorner_5 7 rfl rfl)
theorem dX4_readsCorner_124 : decode cX4_readsCorner 124 = .ok (.iconst 2, 1) := dk_5 (dk_at dksX4_readsCorner_5 8 rfl rfl)
theorem dX4_readsCorner_125 : decode cX4_readsCorner 125 = .ok (.iadd, 1) := dk_96 (dk_at dksX4_readsCorner_5 9 rfl rfl)
theorem dX4_readsCorner_126 : decode cX4_readsCorner 126 = .ok (.iload 4, 2) := dk_21 4 (dk_at dksX4_readsCorner_5 10 rfl rfl)
theorem dX4_readsCorner_128 : decode cX4_readsCorner 128 = .ok (.iastore, 1) := dk_79 (dk_at dksX4_readsCorner_5 12 rfl rfl)
theorem dX4_readsCorner_129 : decode cX4_readsCorner 129 = .ok (.aload_n 0, 1) := dk_42 (dk_at dksX4_readsCorner_5 13 rfl rfl)
theorem dX4_readsCorner_130 : decode cX4_readsCorner 130 = .ok (.getfield 28, 3) := dk_180 0 28 (dk_at dksX4_readsCorner_5 14 rfl rfl)
theorem dX4_readsCorner_133 : decode cX4_readsCorner 133 = .ok (.bipush 6, 2) := dk_16 6 (dk_at dksX4_readsCorner_5 17 rfl rfl)
theorem dX4_readsCorner_135 : decode cX4_readsCorner 135 = .ok (.dup2, 1) := dk_92 (dk_at dksX4_readsCorner_5 19 rfl rfl)
theorem dX4_readsCorner_136 : decode cX4_readsCorner 136 = .ok (.iaload, 1) := dk_46 (dk_at dksX4_readsCorner_5 20 rfl rfl)
theorem dX4_readsCorner_137 : decode cX4_readsCorner 137 = .ok (.iconst 1, 1) := dk_4 (dk_at dksX4_readsCorner_5 21 rfl rfl)
theorem dX4_readsCorner_138 : decode cX4_readsCorner 138 = .ok (.iadd, 1) := dk_96 (dk_at dksX4_readsCorner_5 22 rfl rfl)
theorem dX4_readsCorner_139 : decode cX4_readsCorner 139 = .ok (.iastore, 1) := dk_79 (dk_at dksX4_readsCorner_5 23 rfl rfl)
theorem dX4_readsCorner_140 : decode cX4_readsCorner 140 = .ok (.return_, 1) := dk_177 (dk_at dksX4_readsCorner_6 0 rfl rfl)
abbrev cX4_readsStreet : ByteArray := prog_26_method_27_code
def yX4_readsStreet : MethodName := ⟨RX4, "readsStreet", "()V"⟩
def dkwX4_readsStreet_7 : List UInt8 := [177]
abbrev dktX4_readsStreet_7 : List UInt8 := dkwX4_readsStreet_7 ++ []
def dkwX4_readsStreet_6 : List UInt8 := [92, 46, 4, 42, 180, 0, 28, 16, 25, 46, 120, 128, 79, 42, 180, 0, 28, 16, 25, 92, 46, 4, 96, 79]
abbrev dktX4_readsStreet_6 : List UInt8 := dkwX4_readsStreet_6 ++ dktX4_readsStreet_7
def dkwX4_readsStreet_5 : List UInt8 := [153, 0, 48, 42, 180, 0, 28, 27, 28, 79, 42, 180, 0, 28, 27, 4, 96, 29, 79, 42, 180, 0, 28, 8]
abbrev dktX4_readsStreet_5 : List UInt8 := dkwX4_readsStreet_5 ++ dktX4_readsStreet_6
def dkwX4_readsStreet_4 : List UInt8 := [42, 180, 0, 113, 7, 160, 0, 7, 4, 167, 0, 4, 3, 4, 182, 0, 129, 87, 42, 182, 0, 119]
abbrev dktX4_readsStreet_4 : List UInt8 := dkwX4_readsStreet_4 ++ dktX4_readsStreet_5
def dkwX4_readsStreet_3 : List UInt8 := [180, 0, 113, 6, 160, 0, 7, 4, 167, 0, 4, 3, 4, 182, 0, 129, 87, 42, 28, 182, 0, 146, 62, 42]
abbrev dktX4_readsStreet_3 : List UInt8 := dkwX4_readsStreet_3 ++ dktX4_readsStreet_4
def dkwX4_readsStreet_2 : List UInt8 := [167, 0, 4, 3, 104, 96, 60, 42, 3, 42, 180, 0, 28, 16, 6, 46, 4, 100, 182, 0, 133, 61, 42, 42]
abbrev dktX4_readsStreet_2 : List UInt8 := dkwX4_readsStreet_2 ++ dktX4_readsStreet_3
def dkwX4_readsStreet_1 : List UInt8 := [16, 26, 5, 42, 180, 0, 28, 16, 25, 46, 16, 8, 162, 0, 13, 42, 180, 0, 28, 16, 25, 46]
abbrev dktX4_readsStreet_1 : List UInt8 := dkwX4_readsStreet_1 ++ dktX4_readsStreet_2
def dkwX4_readsStreet_0 : List UInt8 := [42, 42, 180, 0, 28, 16, 25, 46, 16, 8, 162, 0, 7, 4, 167, 0, 4, 3, 6, 182, 0, 129, 87]
abbrev dktX4_readsStreet_0 : List UInt8 := dkwX4_readsStreet_0 ++ dktX4_readsStreet_1
theorem dksX4_readsStreet_0 : cX4_readsStreet.data.toList.drop 0 = dktX4_readsStreet_0 := by decide +kernel
theorem dksX4_readsStreet_1 : cX4_readsStreet.data.toList.drop 23 = dktX4_readsStreet_1 := dk_seg dksX4_readsStreet_0 23 rfl rfl
theorem dksX4_readsStreet_2 : cX4_readsStreet.data.toList.drop 45 = dktX4_readsStreet_2 := dk_seg dksX4_readsStreet_1 22 rfl rfl
theorem dksX4_readsStreet_3 : cX4_readsStreet.data.toList.drop 69 = dktX4_readsStreet_3 := dk_seg dksX4_readsStreet_2 24 rfl rfl
theorem dksX4_readsStreet_4 : cX4_readsStreet.data.toList.drop 93 = dktX4_readsStreet_4 := dk_seg dksX4_readsStreet_3 24 rfl rfl
theorem dksX4_readsStreet_5 : cX4_readsStreet.data.toList.drop 115 = dktX4_readsStreet_5 := dk_seg dksX4_readsStreet_4 22 rfl rfl
theorem dksX4_readsStreet_6 : cX4_readsStreet.data.toList.drop 139 = dktX4_readsStreet_6 := dk_seg dksX4_readsStreet_5 24 rfl rfl
theorem dksX4_readsStreet_7 : cX4_readsStreet.data.toList.drop 163 = dktX4_readsStreet_7 := dk_seg dksX4_readsStreet_6 24 rfl rfl
theorem dX4_readsStreet_0 : decode cX4_readsStreet 0 = .ok (.aload_n 0, 1) := dk_42 (dk_at dksX4_readsStreet_0 0 rfl rfl)
theorem dX4_readsStreet_1 : decode cX4_readsStreet 1 = .ok (.aload_n 0, 1) := dk_42 (dk_at dksX4_readsStreet_0 1 rfl rfl)
theorem dX4_readsStreet_2 : decode cX4_readsStreet 2 = .ok (.getfield 28, 3) := dk_180 0 28 (dk_at dksX4_readsStreet_0 2 rfl rfl)
theorem dX4_readsStreet_5 : decode cX4_readsStreet 5 = .ok (.bipush 25, 2) := dk_16 25 (dk_at dksX4_readsStreet_0 5 rfl rfl)
theorem dX4_readsStreet_7 : decode cX4_readsStreet 7 = .ok (.iaload, 1) := dk_46 (dk_at dksX4_readsStreet_0 7 rfl rfl)
theorem dX4_readsStreet_8 : decode cX4_readsStreet 8 = .ok (.bipush 8, 2) := dk_16 8 (dk_at dksX4_readsStreet_0 8 rfl rfl)
theorem dX4_readsStreet_10 : decode cX4_readsStreet 10 = .ok (.if_icmp .ge 7, 3) := dk_162 0 7 (dk_at dksX4_readsStreet_0 10 rfl rfl)
theorem dX4_readsStreet_13 : decode cX4_readsStreet 13 = .ok (.iconst 1, 1) := dk_4 (dk_at dksX4_readsStreet_0 13 rfl rfl)
theorem dX4_readsStreet_14 : decode cX4_readsStreet 14 = .ok (.goto 4, 3) := dk_167 0 4 (dk_at dksX4_readsStreet_0 14 rfl rfl)
theorem dX4_readsStreet_17 : decode cX4_readsStreet 17 = .ok (.iconst 0, 1) := dk_3 (dk_at dksX4_readsStreet_0 17 rfl rfl)
theorem dX4_readsStreet_18 : decode cX4_readsStreet 18 = .ok (.iconst 3, 1) := dk_6 (dk_at dksX4_readsStreet_0 18 rfl rfl)
theorem dX4_readsStreet_19 : decode cX4_readsStreet 19 = .ok (.invokevirtual 129, 3) := dk_182 0 129 (dk_at dksX4_readsStreet_0 19 rfl rfl)
theorem dX4_readsStreet_22 : decode cX4_readsStreet 22 = .ok (.pop, 1) := dk_87 (dk_at dksX4_readsStreet_0 22 rfl rfl)
theorem dX4_readsStreet_23 : decode cX4_readsStreet 23 = .ok (.bipush 26, 2) := dk_16 26 (dk_at dksX4_readsStreet_1 0 rfl rfl)
theorem dX4_readsStreet_25 : decode cX4_readsStreet 25 = .ok (.iconst 2, 1) := dk_5 (dk_at dksX4_readsStreet_1 2 rfl rfl)
theorem dX4_readsStreet_26 : decode cX4_readsStreet 26 = .ok (.aload_n 0, 1) := dk_42 (dk_at dksX4_readsStreet_1 3 rfl rfl)
theorem dX4_readsStreet_27 : decode cX4_readsStreet 27 = .ok (.getfield 28, 3) := dk_180 0 28 (dk_at dksX4_readsStreet_1 4 rfl rfl)
theorem dX4_readsStreet_30 : decode cX4_readsStreet 30 = .ok (.bipush 25, 2) := dk_16 25 (dk_at dksX4_readsStreet_1 7 rfl rfl)
theorem dX4_readsStreet_32 : decode cX4_readsStreet 32 = .ok (.iaload, 1) := dk_46 (dk_at dksX4_readsStreet_1 9 rfl rfl)
theorem dX4_readsStreet_33 : decode cX4_readsStreet 33 = .ok (.bipush 8, 2) := dk_16 8 (dk_at dksX4_readsStreet_1 10 rfl rfl)
theorem dX4_readsStreet_35 : decode cX4_readsStreet 35 = .ok (.if_icmp .ge 13, 3) := dk_162 0 13 (dk_at dksX4_readsStreet_1 12 rfl rfl)
theorem dX4_readsStreet_38 : decode cX4_readsStreet 38 = .ok (.aload_n 0, 1) := dk_42 (dk_at dksX4_readsStreet_1 15 rfl rfl)
theorem dX4_readsStreet_39 : decode cX4_readsStreet 39 = .ok (.getfield 28, 3) := dk_180 0 28 (dk_at dksX4_readsStreet_1 16 rfl rfl)
theorem dX4_readsStreet_42 : decode cX4_readsStreet 42 = .ok (.bipush 25, 2) := dk_16 25 (dk_at dksX4_readsStreet_1 19 rfl rfl)
theorem dX4_readsStreet_44 : decode cX4_readsStreet 44 = .ok (.iaload, 1) := dk_46 (dk_at dksX4_readsStreet_1 21 rfl rfl)
theorem dX4_readsStreet_45 : decode cX4_readsStreet 45 = .ok (.goto 4, 3) := dk_167 0 4 (dk_at dksX4_readsStreet_2 0 rfl rfl)
theorem dX4_readsStreet_48 : decode cX4_readsStreet 48 = .ok (.iconst 0, 1) := dk_3 (dk_at dksX4_readsStreet_2 3 rfl rfl)
theorem dX4_readsStreet_49 : decode cX4_readsStreet 49 = .ok (.imul, 1) := dk_104 (dk_at dksX4_readsStreet_2 4 rfl rfl)
theorem dX4_readsStreet_50 : decode cX4_readsStreet 50 = .ok (.iadd, 1) := dk_96 (dk_at dksX4_readsStreet_2 5 rfl rfl)
theorem dX4_readsStreet_51 : decode cX4_readsStreet 51 = .ok (.istore_n 1, 1) := dk_60 (dk_at dksX4_readsStreet_2 6 rfl rfl)
theorem dX4_readsStreet_52 : decode cX4_readsStreet 52 = .ok (.aload_n 0, 1) := dk_42 (dk_at dksX4_readsStreet_2 7 rfl rfl)
theorem dX4_readsStreet_53 : decode cX4_readsStreet 53 = .ok (.iconst 0, 1) := dk_3 (dk_at dksX4_readsStreet_2 8 rfl rfl)
theorem dX4_readsStreet_54 : decode cX4_readsStreet 54 = .ok (.aload_n 0, 1) := dk_42 (dk_at dksX4_readsStreet_2 9 rfl rfl)
theorem dX4_readsStreet_55 : decode cX4_readsStreet 55 = .ok (.getfield 28, 3) := dk_180 0 28 (dk_at dksX4_readsStreet_2 10 rfl rfl)
theorem dX4_readsStreet_58 : decode cX4_readsStreet 58 = .ok (.bipush 6, 2) := dk_16 6 (dk_at dksX4_readsStreet_2 13 rfl rfl)
theorem dX4_readsStreet_60 : decode cX4_readsStreet 60 = .ok (.iaload, 1) := dk_46 (dk_at dksX4_readsStreet_2 15 rfl rfl)
theorem dX4_readsStreet_61 : decode cX4_readsStreet 61 = .ok (.iconst 1, 1) := dk_4 (dk_at dksX4_readsStreet_2 16 rfl rfl)
theorem dX4_readsStreet_62 : decode cX4_readsStreet 62 = .ok (.isub, 1) := dk_100 (dk_at dksX4_readsStreet_2 17 rfl rfl)
theorem dX4_readsStreet_63 : decode cX4_readsStreet 63 = .ok (.invokevirtual 133, 3) := dk_182 0 133 (dk_at dksX4_readsStreet_2 18 rfl rfl)
theorem dX4_readsStreet_66 : decode cX4_readsStreet 66 = .ok (.istore_n 2, 1) := dk_61 (dk_at dksX4_readsStreet_2 21 rfl rfl)
theorem dX4_readsStreet_67 : decode cX4_readsStreet 67 = .ok (.aload_n 0, 1) := dk_42 (dk_at dksX4_readsStreet_2 22 rfl rfl)
theorem dX4_readsStreet_68 : decode cX4_readsStreet 68 = .ok (.aload_n 0, 1) := dk_42 (dk_at dksX4_readsStreet_2 23 rfl rfl)
theorem dX4_readsStreet_69 : decode cX4_readsStreet 69 = .ok (.getfield 113, 3) := dk_180 0 113 (dk_at dksX4_readsStreet_3 0 rfl rfl)
theorem dX4_readsStreet_72 : decode cX4_readsStreet 72 = .ok (.iconst 3, 1) := dk_6 (dk_at dksX4_readsStreet_3 3 rfl rfl)
theorem dX4_readsStreet_73 : decode cX4_readsStreet 73 = .ok (.if_icmp .ne 7, 3) := dk_160 0 7 (dk_at dksX4_readsStreet_3 4 rfl rfl)
theorem dX4_readsStreet_76 : decode cX4_readsStreet 76 = .ok (.iconst 1, 1) := dk_4 (dk_at dksX4_readsStreet_3 7 rfl rfl)
theorem dX4_readsStreet_77 : decode cX4_readsStreet 77 = .ok (.goto 4, 3) := dk_167 0 4 (dk_at dksX4_readsStreet_3 8 rfl rfl)
theorem dX4_readsStreet_80 : decode cX4_readsStreet 80 = .ok (.iconst 0, 1) := dk_3 (dk_at dksX4_readsStreet_3 11 rfl rfl)
theorem dX4_readsStreet_81 : decode cX4_readsStreet 81 = .ok (.iconst 1, 1) := dk_4 (dk_at dksX4_readsStreet_3 12 rfl rfl)
theorem dX4_readsStreet_82 : decode cX4_readsStreet 82 = .ok (.invokevirtual 129, 3) := dk_182 0 129 (dk_at dksX4_readsStreet_3 13 rfl rfl)
theorem dX4_readsStreet_85 : decode cX4_readsStreet 85 = .ok (.pop, 1) := dk_87 (dk_at dksX4_readsStreet_3 16 rfl rfl)
theorem dX4_readsStreet_86 : decode cX4_readsStreet 86 = .ok (.aload_n 0, 1) := dk_42 (dk_at dksX4_readsStreet_3 17 rfl rfl)
theorem dX4_readsStreet_87 : decode cX4_readsStreet 87 = .ok (.iload_n 2, 1) := dk_28 (dk_at dksX4_readsStreet_3 18 rfl rfl)
theorem dX4_readsStreet_88 : decode cX4_readsStreet 88 = .ok (.invokevirtual 146, 3) := dk_182 0 146 (dk_at dksX4_readsStreet_3 19 rfl rfl)
theorem dX4_readsStreet_91 : decode cX4_readsStreet 91 = .ok (.istore_n 3, 1) := dk_62 (dk_at dksX4_readsStreet_3 22 rfl rfl)
theorem dX4_readsStreet_92 : decode cX4_readsStreet 92 = .ok (.aload_n 0, 1) := dk_42 (dk_at dksX4_readsStreet_3 23 rfl rfl)
theorem dX4_readsStreet_93 : decode cX4_readsStreet 93 = .ok (.aload_n 0, 1) := dk_42 (dk_at dksX4_readsStreet_4 0 rfl rfl)
theorem dX4_readsStreet_94 : decode cX4_readsStreet 94 = .ok (.getfield 113, 3) := dk_180 0 113 (dk_at dksX4_readsStreet_4 1 rfl rfl)
theorem dX4_readsStreet_97 : decode cX4_readsStreet 97 = .ok (.iconst 4, 1) := dk_7 (dk_at dksX4_readsStreet_4 4 rfl rfl)
theorem dX4_readsStreet_98 : decode cX4_readsStreet 98 = .ok (.if_icmp .ne 7, 3) := dk_160 0 7 (dk_at dksX4_readsStreet_4 5 rfl rfl)
theorem dX4_readsStreet_101 : decode cX4_readsStreet 101 = .ok (.iconst 1, 1) := dk_4 (dk_at dksX4_readsStreet_4 8 rfl rfl)
theorem dX4_readsStreet_102 : decode cX4_readsStreet 102 = .ok (.goto 4, 3) := dk_167 0 4 (dk_at dksX4_readsStreet_4 9 rfl rfl)
theorem dX4_readsStreet_105 : decode cX4_readsStreet 105 = .ok (.iconst 0, 1) := dk_3 (dk_at dksX4_readsStreet_4 12 rfl rfl)
theorem dX4_readsStreet_106 : decode cX4_readsStreet 106 = .ok (.iconst 1, 1) := dk_4 (dk_at dksX4_readsStreet_4 13 rfl rfl)
theorem dX4_readsStreet_107 : decode cX4_readsStreet 107 = .ok (.invokevirtual 129, 3) := dk_182 0 129 (dk_at dksX4_readsStreet_4 14 rfl rfl)
theorem dX4_readsStreet_110 : decode cX4_readsStreet 110 = .ok (.pop, 1) := dk_87 (dk_at dksX4_readsStreet_4 17 rfl rfl)
theorem dX4_readsStreet_111 : decode cX4_readsStreet 111 = .ok (.aload_n 0, 1) := dk_42 (dk_at dksX4_readsStreet_4 18 rfl rfl)
theorem dX4_readsStreet_112 : decode cX4_readsStreet 112 = .ok (.invokevirtual 119, 3) := dk_182 0 119 (dk_at dksX4_readsStreet_4 19 rfl rfl)
theorem dX4_readsStreet_115 : decode cX4_readsStreet 115 = .ok (.ifCond .eq 48, 3) := dk_153 0 48 (dk_at dksX4_readsStreet_5 0 rfl rfl)
theorem dX4_readsStreet_118 : decode cX4_readsStreet 118 = .ok (.aload_n 0, 1) := dk_42 (dk_at dksX4_readsStreet_5 3 rfl rfl)
theorem dX4_readsStreet_119 : decode cX4_readsStreet 119 = .ok (.getfield 28, 3) := dk_180 0 28 (dk_at dksX4_readsStreet_5 4 rfl rfl)
theorem dX4_readsStreet_122 : decode cX4_readsStreet 122 = .ok (.iload_n 1, 1) := dk_27 (dk_at dksX4_readsStreet_5 7 rfl rfl)
theorem dX4_readsStreet_123 : decode cX4_readsStreet 123 = .ok (.iload_n 2, 1) := dk_28 (dk_at dksX4_readsStreet_5 8 rfl rfl)
theorem dX4_readsStreet_124 : decode cX4_readsStreet 124 = .ok (.iastore, 1) := dk_79 (dk_at dksX4_readsStreet_5 9 rfl rfl)
theorem dX4_readsStreet_125 : decode cX4_readsStreet 125 = .ok (.aload_n 0, 1) := dk_42 (dk_at dksX4_readsStreet_5 10 rfl rfl)
theorem dX4_readsStreet_126 : decode cX4_readsStreet 126 = .ok (.getfield 28, 3) := dk_180 0 28 (dk_at dksX4_readsStreet_5 11 rfl rfl)
theorem dX4_readsStreet_129 : decode cX4_readsStreet 129 = .ok (.iload_n 1, 1) := dk_27 (dk_at dksX4_readsStreet_5 14 rfl rfl)
theorem dX4_readsStreet_130 : decode cX4_readsStreet 130 = .ok (.iconst 1, 1) := dk_4 (dk_at dksX4_readsStreet_5 15 rfl rfl)
theorem dX4_readsStreet_131 : decode cX4_readsStreet 131 = .ok (.iadd, 1) := dk_96 (dk_at dksX4_readsStreet_5 16 rfl rfl)
theorem dX4_readsStreet_132 : decode cX4_readsStreet 132 = .ok (.iload_n 3, 1) := dk_29 (dk_at dksX4_readsStreet_5 17 rfl rfl)
theorem dX4_readsStreet_133 : decode cX4_readsStreet 133 = .ok (.iastore, 1) := dk_79 (dk_at dksX4_readsStreet_5 18 rfl rfl)
theorem dX4_readsStreet_134 : decode cX4_readsStreet 134 = .ok (.aload_n 0, 1) := dk_42 (dk_at dksX4_readsStreet_5 19 rfl rfl)
theorem dX4_readsStreet_135 : decode cX4_readsStreet 135 = .ok (.getfield 28, 3) := dk_180 0 28 (dk_at dksX4_readsStreet_5 20 rfl rfl)
theorem dX4_readsStreet_138 : decode cX4_readsStreet 138 = .ok (.iconst 5, 1) := dk_8 (dk_at dksX4_readsStreet_5 23 rfl rfl)
theorem dX4_readsStreet_139 : decode cX4_readsStreet 139 = .ok (.dup2, 1) := dk_92 (dk_at dksX4_readsStreet_6 0 rfl rfl)
theorem dX4_readsStreet_140 : decode cX4_readsStreet 140 = .ok (.iaload, 1) := dk_46 (dk_at dksX4_readsStreet_6 1 rfl rfl)
theorem dX4_readsStreet_141 : decode cX4_readsStreet 141 = .ok (.iconst 1, 1) := dk_4 (dk_at dksX4_readsStreet_6 2 rfl rfl)
theorem dX4_readsStreet_142 : decode cX4_readsStreet 142 = .ok (.aload_n 0, 1) := dk_42 (dk_at dksX4_readsStreet_6 3 rfl rfl)
theorem dX4_readsStreet_143 : decode cX4_readsStreet 143 = .ok (.getfield 28, 3) := dk_180 0 28 (dk_at dksX4_readsStreet_6 4 rfl rfl)
theorem dX4_readsStreet_146 : decode cX4_readsStreet 146 = .ok (.bipush 25, 2) := dk_16 25 (dk_at dksX4_readsStreet_6 7 rfl rfl)
theorem dX4_readsStreet_148 : decode cX4_readsStreet 148 = .ok (.iaload, 1) := dk_46 (dk_at dksX4_readsStreet_6 9 rfl rfl)
theorem dX4_readsStreet_149 : decode cX4_readsStreet 149 = .ok (.ishl, 1) := dk_120 (dk_at dksX4_readsStreet_6 10 rfl rfl)
theorem dX4_readsStreet_150 : decode cX4_readsStreet 150 = .ok (.ior, 1) := dk_128 (dk_at dksX4_readsStreet_6 11 rfl rfl)
theorem dX4_readsStreet_151 : decode cX4_readsStreet 151 = .ok (.iastore, 1) := dk_79 (dk_at dksX4_readsStreet_6 12 rfl rfl)
theorem dX4_readsStreet_152 : decode cX4_readsStreet 152 = .ok (.aload_n 0, 1) := dk_42 (dk_at dksX4_readsStreet_6 13 rfl rfl)
theorem dX4_readsStreet_153 : decode cX4_readsStreet 153 = .ok (.getfield 28, 3) := dk_180 0 28 (dk_at dksX4_readsStreet_6 14 rfl rfl)
theorem dX4_readsStreet_156 : decode cX4_readsStreet 156 = .ok (.bipush 25, 2) := dk_16 25 (dk_at dksX4_readsStreet_6 17 rfl rfl)
theorem dX4_readsStreet_158 : decode cX4_readsStreet 158 = .ok (.dup2, 1) := dk_92 (dk_at dksX4_readsStreet_6 19 rfl rfl)
theorem dX4_readsStreet_159 : decode cX4_readsStreet 159 = .ok (.iaload, 1) := dk_46 (dk_at dksX4_readsStreet_6 20 rfl rfl)
theorem dX4_readsStreet_160 : decode cX4_readsStreet 160 = .ok (.iconst 1, 1) := dk_4 (dk_at dksX4_readsStreet_6 21 rfl rfl)
theorem dX4_readsStreet_161 : decode cX4_readsStreet 161 = .ok (.iadd, 1) := dk_96 (dk_at dksX4_readsStreet_6 22 rfl rfl)
theorem dX4_readsStreet_162 : decode cX4_readsStreet 162 = .ok (.iastore, 1) := dk_79 (dk_at dksX4_readsStreet_6 23 rfl rfl)
theorem dX4_readsStreet_163 : decode cX4_readsStreet 163 = .ok (.return_, 1) := dk_177 (dk_at dksX4_readsStreet_7 0 rfl rfl)
abbrev cX4_toFigure : ByteArray := prog_26_method_26_code
def yX4_toFigure : MethodName := ⟨RX4, "toFigure", "(I)I"⟩
def dkwX4_toFigure_3 : List UInt8 := [172]
abbrev dktX4_toFigure_3 : List UInt8 := dkwX4_toFigure_3 ++ []
def dkwX4_toFigure_2 : List UInt8 := [159, 0, 19, 42, 27, 42, 180, 0, 110, 182, 0, 142, 154, 0, 7, 4, 167, 0, 4, 3, 5, 182, 0, 129]
abbrev dktX4_toFigure_2 : List UInt8 := dkwX4_toFigure_2 ++ dktX4_toFigure_3
def dkwX4_toFigure_1 : List UInt8 := [180, 0, 110, 3, 42, 180, 0, 28, 16, 6, 46, 4, 100, 184, 0, 71, 153, 0, 27, 42, 180, 0, 110, 27]
abbrev dktX4_toFigure_1 : List UInt8 := dkwX4_toFigure_1 ++ dktX4_toFigure_2
def dkwX4_toFigure_0 : List UInt8 := [42, 182, 0, 119, 153, 0, 18, 42, 180, 0, 113, 5, 159, 0, 10, 42, 3, 4, 182, 0, 129, 172, 42, 42]
abbrev dktX4_toFigure_0 : List UInt8 := dkwX4_toFigure_0 ++ dktX4_toFigure_1
theorem dksX4_toFigure_0 : cX4_toFigure.data.toList.drop 0 = dktX4_toFigure_0 := by decide +kernel
theorem dksX4_toFigure_1 : cX4_toFigure.data.toList.drop 24 = dktX4_toFigure_1 := dk_seg dksX4_toFigure_0 24 rfl rfl
theorem dksX4_toFigure_2 : cX4_toFigure.data.toList.drop 48 = dktX4_toFigure_2 := dk_seg dksX4_toFigure_1 24 rfl rfl
theorem dksX4_toFigure_3 : cX4_toFigure.data.toList.drop 72 = dktX4_toFigure_3 := dk_seg dksX4_toFigure_2 24 rfl rfl
theorem dX4_toFigure_0 : decode cX4_toFigure 0 = .ok (.aload_n 0, 1) := dk_42 (dk_at dksX4_toFigure_0 0 rfl rfl)
theorem dX4_toFigure_1 : decode cX4_toFigure 1 = .ok (.invokevirtual 119, 3) := dk_182 0 119 (dk_at dksX4_toFigure_0 1 rfl rfl)
theorem dX4_toFigure_4 : decode cX4_toFigure 4 = .ok (.ifCond .eq 18, 3) := dk_153 0 18 (dk_at dksX4_toFigure_0 4 rfl rfl)
theorem dX4_toFigure_7 : decode cX4_toFigure 7 = .ok (.aload_n 0, 1) := dk_42 (dk_at dksX4_toFigure_0 7 rfl rfl)
theorem dX4_toFigure_8 : decode cX4_toFigure 8 = .ok (.getfield 113, 3) := dk_180 0 113 (dk_at dksX4_toFigure_0 8 rfl rfl)
theorem dX4_toFigure_11 : decode cX4_toFigure 11 = .ok (.iconst 2, 1) := dk_5 (dk_at dksX4_toFigure_0 11 rfl rfl)
theorem dX4_toFigure_12 : decode cX4_toFigure 12 = .ok (.if_icmp .eq 10, 3) := dk_159 0 10 (dk_at dksX4_toFigure_0 12 rfl rfl)
theorem dX4_toFigure_15 : decode cX4_toFigure 15 = .ok (.aload_n 0, 1) := dk_42 (dk_at dksX4_toFigure_0 15 rfl rfl)
theorem dX4_toFigure_16 : decode cX4_toFigure 16 = .ok (.iconst 0, 1) := dk_3 (dk_at dksX4_toFigure_0 16 rfl rfl)
theorem dX4_toFigure_17 : decode cX4_toFigure 17 = .ok (.iconst 1, 1) := dk_4 (dk_at dksX4_toFigure_0 17 rfl rfl)
theorem dX4_toFigure_18 : decode cX4_toFigure 18 = .ok (.invokevirtual 129, 3) := dk_182 0 129 (dk_at dksX4_toFigure_0 18 rfl rfl)
theorem dX4_toFigure_21 : decode cX4_toFigure 21 = .ok (.ireturn, 1) := dk_172 (dk_at dksX4_toFigure_0 21 rfl rfl)
theorem dX4_toFigure_22 : decode cX4_toFigure 22 = .ok (.aload_n 0, 1) := dk_42 (dk_at dksX4_toFigure_0 22 rfl rfl)
theorem dX4_toFigure_23 : decode cX4_toFigure 23 = .ok (.aload_n 0, 1) := dk_42 (dk_at dksX4_toFigure_0 23 rfl rfl)
theorem dX4_toFigure_24 : decode cX4_toFigure 24 = .ok (.getfield 110, 3) := dk_180 0 110 (dk_at dksX4_toFigure_1 0 rfl rfl)
theorem dX4_toFigure_27 : decode cX4_toFigure 27 = .ok (.iconst 0, 1) := dk_3 (dk_at dksX4_toFigure_1 3 rfl rfl)
theorem dX4_toFigure_28 : decode cX4_toFigure 28 = .ok (.aload_n 0, 1) := dk_42 (dk_at dksX4_toFigure_1 4 rfl rfl)
theorem dX4_toFigure_29 : decode cX4_toFigure 29 = .ok (.getfield 28, 3) := dk_180 0 28 (dk_at dksX4_toFigure_1 5 rfl rfl)
theorem dX4_toFigure_32 : decode cX4_toFigure 32 = .ok (.bipush 6, 2) := dk_16 6 (dk_at dksX4_toFigure_1 8 rfl rfl)
theorem dX4_toFigure_34 : decode cX4_toFigure 34 = .ok (.iaload, 1) := dk_46 (dk_at dksX4_toFigure_1 10 rfl rfl)
theorem dX4_toFigure_35 : decode cX4_toFigure 35 = .ok (.iconst 1, 1) := dk_4 (dk_at dksX4_toFigure_1 11 rfl rfl)
theorem dX4_toFigure_36 : decode cX4_toFigure 36 = .ok (.isub, 1) := dk_100 (dk_at dksX4_toFigure_1 12 rfl rfl)
theorem dX4_toFigure_37 : decode cX4_toFigure 37 = .ok (.invokestatic 71, 3) := dk_184 0 71 (dk_at dksX4_toFigure_1 13 rfl rfl)
theorem dX4_toFigure_40 : decode cX4_toFigure 40 = .ok (.ifCond .eq 27, 3) := dk_153 0 27 (dk_at dksX4_toFigure_1 16 rfl rfl)
theorem dX4_toFigure_43 : decode cX4_toFigure 43 = .ok (.aload_n 0, 1) := dk_42 (dk_at dksX4_toFigure_1 19 rfl rfl)
theorem dX4_toFigure_44 : decode cX4_toFigure 44 = .ok (.getfield 110, 3) := dk_180 0 110 (dk_at dksX4_toFigure_1 20 rfl rfl)
theorem dX4_toFigure_47 : decode cX4_toFigure 47 = .ok (.iload_n 1, 1) := dk_27 (dk_at dksX4_toFigure_1 23 rfl rfl)
theorem dX4_toFigure_48 : decode cX4_toFigure 48 = .ok (.if_icmp .eq 19, 3) := dk_159 0 19 (dk_at dksX4_toFigure_2 0 rfl rfl)
theorem dX4_toFigure_51 : decode cX4_toFigure 51 = .ok (.aload_n 0, 1) := dk_42 (dk_at dksX4_toFigure_2 3 rfl rfl)
theorem dX4_toFigure_52 : decode cX4_toFigure 52 = .ok (.iload_n 1, 1) := dk_27 (dk_at dksX4_toFigure_2 4 rfl rfl)
theorem dX4_toFigure_53 : decode cX4_toFigure 53 = .ok (.aload_n 0, 1) := dk_42 (dk_at dksX4_toFigure_2 5 rfl rfl)
theorem dX4_toFigure_54 : decode cX4_toFigure 54 = .ok (.getfield 110, 3) := dk_180 0 110 (dk_at dksX4_toFigure_2 6 rfl rfl)
theorem dX4_toFigure_57 : decode cX4_toFigure 57 = .ok (.invokevirtual 142, 3) := dk_182 0 142 (dk_at dksX4_toFigure_2 9 rfl rfl)
theorem dX4_toFigure_60 : decode cX4_toFigure 60 = .ok (.ifCond .ne 7, 3) := dk_154 0 7 (dk_at dksX4_toFigure_2 12 rfl rfl)
theorem dX4_toFigure_63 : decode cX4_toFigure 63 = .ok (.iconst 1, 1) := dk_4 (dk_at dksX4_toFigure_2 15 rfl rfl)
theorem dX4_toFigure_64 : decode cX4_toFigure 64 = .ok (.goto 4, 3) := dk_167 0 4 (dk_at dksX4_toFigure_2 16 rfl rfl)
theorem dX4_toFigure_67 : decode cX4_toFigure 67 = .ok (.iconst 0, 1) := dk_3 (dk_at dksX4_toFigure_2 19 rfl rfl)
theorem dX4_toFigure_68 : decode cX4_toFigure 68 = .ok (.iconst 2, 1) := dk_5 (dk_at dksX4_toFigure_2 20 rfl rfl)
theorem dX4_toFigure_69 : decode cX4_toFigure 69 = .ok (.invokevirtual 129, 3) := dk_182 0 129 (dk_at dksX4_toFigure_2 21 rfl rfl)
theorem dX4_toFigure_72 : decode cX4_toFigure 72 = .ok (.ireturn, 1) := dk_172 (dk_at dksX4_toFigure_3 0 rfl rfl)
abbrev cX4_isStreetTold : ByteArray := prog_26_method_25_code
def yX4_isStreetTold : MethodName := ⟨RX4, "isStreetTold", "(II)Z"⟩
def dkwX4_isStreetTold_2 : List UInt8 := [104, 96, 4, 96, 46, 28, 160, 0, 7, 4, 167, 0, 4, 3, 62, 132, 4, 1, 167, 255, 197, 29, 172]
abbrev dktX4_isStreetTold_2 : List UInt8 := dkwX4_isStreetTold_2 ++ []
def dkwX4_isStreetTold_1 : List UInt8 := [180, 0, 28, 16, 26, 5, 21, 4, 104, 96, 46, 27, 160, 0, 25, 42, 180, 0, 28, 16, 26, 5, 21, 4]
abbrev dktX4_isStreetTold_1 : List UInt8 := dkwX4_isStreetTold_1 ++ dktX4_isStreetTold_2
def dkwX4_isStreetTold_0 : List UInt8 := [3, 62, 3, 54, 4, 21, 4, 42, 180, 0, 28, 16, 25, 46, 162, 0, 53, 29, 154, 0, 37, 42]
abbrev dktX4_isStreetTold_0 : List UInt8 := dkwX4_isStreetTold_0 ++ dktX4_isStreetTold_1
theorem dksX4_isStreetTold_0 : cX4_isStreetTold.data.toList.drop 0 = dktX4_isStreetTold_0 := by decide +kernel
theorem dksX4_isStreetTold_1 : cX4_isStreetTold.data.toList.drop 22 = dktX4_isStreetTold_1 := dk_seg dksX4_isStreetTold_0 22 rfl rfl
theorem dksX4_isStreetTold_2 : cX4_isStreetTold.data.toList.drop 46 = dktX4_isStreetTold_2 := dk_seg dksX4_isStreetTold_1 24 rfl rfl
theorem dX4_isStreetTold_0 : decode cX4_isStreetTold 0 = .ok (.iconst 0, 1) := dk_3 (dk_at dksX4_isStreetTold_0 0 rfl rfl)
theorem dX4_isStreetTold_1 : decode cX4_isStreetTold 1 = .ok (.istore_n 3, 1) := dk_62 (dk_at dksX4_isStreetTold_0 1 rfl rfl)
theorem dX4_isStreetTold_2 : decode cX4_isStreetTold 2 = .ok (.iconst 0, 1) := dk_3 (dk_at dksX4_isStreetTold_0 2 rfl rfl)
theorem dX4_isStreetTold_3 : decode cX4_isStreetTold 3 = .ok (.istore 4, 2) := dk_54 4 (dk_at dksX4_isStreetTold_0 3 rfl rfl)
theorem dX4_isStreetTold_5 : decode cX4_isStreetTold 5 = .ok (.iload 4, 2) := dk_21 4 (dk_at dksX4_isStreetTold_0 5 rfl rfl)
theorem dX4_isStreetTold_7 : decode cX4_isStreetTold 7 = .ok (.aload_n 0, 1) := dk_42 (dk_at dksX4_isStreetTold_0 7 rfl rfl)
theorem dX4_isStreetTold_8 : decode cX4_isStreetTold 8 = .ok (.getfield 28, 3) := dk_180 0 28 (dk_at dksX4_isStreetTold_0 8 rfl rfl)
theorem dX4_isStreetTold_11 : decode cX4_isStreetTold 11 = .ok (.bipush 25, 2) := dk_16 25 (dk_at dksX4_isStreetTold_0 11 rfl rfl)
theorem dX4_isStreetTold_13 : decode cX4_isStreetTold 13 = .ok (.iaload, 1) := dk_46 (dk_at dksX4_isStreetTold_0 13 rfl rfl)
theorem dX4_isStreetTold_14 : decode cX4_isStreetTold 14 = .ok (.if_icmp .ge 53, 3) := dk_162 0 53 (dk_at dksX4_isStreetTold_0 14 rfl rfl)
theorem dX4_isStreetTold_17 : decode cX4_isStreetTold 17 = .ok (.iload_n 3, 1) := dk_29 (dk_at dksX4_isStreetTold_0 17 rfl rfl)
theorem dX4_isStreetTold_18 : decode cX4_isStreetTold 18 = .ok (.ifCond .ne 37, 3) := dk_154 0 37 (dk_at dksX4_isStreetTold_0 18 rfl rfl)
theorem dX4_isStreetTold_21 : decode cX4_isStreetTold 21 = .ok (.aload_n 0, 1) := dk_42 (dk_at dksX4_isStreetTold_0 21 rfl rfl)
theorem dX4_isStreetTold_22 : decode cX4_isStreetTold 22 = .ok (.getfield 28, 3) := dk_180 0 28 (dk_at dksX4_isStreetTold_1 0 rfl rfl)
theorem dX4_isStreetTold_25 : decode cX4_isStreetTold 25 = .ok (.bipush 26, 2) := dk_16 26 (dk_at dksX4_isStreetTold_1 3 rfl rfl)
theorem dX4_isStreetTold_27 : decode cX4_isStreetTold 27 = .ok (.iconst 2, 1) := dk_5 (dk_at dksX4_isStreetTold_1 5 rfl rfl)
theorem dX4_isStreetTold_28 : decode cX4_isStreetTold 28 = .ok (.iload 4, 2) := dk_21 4 (dk_at dksX4_isStreetTold_1 6 rfl rfl)
theorem dX4_isStreetTold_30 : decode cX4_isStreetTold 30 = .ok (.imul, 1) := dk_104 (dk_at dksX4_isStreetTold_1 8 rfl rfl)
theorem dX4_isStreetTold_31 : decode cX4_isStreetTold 31 = .ok (.iadd, 1) := dk_96 (dk_at dksX4_isStreetTold_1 9 rfl rfl)
theorem dX4_isStreetTold_32 : decode cX4_isStreetTold 32 = .ok (.iaload, 1) := dk_46 (dk_at dksX4_isStreetTold_1 10 rfl rfl)
theorem dX4_isStreetTold_33 : decode cX4_isStreetTold 33 = .ok (.iload_n 1, 1) := dk_27 (dk_at dksX4_isStreetTold_1 11 rfl rfl)
theorem dX4_isStreetTold_34 : decode cX4_isStreetTold 34 = .ok (.if_icmp .ne 25, 3) := dk_160 0 25 (dk_at dksX4_isStreetTold_1 12 rfl rfl)
theorem dX4_isStreetTold_37 : decode cX4_isStreetTold 37 = .ok (.aload_n 0, 1) := dk_42 (dk_at dksX4_isStreetTold_1 15 rfl rfl)
theorem dX4_isStreetTold_38 : decode cX4_isStreetTold 38 = .ok (.getfield 28, 3) := dk_180 0 28 (dk_at dksX4_isStreetTold_1 16 rfl rfl)
theorem dX4_isStreetTold_41 : decode cX4_isStreetTold 41 = .ok (.bipush 26, 2) := dk_16 26 (dk_at dksX4_isStreetTold_1 19 rfl rfl)
theorem dX4_isStreetTold_43 : decode cX4_isStreetTold 43 = .ok (.iconst 2, 1) := dk_5 (dk_at dksX4_isStreetTold_1 21 rfl rfl)
theorem dX4_isStreetTold_44 : decode cX4_isStreetTold 44 = .ok (.iload 4, 2) := dk_21 4 (dk_at dksX4_isStreetTold_1 22 rfl rfl)
theorem dX4_isStreetTold_46 : decode cX4_isStreetTold 46 = .ok (.imul, 1) := dk_104 (dk_at dksX4_isStreetTold_2 0 rfl rfl)
theorem dX4_isStreetTold_47 : decode cX4_isStreetTold 47 = .ok (.iadd, 1) := dk_96 (dk_at dksX4_isStreetTold_2 1 rfl rfl)
theorem dX4_isStreetTold_48 : decode cX4_isStreetTold 48 = .ok (.iconst 1, 1) := dk_4 (dk_at dksX4_isStreetTold_2 2 rfl rfl)
theorem dX4_isStreetTold_49 : decode cX4_isStreetTold 49 = .ok (.iadd, 1) := dk_96 (dk_at dksX4_isStreetTold_2 3 rfl rfl)
theorem dX4_isStreetTold_50 : decode cX4_isStreetTold 50 = .ok (.iaload, 1) := dk_46 (dk_at dksX4_isStreetTold_2 4 rfl rfl)
theorem dX4_isStreetTold_51 : decode cX4_isStreetTold 51 = .ok (.iload_n 2, 1) := dk_28 (dk_at dksX4_isStreetTold_2 5 rfl rfl)
theorem dX4_isStreetTold_52 : decode cX4_isStreetTold 52 = .ok (.if_icmp .ne 7, 3) := dk_160 0 7 (dk_at dksX4_isStreetTold_2 6 rfl rfl)
theorem dX4_isStreetTold_55 : decode cX4_isStreetTold 55 = .ok (.iconst 1, 1) := dk_4 (dk_at dksX4_isStreetTold_2 9 rfl rfl)
theorem dX4_isStreetTold_56 : decode cX4_isStreetTold 56 = .ok (.goto 4, 3) := dk_167 0 4 (dk_at dksX4_isStreetTold_2 10 rfl rfl)
theorem dX4_isStreetTold_59 : decode cX4_isStreetTold 59 = .ok (.iconst 0, 1) := dk_3 (dk_at dksX4_isStreetTold_2 13 rfl rfl)
theorem dX4_isStreetTold_60 : decode cX4_isStreetTold 60 = .ok (.istore_n 3, 1) := dk_62 (dk_at dksX4_isStreetTold_2 14 rfl rfl)
theorem dX4_isStreetTold_61 : decode cX4_isStreetTold 61 = .ok (.iinc 4 1, 3) := dk_132 4 1 (dk_at dksX4_isStreetTold_2 15 rfl rfl)
theorem dX4_isStreetTold_64 : decode cX4_isStreetTold 64 = .ok (.goto (-59), 3) := dk_167 255 197 (dk_at dksX4_isStreetTold_2 18 rfl rfl)
theorem dX4_isStreetTold_67 : decode cX4_isStreetTold 67 = .ok (.iload_n 3, 1) := dk_29 (dk_at dksX4_isStreetTold_2 21 rfl rfl)
theorem dX4_isStreetTold_68 : decode cX4_isStreetTold 68 = .ok (.ireturn, 1) := dk_172 (dk_at dksX4_isStreetTold_2 22 rfl rfl)
abbrev cX4_copies : ByteArray := prog_26_method_7_code
def yX4_copies : MethodName := ⟨RX4, "copies", "([II[II)V"⟩
def dkwX4_copies_1 : List UInt8 := [132, 4, 1, 167, 255, 234, 177]
abbrev dktX4_copies_1 : List UInt8 := dkwX4_copies_1 ++ []
def dkwX4_copies_0 : List UInt8 := [3, 54, 4, 21, 4, 16, 42, 162, 0, 21, 44, 29, 21, 4, 96, 42, 27, 21, 4, 96, 46, 79]
abbrev dktX4_copies_0 : List UInt8 := dkwX4_copies_0 ++ dktX4_copies_1
theorem dksX4_copies_0 : cX4_copies.data.toList.drop 0 = dktX4_copies_0 := by decide +kernel
theorem dksX4_copies_1 : cX4_copies.data.toList.drop 22 = dktX4_copies_1 := dk_seg dksX4_copies_0 22 rfl rfl
theorem dX4_copies_0 : decode cX4_copies 0 = .ok (.iconst 0, 1) := dk_3 (dk_at dksX4_copies_0 0 rfl rfl)
theorem dX4_copies_1 : decode cX4_copies 1 = .ok (.istore 4, 2) := dk_54 4 (dk_at dksX4_copies_0 1 rfl rfl)
theorem dX4_copies_3 : decode cX4_copies 3 = .ok (.iload 4, 2) := dk_21 4 (dk_at dksX4_copies_0 3 rfl rfl)
theorem dX4_copies_5 : decode cX4_copies 5 = .ok (.bipush 42, 2) := dk_16 42 (dk_at dksX4_copies_0 5 rfl rfl)
theorem dX4_copies_7 : decode cX4_copies 7 = .ok (.if_icmp .ge 21, 3) := dk_162 0 21 (dk_at dksX4_copies_0 7 rfl rfl)
theorem dX4_copies_10 : decode cX4_copies 10 = .ok (.aload_n 2, 1) := dk_44 (dk_at dksX4_copies_0 10 rfl rfl)
theorem dX4_copies_11 : decode cX4_copies 11 = .ok (.iload_n 3, 1) := dk_29 (dk_at dksX4_copies_0 11 rfl rfl)
theorem dX4_copies_12 : decode cX4_copies 12 = .ok (.iload 4, 2) := dk_21 4 (dk_at dksX4_copies_0 12 rfl rfl)
theorem dX4_copies_14 : decode cX4_copies 14 = .ok (.iadd, 1) := dk_96 (dk_at dksX4_copies_0 14 rfl rfl)
theorem dX4_copies_15 : decode cX4_copies 15 = .ok (.aload_n 0, 1) := dk_42 (dk_at dksX4_copies_0 15 rfl rfl)
theorem dX4_copies_16 : decode cX4_copies 16 = .ok (.iload_n 1, 1) := dk_27 (dk_at dksX4_copies_0 16 rfl rfl)
theorem dX4_copies_17 : decode cX4_copies 17 = .ok (.iload 4, 2) := dk_21 4 (dk_at dksX4_copies_0 17 rfl rfl)
theorem dX4_copies_19 : decode cX4_copies 19 = .ok (.iadd, 1) := dk_96 (dk_at dksX4_copies_0 19 rfl rfl)
theorem dX4_copies_20 : decode cX4_copies 20 = .ok (.iaload, 1) := dk_46 (dk_at dksX4_copies_0 20 rfl rfl)
theorem dX4_copies_21 : decode cX4_copies 21 = .ok (.iastore, 1) := dk_79 (dk_at dksX4_copies_0 21 rfl rfl)
theorem dX4_copies_22 : decode cX4_copies 22 = .ok (.iinc 4 1, 3) := dk_132 4 1 (dk_at dksX4_copies_1 0 rfl rfl)
theorem dX4_copies_25 : decode cX4_copies 25 = .ok (.goto (-22), 3) := dk_167 255 234 (dk_at dksX4_copies_1 3 rfl rfl)
theorem dX4_copies_28 : decode cX4_copies 28 = .ok (.return_, 1) := dk_177 (dk_at dksX4_copies_1 6 rfl rfl)
abbrev cX4_fault : ByteArray := prog_26_method_29_code
def yX4_fault : MethodName := ⟨RX4, "fault", "()I"⟩
theorem dX4_fault_0 : decode cX4_fault 0 = .ok (.aload_n 0, 1) := by decide +kernel
theorem dX4_fault_1 : decode cX4_fault 1 = .ok (.getfield 123, 3) := by decide +kernel
theorem dX4_fault_4 : decode cX4_fault 4 = .ok (.ireturn, 1) := by decide +kernel
abbrev cX4_ride : ByteArray := prog_26_method_38_code
def yX4_ride : MethodName := ⟨RX4, "ride", "(I)I"⟩
def dkwX4_ride_2 : List UInt8 := [42, 182, 0, 181, 42, 180, 0, 25, 27, 184, 0, 184, 42, 180, 0, 25, 4, 46, 172]
abbrev dktX4_ride_2 : List UInt8 := dkwX4_ride_2 ++ []
def dkwX4_ride_1 : List UInt8 := [184, 0, 176, 154, 0, 6, 18, 180, 172, 42, 180, 0, 25, 6, 46, 17, 3, 231, 161, 0, 6, 18, 100, 172]
abbrev dktX4_ride_1 : List UInt8 := dkwX4_ride_1 ++ dktX4_ride_2
def dkwX4_ride_0 : List UInt8 := [42, 27, 182, 0, 173, 154, 0, 6, 18, 79, 172, 42, 180, 0, 25, 27, 42, 180, 0, 25, 7, 46]
abbrev dktX4_ride_0 : List UInt8 := dkwX4_ride_0 ++ dktX4_ride_1
theorem dksX4_ride_0 : cX4_ride.data.toList.drop 0 = dktX4_ride_0 := by decide +kernel
theorem dksX4_ride_1 : cX4_ride.data.toList.drop 22 = dktX4_ride_1 := dk_seg dksX4_ride_0 22 rfl rfl
theorem dksX4_ride_2 : cX4_ride.data.toList.drop 46 = dktX4_ride_2 := dk_seg dksX4_ride_1 24 rfl rfl
theorem dX4_ride_0 : decode cX4_ride 0 = .ok (.aload_n 0, 1) := dk_42 (dk_at dksX4_ride_0 0 rfl rfl)
theorem dX4_ride_1 : decode cX4_ride 1 = .ok (.iload_n 1, 1) := dk_27 (dk_at dksX4_ride_0 1 rfl rfl)
theorem dX4_ride_2 : decode cX4_ride 2 = .ok (.invokevirtual 173, 3) := dk_182 0 173 (dk_at dksX4_ride_0 2 rfl rfl)
theorem dX4_ride_5 : decode cX4_ride 5 = .ok (.ifCond .ne 6, 3) := dk_154 0 6 (dk_at dksX4_ride_0 5 rfl rfl)
theorem dX4_ride_8 : decode cX4_ride 8 = .ok (.ldc 79, 2) := dk_18 79 (dk_at dksX4_ride_0 8 rfl rfl)
theorem dX4_ride_10 : decode cX4_ride 10 = .ok (.ireturn, 1) := dk_172 (dk_at dksX4_ride_0 10 rfl rfl)
theorem dX4_ride_11 : decode cX4_ride 11 = .ok (.aload_n 0, 1) := dk_42 (dk_at dksX4_ride_0 11 rfl rfl)
theorem dX4_ride_12 : decode cX4_ride 12 = .ok (.getfield 25, 3) := dk_180 0 25 (dk_at dksX4_ride_0 12 rfl rfl)
theorem dX4_ride_15 : decode cX4_ride 15 = .ok (.iload_n 1, 1) := dk_27 (dk_at dksX4_ride_0 15 rfl rfl)
theorem dX4_ride_16 : decode cX4_ride 16 = .ok (.aload_n 0, 1) := dk_42 (dk_at dksX4_ride_0 16 rfl rfl)
theorem dX4_ride_17 : decode cX4_ride 17 = .ok (.getfield 25, 3) := dk_180 0 25 (dk_at dksX4_ride_0 17 rfl rfl)
theorem dX4_ride_20 : decode cX4_ride 20 = .ok (.iconst 4, 1) := dk_7 (dk_at dksX4_ride_0 20 rfl rfl)
theorem dX4_ride_21 : decode cX4_ride 21 = .ok (.iaload, 1) := dk_46 (dk_at dksX4_ride_0 21 rfl rfl)
theorem dX4_ride_22 : decode cX4_ride 22 = .ok (.invokestatic 176, 3) := dk_184 0 176 (dk_at dksX4_ride_1 0 rfl rfl)
theorem dX4_ride_25 : decode cX4_ride 25 = .ok (.ifCond .ne 6, 3) := dk_154 0 6 (dk_at dksX4_ride_1 3 rfl rfl)
theorem dX4_ride_28 : decode cX4_ride 28 = .ok (.ldc 180, 2) := dk_18 180 (dk_at dksX4_ride_1 6 rfl rfl)
theorem dX4_ride_30 : decode cX4_ride 30 = .ok (.ireturn, 1) := dk_172 (dk_at dksX4_ride_1 8 rfl rfl)
theorem dX4_ride_31 : decode cX4_ride 31 = .ok (.aload_n 0, 1) := dk_42 (dk_at dksX4_ride_1 9 rfl rfl)
theorem dX4_ride_32 : decode cX4_ride 32 = .ok (.getfield 25, 3) := dk_180 0 25 (dk_at dksX4_ride_1 10 rfl rfl)
theorem dX4_ride_35 : decode cX4_ride 35 = .ok (.iconst 3, 1) := dk_6 (dk_at dksX4_ride_1 13 rfl rfl)
theorem dX4_ride_36 : decode cX4_ride 36 = .ok (.iaload, 1) := dk_46 (dk_at dksX4_ride_1 14 rfl rfl)
theorem dX4_ride_37 : decode cX4_ride 37 = .ok (.sipush 999, 3) := dk_17 3 231 (dk_at dksX4_ride_1 15 rfl rfl)
theorem dX4_ride_40 : decode cX4_ride 40 = .ok (.if_icmp .lt 6, 3) := dk_161 0 6 (dk_at dksX4_ride_1 18 rfl rfl)
theorem dX4_ride_43 : decode cX4_ride 43 = .ok (.ldc 100, 2) := dk_18 100 (dk_at dksX4_ride_1 21 rfl rfl)
theorem dX4_ride_45 : decode cX4_ride 45 = .ok (.ireturn, 1) := dk_172 (dk_at dksX4_ride_1 23 rfl rfl)
theorem dX4_ride_46 : decode cX4_ride 46 = .ok (.aload_n 0, 1) := dk_42 (dk_at dksX4_ride_2 0 rfl rfl)
theorem dX4_ride_47 : decode cX4_ride 47 = .ok (.invokevirtual 181, 3) := dk_182 0 181 (dk_at dksX4_ride_2 1 rfl rfl)
theorem dX4_ride_50 : decode cX4_ride 50 = .ok (.aload_n 0, 1) := dk_42 (dk_at dksX4_ride_2 4 rfl rfl)
theorem dX4_ride_51 : decode cX4_ride 51 = .ok (.getfield 25, 3) := dk_180 0 25 (dk_at dksX4_ride_2 5 rfl rfl)
theorem dX4_ride_54 : decode cX4_ride 54 = .ok (.iload_n 1, 1) := dk_27 (dk_at dksX4_ride_2 8 rfl rfl)
theorem dX4_ride_55 : decode cX4_ride 55 = .ok (.invokestatic 184, 3) := dk_184 0 184 (dk_at dksX4_ride_2 9 rfl rfl)
theorem dX4_ride_58 : decode cX4_ride 58 = .ok (.aload_n 0, 1) := dk_42 (dk_at dksX4_ride_2 12 rfl rfl)
theorem dX4_ride_59 : decode cX4_ride 59 = .ok (.getfield 25, 3) := dk_180 0 25 (dk_at dksX4_ride_2 13 rfl rfl)
theorem dX4_ride_62 : decode cX4_ride 62 = .ok (.iconst 1, 1) := dk_4 (dk_at dksX4_ride_2 16 rfl rfl)
theorem dX4_ride_63 : decode cX4_ride 63 = .ok (.iaload, 1) := dk_46 (dk_at dksX4_ride_2 17 rfl rfl)
theorem dX4_ride_64 : decode cX4_ride 64 = .ok (.ireturn, 1) := dk_172 (dk_at dksX4_ride_2 18 rfl rfl)
abbrev cX4_isStreet : ByteArray := prog_26_method_32_code
def yX4_isStreet : MethodName := ⟨RX4, "isStreet", "(I)Z"⟩
def dkwX4_isStreet_0 : List UInt8 := [27, 3, 42, 180, 0, 25, 16, 25, 46, 4, 100, 184, 0, 71, 172]
abbrev dktX4_isStreet_0 : List UInt8 := dkwX4_isStreet_0 ++ []
theorem dksX4_isStreet_0 : cX4_isStreet.data.toList.drop 0 = dktX4_isStreet_0 := by decide +kernel
theorem dX4_isStreet_0 : decode cX4_isStreet 0 = .ok (.iload_n 1, 1) := dk_27 (dk_at dksX4_isStreet_0 0 rfl rfl)
theorem dX4_isStreet_1 : decode cX4_isStreet 1 = .ok (.iconst 0, 1) := dk_3 (dk_at dksX4_isStreet_0 1 rfl rfl)
theorem dX4_isStreet_2 : decode cX4_isStreet 2 = .ok (.aload_n 0, 1) := dk_42 (dk_at dksX4_isStreet_0 2 rfl rfl)
theorem dX4_isStreet_3 : decode cX4_isStreet 3 = .ok (.getfield 25, 3) := dk_180 0 25 (dk_at dksX4_isStreet_0 3 rfl rfl)
theorem dX4_isStreet_6 : decode cX4_isStreet 6 = .ok (.bipush 25, 2) := dk_16 25 (dk_at dksX4_isStreet_0 6 rfl rfl)
theorem dX4_isStreet_8 : decode cX4_isStreet 8 = .ok (.iaload, 1) := dk_46 (dk_at dksX4_isStreet_0 8 rfl rfl)
theorem dX4_isStreet_9 : decode cX4_isStreet 9 = .ok (.iconst 1, 1) := dk_4 (dk_at dksX4_isStreet_0 9 rfl rfl)
theorem dX4_isStreet_10 : decode cX4_isStreet 10 = .ok (.isub, 1) := dk_100 (dk_at dksX4_isStreet_0 10 rfl rfl)
theorem dX4_isStreet_11 : decode cX4_isStreet 11 = .ok (.invokestatic 71, 3) := dk_184 0 71 (dk_at dksX4_isStreet_0 11 rfl rfl)
theorem dX4_isStreet_14 : decode cX4_isStreet 14 = .ok (.ireturn, 1) := dk_172 (dk_at dksX4_isStreet_0 14 rfl rfl)
abbrev cX4_goes : ByteArray := prog_26_method_35_code
def yX4_goes : MethodName := ⟨RX4, "goes", "([III)Z"⟩
def dkwX4_goes_1 : List UInt8 := [42, 16, 26, 5, 27, 104, 96, 46, 28, 160, 0, 7, 4, 167, 0, 4, 3, 172]
abbrev dktX4_goes_1 : List UInt8 := dkwX4_goes_1 ++ []
def dkwX4_goes_0 : List UInt8 := [27, 3, 42, 16, 25, 46, 4, 100, 184, 0, 71, 153, 0, 29, 42, 8, 46, 27, 184, 0, 167, 153, 0, 19]
abbrev dktX4_goes_0 : List UInt8 := dkwX4_goes_0 ++ dktX4_goes_1
theorem dksX4_goes_0 : cX4_goes.data.toList.drop 0 = dktX4_goes_0 := by decide +kernel
theorem dksX4_goes_1 : cX4_goes.data.toList.drop 24 = dktX4_goes_1 := dk_seg dksX4_goes_0 24 rfl rfl
theorem dX4_goes_0 : decode cX4_goes 0 = .ok (.iload_n 1, 1) := dk_27 (dk_at dksX4_goes_0 0 rfl rfl)
theorem dX4_goes_1 : decode cX4_goes 1 = .ok (.iconst 0, 1) := dk_3 (dk_at dksX4_goes_0 1 rfl rfl)
theorem dX4_goes_2 : decode cX4_goes 2 = .ok (.aload_n 0, 1) := dk_42 (dk_at dksX4_goes_0 2 rfl rfl)
theorem dX4_goes_3 : decode cX4_goes 3 = .ok (.bipush 25, 2) := dk_16 25 (dk_at dksX4_goes_0 3 rfl rfl)
theorem dX4_goes_5 : decode cX4_goes 5 = .ok (.iaload, 1) := dk_46 (dk_at dksX4_goes_0 5 rfl rfl)
theorem dX4_goes_6 : decode cX4_goes 6 = .ok (.iconst 1, 1) := dk_4 (dk_at dksX4_goes_0 6 rfl rfl)
theorem dX4_goes_7 : decode cX4_goes 7 = .ok (.isub, 1) := dk_100 (dk_at dksX4_goes_0 7 rfl rfl)
theorem dX4_goes_8 : decode cX4_goes 8 = .ok (.invokestatic 71, 3) := dk_184 0 71 (dk_at dksX4_goes_0 8 rfl rfl)
theorem dX4_goes_11 : decode cX4_goes 11 = .ok (.ifCond .eq 29, 3) := dk_153 0 29 (dk_at dksX4_goes_0 11 rfl rfl)
theorem dX4_goes_14 : decode cX4_goes 14 = .ok (.aload_n 0, 1) := dk_42 (dk_at dksX4_goes_0 14 rfl rfl)
theorem dX4_goes_15 : decode cX4_goes 15 = .ok (.iconst 5, 1) := dk_8 (dk_at dksX4_goes_0 15 rfl rfl)
theorem dX4_goes_16 : decode cX4_goes 16 = .ok (.iaload, 1) := dk_46 (dk_at dksX4_goes_0 16 rfl rfl)
theorem dX4_goes_17 : decode cX4_goes 17 = .ok (.iload_n 1, 1) := dk_27 (dk_at dksX4_goes_0 17 rfl rfl)
theorem dX4_goes_18 : decode cX4_goes 18 = .ok (.invokestatic 167, 3) := dk_184 0 167 (dk_at dksX4_goes_0 18 rfl rfl)
theorem dX4_goes_21 : decode cX4_goes 21 = .ok (.ifCond .eq 19, 3) := dk_153 0 19 (dk_at dksX4_goes_0 21 rfl rfl)
theorem dX4_goes_24 : decode cX4_goes 24 = .ok (.aload_n 0, 1) := dk_42 (dk_at dksX4_goes_1 0 rfl rfl)
theorem dX4_goes_25 : decode cX4_goes 25 = .ok (.bipush 26, 2) := dk_16 26 (dk_at dksX4_goes_1 1 rfl rfl)
theorem dX4_goes_27 : decode cX4_goes 27 = .ok (.iconst 2, 1) := dk_5 (dk_at dksX4_goes_1 3 rfl rfl)
theorem dX4_goes_28 : decode cX4_goes 28 = .ok (.iload_n 1, 1) := dk_27 (dk_at dksX4_goes_1 4 rfl rfl)
theorem dX4_goes_29 : decode cX4_goes 29 = .ok (.imul, 1) := dk_104 (dk_at dksX4_goes_1 5 rfl rfl)
theorem dX4_goes_30 : decode cX4_goes 30 = .ok (.iadd, 1) := dk_96 (dk_at dksX4_goes_1 6 rfl rfl)
theorem dX4_goes_31 : decode cX4_goes 31 = .ok (.iaload, 1) := dk_46 (dk_at dksX4_goes_1 7 rfl rfl)
theorem dX4_goes_32 : decode cX4_goes 32 = .ok (.iload_n 2, 1) := dk_28 (dk_at dksX4_goes_1 8 rfl rfl)
theorem dX4_goes_33 : decode cX4_goes 33 = .ok (.if_icmp .ne 7, 3) := dk_160 0 7 (dk_at dksX4_goes_1 9 rfl rfl)
theorem dX4_goes_36 : decode cX4_goes 36 = .ok (.iconst 1, 1) := dk_4 (dk_at dksX4_goes_1 12 rfl rfl)
theorem dX4_goes_37 : decode cX4_goes 37 = .ok (.goto 4, 3) := dk_167 0 4 (dk_at dksX4_goes_1 13 rfl rfl)
theorem dX4_goes_40 : decode cX4_goes 40 = .ok (.iconst 0, 1) := dk_3 (dk_at dksX4_goes_1 16 rfl rfl)
theorem dX4_goes_41 : decode cX4_goes 41 = .ok (.ireturn, 1) := dk_172 (dk_at dksX4_goes_1 17 rfl rfl)
abbrev cX4_has : ByteArray := prog_26_method_4_code
def yX4_has : MethodName := ⟨RX4, "has", "(II)Z"⟩
def dkwX4_has_0 : List UInt8 := [26, 27, 122, 4, 126, 4, 160, 0, 7, 4, 167, 0, 4, 3, 172]
abbrev dktX4_has_0 : List UInt8 := dkwX4_has_0 ++ []
theorem dksX4_has_0 : cX4_has.data.toList.drop 0 = dktX4_has_0 := by decide +kernel
theorem dX4_has_0 : decode cX4_has 0 = .ok (.iload_n 0, 1) := dk_26 (dk_at dksX4_has_0 0 rfl rfl)
theorem dX4_has_1 : decode cX4_has 1 = .ok (.iload_n 1, 1) := dk_27 (dk_at dksX4_has_0 1 rfl rfl)
theorem dX4_has_2 : decode cX4_has 2 = .ok (.ishr, 1) := dk_122 (dk_at dksX4_has_0 2 rfl rfl)
theorem dX4_has_3 : decode cX4_has 3 = .ok (.iconst 1, 1) := dk_4 (dk_at dksX4_has_0 3 rfl rfl)
theorem dX4_has_4 : decode cX4_has 4 = .ok (.iand, 1) := dk_126 (dk_at dksX4_has_0 4 rfl rfl)
theorem dX4_has_5 : decode cX4_has 5 = .ok (.iconst 1, 1) := dk_4 (dk_at dksX4_has_0 5 rfl rfl)
theorem dX4_has_6 : decode cX4_has 6 = .ok (.if_icmp .ne 7, 3) := dk_160 0 7 (dk_at dksX4_has_0 6 rfl rfl)
theorem dX4_has_9 : decode cX4_has 9 = .ok (.iconst 1, 1) := dk_4 (dk_at dksX4_has_0 9 rfl rfl)
theorem dX4_has_10 : decode cX4_has 10 = .ok (.goto 4, 3) := dk_167 0 4 (dk_at dksX4_has_0 10 rfl rfl)
theorem dX4_has_13 : decode cX4_has 13 = .ok (.iconst 0, 1) := dk_3 (dk_at dksX4_has_0 13 rfl rfl)
theorem dX4_has_14 : decode cX4_has 14 = .ok (.ireturn, 1) := dk_172 (dk_at dksX4_has_0 14 rfl rfl)
abbrev cX4_notes : ByteArray := prog_26_method_37_code
def yX4_notes : MethodName := ⟨RX4, "notes", "()V"⟩
def dkwX4_notes_3 : List UInt8 := [180, 0, 160, 4, 96, 181, 0, 160, 177]
abbrev dktX4_notes_3 : List UInt8 := dkwX4_notes_3 ++ []
def dkwX4_notes_2 : List UInt8 := [181, 0, 160, 42, 180, 0, 25, 3, 42, 180, 0, 34, 16, 42, 42, 180, 0, 160, 104, 184, 0, 156, 42, 89]
abbrev dktX4_notes_2 : List UInt8 := dkwX4_notes_2 ++ dktX4_notes_3
def dkwX4_notes_1 : List UInt8 := [180, 0, 34, 27, 16, 42, 96, 46, 79, 132, 1, 1, 167, 255, 231, 42, 89, 180, 0, 160, 4, 100]
abbrev dktX4_notes_1 : List UInt8 := dkwX4_notes_1 ++ dktX4_notes_2
def dkwX4_notes_0 : List UInt8 := [42, 180, 0, 160, 16, 24, 160, 0, 43, 3, 60, 27, 17, 3, 198, 162, 0, 24, 42, 180, 0, 34, 27, 42]
abbrev dktX4_notes_0 : List UInt8 := dkwX4_notes_0 ++ dktX4_notes_1
theorem dksX4_notes_0 : cX4_notes.data.toList.drop 0 = dktX4_notes_0 := by decide +kernel
theorem dksX4_notes_1 : cX4_notes.data.toList.drop 24 = dktX4_notes_1 := dk_seg dksX4_notes_0 24 rfl rfl
theorem dksX4_notes_2 : cX4_notes.data.toList.drop 46 = dktX4_notes_2 := dk_seg dksX4_notes_1 22 rfl rfl
theorem dksX4_notes_3 : cX4_notes.data.toList.drop 70 = dktX4_notes_3 := dk_seg dksX4_notes_2 24 rfl rfl
theorem dX4_notes_0 : decode cX4_notes 0 = .ok (.aload_n 0, 1) := dk_42 (dk_at dksX4_notes_0 0 rfl rfl)
theorem dX4_notes_1 : decode cX4_notes 1 = .ok (.getfield 160, 3) := dk_180 0 160 (dk_at dksX4_notes_0 1 rfl rfl)
theorem dX4_notes_4 : decode cX4_notes 4 = .ok (.bipush 24, 2) := dk_16 24 (dk_at dksX4_notes_0 4 rfl rfl)
theorem dX4_notes_6 : decode cX4_notes 6 = .ok (.if_icmp .ne 43, 3) := dk_160 0 43 (dk_at dksX4_notes_0 6 rfl rfl)
theorem dX4_notes_9 : decode cX4_notes 9 = .ok (.iconst 0, 1) := dk_3 (dk_at dksX4_notes_0 9 rfl rfl)
theorem dX4_notes_10 : decode cX4_notes 10 = .ok (.istore_n 1, 1) := dk_60 (dk_at dksX4_notes_0 10 rfl rfl)
theorem dX4_notes_11 : decode cX4_notes 11 = .ok (.iload_n 1, 1) := dk_27 (dk_at dksX4_notes_0 11 rfl rfl)
theorem dX4_notes_12 : decode cX4_notes 12 = .ok (.sipush 966, 3) := dk_17 3 198 (dk_at dksX4_notes_0 12 rfl rfl)
theorem dX4_notes_15 : decode cX4_notes 15 = .ok (.if_icmp .ge 24, 3) := dk_162 0 24 (dk_at dksX4_notes_0 15 rfl rfl)
theorem dX4_notes_18 : decode cX4_notes 18 = .ok (.aload_n 0, 1) := dk_42 (dk_at dksX4_notes_0 18 rfl rfl)
theorem dX4_notes_19 : decode cX4_notes 19 = .ok (.getfield 34, 3) := dk_180 0 34 (dk_at dksX4_notes_0 19 rfl rfl)
theorem dX4_notes_22 : decode cX4_notes 22 = .ok (.iload_n 1, 1) := dk_27 (dk_at dksX4_notes_0 22 rfl rfl)
theorem dX4_notes_23 : decode cX4_notes 23 = .ok (.aload_n 0, 1) := dk_42 (dk_at dksX4_notes_0 23 rfl rfl)
theorem dX4_notes_24 : decode cX4_notes 24 = .ok (.getfield 34, 3) := dk_180 0 34 (dk_at dksX4_notes_1 0 rfl rfl)
theorem dX4_notes_27 : decode cX4_notes 27 = .ok (.iload_n 1, 1) := dk_27 (dk_at dksX4_notes_1 3 rfl rfl)
theorem dX4_notes_28 : decode cX4_notes 28 = .ok (.bipush 42, 2) := dk_16 42 (dk_at dksX4_notes_1 4 rfl rfl)
theorem dX4_notes_30 : decode cX4_notes 30 = .ok (.iadd, 1) := dk_96 (dk_at dksX4_notes_1 6 rfl rfl)
theorem dX4_notes_31 : decode cX4_notes 31 = .ok (.iaload, 1) := dk_46 (dk_at dksX4_notes_1 7 rfl rfl)
theorem dX4_notes_32 : decode cX4_notes 32 = .ok (.iastore, 1) := dk_79 (dk_at dksX4_notes_1 8 rfl rfl)
theorem dX4_notes_33 : decode cX4_notes 33 = .ok (.iinc 1 1, 3) := dk_132 1 1 (dk_at dksX4_notes_1 9 rfl rfl)
theorem dX4_notes_36 : decode cX4_notes 36 = .ok (.goto (-25), 3) := dk_167 255 231 (dk_at dksX4_notes_1 12 rfl rfl)
theorem dX4_notes_39 : decode cX4_notes 39 = .ok (.aload_n 0, 1) := dk_42 (dk_at dksX4_notes_1 15 rfl rfl)
theorem dX4_notes_40 : decode cX4_notes 40 = .ok (.dup, 1) := dk_89 (dk_at dksX4_notes_1 16 rfl rfl)
theorem dX4_notes_41 : decode cX4_notes 41 = .ok (.getfield 160, 3) := dk_180 0 160 (dk_at dksX4_notes_1 17 rfl rfl)
theorem dX4_notes_44 : decode cX4_notes 44 = .ok (.iconst 1, 1) := dk_4 (dk_at dksX4_notes_1 20 rfl rfl)
theorem dX4_notes_45 : decode cX4_notes 45 = .ok (.isub, 1) := dk_100 (dk_at dksX4_notes_1 21 rfl rfl)
theorem dX4_notes_46 : decode cX4_notes 46 = .ok (.putfield 160, 3) := dk_181 0 160 (dk_at dksX4_notes_2 0 rfl rfl)
theorem dX4_notes_49 : decode cX4_notes 49 = .ok (.aload_n 0, 1) := dk_42 (dk_at dksX4_notes_2 3 rfl rfl)
theorem dX4_notes_50 : decode cX4_notes 50 = .ok (.getfield 25, 3) := dk_180 0 25 (dk_at dksX4_notes_2 4 rfl rfl)
theorem dX4_notes_53 : decode cX4_notes 53 = .ok (.iconst 0, 1) := dk_3 (dk_at dksX4_notes_2 7 rfl rfl)
theorem dX4_notes_54 : decode cX4_notes 54 = .ok (.aload_n 0, 1) := dk_42 (dk_at dksX4_notes_2 8 rfl rfl)
theorem dX4_notes_55 : decode cX4_notes 55 = .ok (.getfield 34, 3) := dk_180 0 34 (dk_at dksX4_notes_2 9 rfl rfl)
theorem dX4_notes_58 : decode cX4_notes 58 = .ok (.bipush 42, 2) := dk_16 42 (dk_at dksX4_notes_2 12 rfl rfl)
theorem dX4_notes_60 : decode cX4_notes 60 = .ok (.aload_n 0, 1) := dk_42 (dk_at dksX4_notes_2 14 rfl rfl)
theorem dX4_notes_61 : decode cX4_notes 61 = .ok (.getfield 160, 3) := dk_180 0 160 (dk_at dksX4_notes_2 15 rfl rfl)
theorem dX4_notes_64 : decode cX4_notes 64 = .ok (.imul, 1) := dk_104 (dk_at dksX4_notes_2 18 rfl rfl)
theorem dX4_notes_65 : decode cX4_notes 65 = .ok (.invokestatic 156, 3) := dk_184 0 156 (dk_at dksX4_notes_2 19 rfl rfl)
theorem dX4_notes_68 : decode cX4_notes 68 = .ok (.aload_n 0, 1) := dk_42 (dk_at dksX4_notes_2 22 rfl rfl)
theorem dX4_notes_69 : decode cX4_notes 69 = .ok (.dup, 1) := dk_89 (dk_at dksX4_notes_2 23 rfl rfl)
theorem dX4_notes_70 : decode cX4_notes 70 = .ok (.getfield 160, 3) := dk_180 0 160 (dk_at dksX4_notes_3 0 rfl rfl)
theorem dX4_notes_73 : decode cX4_notes 73 = .ok (.iconst 1, 1) := dk_4 (dk_at dksX4_notes_3 3 rfl rfl)
theorem dX4_notes_74 : decode cX4_notes 74 = .ok (.iadd, 1) := dk_96 (dk_at dksX4_notes_3 4 rfl rfl)
theorem dX4_notes_75 : decode cX4_notes 75 = .ok (.putfield 160, 3) := dk_181 0 160 (dk_at dksX4_notes_3 5 rfl rfl)
theorem dX4_notes_78 : decode cX4_notes 78 = .ok (.return_, 1) := dk_177 (dk_at dksX4_notes_3 8 rfl rfl)
abbrev cX4_rides : ByteArray := prog_26_method_36_code
def yX4_rides : MethodName := ⟨RX4, "rides", "([II)V"⟩
def dkwX4_rides_2 : List UInt8 := [42, 28, 42, 4, 46, 42, 6, 46, 184, 0, 163, 79, 42, 7, 28, 79, 42, 6, 92, 46, 4, 96, 79, 177]
abbrev dktX4_rides_2 : List UInt8 := dkwX4_rides_2 ++ []
def dkwX4_rides_1 : List UInt8 := [184, 0, 170, 96, 62, 42, 5, 29, 17, 39, 15, 164, 0, 9, 17, 39, 15, 167, 0, 4, 29, 79, 42, 4]
abbrev dktX4_rides_1 : List UInt8 := dkwX4_rides_1 ++ dktX4_rides_2
def dkwX4_rides_0 : List UInt8 := [42, 16, 26, 5, 27, 104, 96, 4, 96, 46, 61, 42, 5, 46, 42, 28, 42, 4, 46, 42, 6, 46]
abbrev dktX4_rides_0 : List UInt8 := dkwX4_rides_0 ++ dktX4_rides_1
theorem dksX4_rides_0 : cX4_rides.data.toList.drop 0 = dktX4_rides_0 := by decide +kernel
theorem dksX4_rides_1 : cX4_rides.data.toList.drop 22 = dktX4_rides_1 := dk_seg dksX4_rides_0 22 rfl rfl
theorem dksX4_rides_2 : cX4_rides.data.toList.drop 46 = dktX4_rides_2 := dk_seg dksX4_rides_1 24 rfl rfl
theorem dX4_rides_0 : decode cX4_rides 0 = .ok (.aload_n 0, 1) := dk_42 (dk_at dksX4_rides_0 0 rfl rfl)
theorem dX4_rides_1 : decode cX4_rides 1 = .ok (.bipush 26, 2) := dk_16 26 (dk_at dksX4_rides_0 1 rfl rfl)
theorem dX4_rides_3 : decode cX4_rides 3 = .ok (.iconst 2, 1) := dk_5 (dk_at dksX4_rides_0 3 rfl rfl)
theorem dX4_rides_4 : decode cX4_rides 4 = .ok (.iload_n 1, 1) := dk_27 (dk_at dksX4_rides_0 4 rfl rfl)
theorem dX4_rides_5 : decode cX4_rides 5 = .ok (.imul, 1) := dk_104 (dk_at dksX4_rides_0 5 rfl rfl)
theorem dX4_rides_6 : decode cX4_rides 6 = .ok (.iadd, 1) := dk_96 (dk_at dksX4_rides_0 6 rfl rfl)
theorem dX4_rides_7 : decode cX4_rides 7 = .ok (.iconst 1, 1) := dk_4 (dk_at dksX4_rides_0 7 rfl rfl)
theorem dX4_rides_8 : decode cX4_rides 8 = .ok (.iadd, 1) := dk_96 (dk_at dksX4_rides_0 8 rfl rfl)
theorem dX4_rides_9 : decode cX4_rides 9 = .ok (.iaload, 1) := dk_46 (dk_at dksX4_rides_0 9 rfl rfl)
theorem dX4_rides_10 : decode cX4_rides 10 = .ok (.istore_n 2, 1) := dk_61 (dk_at dksX4_rides_0 10 rfl rfl)
theorem dX4_rides_11 : decode cX4_rides 11 = .ok (.aload_n 0, 1) := dk_42 (dk_at dksX4_rides_0 11 rfl rfl)
theorem dX4_rides_12 : decode cX4_rides 12 = .ok (.iconst 2, 1) := dk_5 (dk_at dksX4_rides_0 12 rfl rfl)
theorem dX4_rides_13 : decode cX4_rides 13 = .ok (.iaload, 1) := dk_46 (dk_at dksX4_rides_0 13 rfl rfl)
theorem dX4_rides_14 : decode cX4_rides 14 = .ok (.aload_n 0, 1) := dk_42 (dk_at dksX4_rides_0 14 rfl rfl)
theorem dX4_rides_15 : decode cX4_rides 15 = .ok (.iload_n 2, 1) := dk_28 (dk_at dksX4_rides_0 15 rfl rfl)
theorem dX4_rides_16 : decode cX4_rides 16 = .ok (.aload_n 0, 1) := dk_42 (dk_at dksX4_rides_0 16 rfl rfl)
theorem dX4_rides_17 : decode cX4_rides 17 = .ok (.iconst 1, 1) := dk_4 (dk_at dksX4_rides_0 17 rfl rfl)
theorem dX4_rides_18 : decode cX4_rides 18 = .ok (.iaload, 1) := dk_46 (dk_at dksX4_rides_0 18 rfl rfl)
theorem dX4_rides_19 : decode cX4_rides 19 = .ok (.aload_n 0, 1) := dk_42 (dk_at dksX4_rides_0 19 rfl rfl)
theorem dX4_rides_20 : decode cX4_rides 20 = .ok (.iconst 3, 1) := dk_6 (dk_at dksX4_rides_0 20 rfl rfl)
theorem dX4_rides_21 : decode cX4_rides 21 = .ok (.iaload, 1) := dk_46 (dk_at dksX4_rides_0 21 rfl rfl)
theorem dX4_rides_22 : decode cX4_rides 22 = .ok (.invokestatic 170, 3) := dk_184 0 170 (dk_at dksX4_rides_1 0 rfl rfl)
theorem dX4_rides_25 : decode cX4_rides 25 = .ok (.iadd, 1) := dk_96 (dk_at dksX4_rides_1 3 rfl rfl)
theorem dX4_rides_26 : decode cX4_rides 26 = .ok (.istore_n 3, 1) := dk_62 (dk_at dksX4_rides_1 4 rfl rfl)
theorem dX4_rides_27 : decode cX4_rides 27 = .ok (.aload_n 0, 1) := dk_42 (dk_at dksX4_rides_1 5 rfl rfl)
theorem dX4_rides_28 : decode cX4_rides 28 = .ok (.iconst 2, 1) := dk_5 (dk_at dksX4_rides_1 6 rfl rfl)
theorem dX4_rides_29 : decode cX4_rides 29 = .ok (.iload_n 3, 1) := dk_29 (dk_at dksX4_rides_1 7 rfl rfl)
theorem dX4_rides_30 : decode cX4_rides 30 = .ok (.sipush 9999, 3) := dk_17 39 15 (dk_at dksX4_rides_1 8 rfl rfl)
theorem dX4_rides_33 : decode cX4_rides 33 = .ok (.if_icmp .le 9, 3) := dk_164 0 9 (dk_at dksX4_rides_1 11 rfl rfl)
theorem dX4_rides_36 : decode cX4_rides 36 = .ok (.sipush 9999, 3) := dk_17 39 15 (dk_at dksX4_rides_1 14 rfl rfl)
theorem dX4_rides_39 : decode cX4_rides 39 = .ok (.goto 4, 3) := dk_167 0 4 (dk_at dksX4_rides_1 17 rfl rfl)
theorem dX4_rides_42 : decode cX4_rides 42 = .ok (.iload_n 3, 1) := dk_29 (dk_at dksX4_rides_1 20 rfl rfl)
theorem dX4_rides_43 : decode cX4_rides 43 = .ok (.iastore, 1) := dk_79 (dk_at dksX4_rides_1 21 rfl rfl)
theorem dX4_rides_44 : decode cX4_rides 44 = .ok (.aload_n 0, 1) := dk_42 (dk_at dksX4_rides_1 22 rfl rfl)
theorem dX4_rides_45 : decode cX4_rides 45 = .ok (.iconst 1, 1) := dk_4 (dk_at dksX4_rides_1 23 rfl rfl)
theorem dX4_rides_46 : decode cX4_rides 46 = .ok (.aload_n 0, 1) := dk_42 (dk_at dksX4_rides_2 0 rfl rfl)
theorem dX4_rides_47 : decode cX4_rides 47 = .ok (.iload_n 2, 1) := dk_28 (dk_at dksX4_rides_2 1 rfl rfl)
theorem dX4_rides_48 : decode cX4_rides 48 = .ok (.aload_n 0, 1) := dk_42 (dk_at dksX4_rides_2 2 rfl rfl)
theorem dX4_rides_49 : decode cX4_rides 49 = .ok (.iconst 1, 1) := dk_4 (dk_at dksX4_rides_2 3 rfl rfl)
theorem dX4_rides_50 : decode cX4_rides 50 = .ok (.iaload, 1) := dk_46 (dk_at dksX4_rides_2 4 rfl rfl)
theorem dX4_rides_51 : decode cX4_rides 51 = .ok (.aload_n 0, 1) := dk_42 (dk_at dksX4_rides_2 5 rfl rfl)
theorem dX4_rides_52 : decode cX4_rides 52 = .ok (.iconst 3, 1) := dk_6 (dk_at dksX4_rides_2 6 rfl rfl)
theorem dX4_rides_53 : decode cX4_rides 53 = .ok (.iaload, 1) := dk_46 (dk_at dksX4_rides_2 7 rfl rfl)
theorem dX4_rides_54 : decode cX4_rides 54 = .ok (.invokestatic 163, 3) := dk_184 0 163 (dk_at dksX4_rides_2 8 rfl rfl)
theorem dX4_rides_57 : decode cX4_rides 57 = .ok (.iastore, 1) := dk_79 (dk_at dksX4_rides_2 11 rfl rfl)
theorem dX4_rides_58 : decode cX4_rides 58 = .ok (.aload_n 0, 1) := dk_42 (dk_at dksX4_rides_2 12 rfl rfl)
theorem dX4_rides_59 : decode cX4_rides 59 = .ok (.iconst 4, 1) := dk_7 (dk_at dksX4_rides_2 13 rfl rfl)
theorem dX4_rides_60 : decode cX4_rides 60 = .ok (.iload_n 2, 1) := dk_28 (dk_at dksX4_rides_2 14 rfl rfl)
theorem dX4_rides_61 : decode cX4_rides 61 = .ok (.iastore, 1) := dk_79 (dk_at dksX4_rides_2 15 rfl rfl)
theorem dX4_rides_62 : decode cX4_rides 62 = .ok (.aload_n 0, 1) := dk_42 (dk_at dksX4_rides_2 16 rfl rfl)
theorem dX4_rides_63 : decode cX4_rides 63 = .ok (.iconst 3, 1) := dk_6 (dk_at dksX4_rides_2 17 rfl rfl)
theorem dX4_rides_64 : decode cX4_rides 64 = .ok (.dup2, 1) := dk_92 (dk_at dksX4_rides_2 18 rfl rfl)
theorem dX4_rides_65 : decode cX4_rides 65 = .ok (.iaload, 1) := dk_46 (dk_at dksX4_rides_2 19 rfl rfl)
theorem dX4_rides_66 : decode cX4_rides 66 = .ok (.iconst 1, 1) := dk_4 (dk_at dksX4_rides_2 20 rfl rfl)
theorem dX4_rides_67 : decode cX4_rides 67 = .ok (.iadd, 1) := dk_96 (dk_at dksX4_rides_2 21 rfl rfl)
theorem dX4_rides_68 : decode cX4_rides 68 = .ok (.iastore, 1) := dk_79 (dk_at dksX4_rides_2 22 rfl rfl)
theorem dX4_rides_69 : decode cX4_rides 69 = .ok (.return_, 1) := dk_177 (dk_at dksX4_rides_2 23 rfl rfl)
abbrev cX4_cost : ByteArray := prog_26_method_34_code
def yX4_cost : MethodName := ⟨RX4, "cost", "([IIII)I"⟩
def dkwX4_cost_1 : List UInt8 := [21, 4, 100, 42, 3, 46, 104, 42, 16, 7, 6, 27, 104, 96, 5, 96, 46, 96, 172]
abbrev dktX4_cost_1 : List UInt8 := dkwX4_cost_1 ++ []
def dkwX4_cost_0 : List UInt8 := [42, 27, 28, 29, 184, 0, 163, 54, 4, 21, 4, 28, 164, 0, 10, 21, 4, 28, 100, 167, 0, 7, 28]
abbrev dktX4_cost_0 : List UInt8 := dkwX4_cost_0 ++ dktX4_cost_1
theorem dksX4_cost_0 : cX4_cost.data.toList.drop 0 = dktX4_cost_0 := by decide +kernel
theorem dksX4_cost_1 : cX4_cost.data.toList.drop 23 = dktX4_cost_1 := dk_seg dksX4_cost_0 23 rfl rfl
theorem dX4_cost_0 : decode cX4_cost 0 = .ok (.aload_n 0, 1) := dk_42 (dk_at dksX4_cost_0 0 rfl rfl)
theorem dX4_cost_1 : decode cX4_cost 1 = .ok (.iload_n 1, 1) := dk_27 (dk_at dksX4_cost_0 1 rfl rfl)
theorem dX4_cost_2 : decode cX4_cost 2 = .ok (.iload_n 2, 1) := dk_28 (dk_at dksX4_cost_0 2 rfl rfl)
theorem dX4_cost_3 : decode cX4_cost 3 = .ok (.iload_n 3, 1) := dk_29 (dk_at dksX4_cost_0 3 rfl rfl)
theorem dX4_cost_4 : decode cX4_cost 4 = .ok (.invokestatic 163, 3) := dk_184 0 163 (dk_at dksX4_cost_0 4 rfl rfl)
theorem dX4_cost_7 : decode cX4_cost 7 = .ok (.istore 4, 2) := dk_54 4 (dk_at dksX4_cost_0 7 rfl rfl)
theorem dX4_cost_9 : decode cX4_cost 9 = .ok (.iload 4, 2) := dk_21 4 (dk_at dksX4_cost_0 9 rfl rfl)
theorem dX4_cost_11 : decode cX4_cost 11 = .ok (.iload_n 2, 1) := dk_28 (dk_at dksX4_cost_0 11 rfl rfl)
theorem dX4_cost_12 : decode cX4_cost 12 = .ok (.if_icmp .le 10, 3) := dk_164 0 10 (dk_at dksX4_cost_0 12 rfl rfl)
theorem dX4_cost_15 : decode cX4_cost 15 = .ok (.iload 4, 2) := dk_21 4 (dk_at dksX4_cost_0 15 rfl rfl)
theorem dX4_cost_17 : decode cX4_cost 17 = .ok (.iload_n 2, 1) := dk_28 (dk_at dksX4_cost_0 17 rfl rfl)
theorem dX4_cost_18 : decode cX4_cost 18 = .ok (.isub, 1) := dk_100 (dk_at dksX4_cost_0 18 rfl rfl)
theorem dX4_cost_19 : decode cX4_cost 19 = .ok (.goto 7, 3) := dk_167 0 7 (dk_at dksX4_cost_0 19 rfl rfl)
theorem dX4_cost_22 : decode cX4_cost 22 = .ok (.iload_n 2, 1) := dk_28 (dk_at dksX4_cost_0 22 rfl rfl)
theorem dX4_cost_23 : decode cX4_cost 23 = .ok (.iload 4, 2) := dk_21 4 (dk_at dksX4_cost_1 0 rfl rfl)
theorem dX4_cost_25 : decode cX4_cost 25 = .ok (.isub, 1) := dk_100 (dk_at dksX4_cost_1 2 rfl rfl)
theorem dX4_cost_26 : decode cX4_cost 26 = .ok (.aload_n 0, 1) := dk_42 (dk_at dksX4_cost_1 3 rfl rfl)
theorem dX4_cost_27 : decode cX4_cost 27 = .ok (.iconst 0, 1) := dk_3 (dk_at dksX4_cost_1 4 rfl rfl)
theorem dX4_cost_28 : decode cX4_cost 28 = .ok (.iaload, 1) := dk_46 (dk_at dksX4_cost_1 5 rfl rfl)
theorem dX4_cost_29 : decode cX4_cost 29 = .ok (.imul, 1) := dk_104 (dk_at dksX4_cost_1 6 rfl rfl)
theorem dX4_cost_30 : decode cX4_cost 30 = .ok (.aload_n 0, 1) := dk_42 (dk_at dksX4_cost_1 7 rfl rfl)
theorem dX4_cost_31 : decode cX4_cost 31 = .ok (.bipush 7, 2) := dk_16 7 (dk_at dksX4_cost_1 8 rfl rfl)
theorem dX4_cost_33 : decode cX4_cost 33 = .ok (.iconst 3, 1) := dk_6 (dk_at dksX4_cost_1 10 rfl rfl)
theorem dX4_cost_34 : decode cX4_cost 34 = .ok (.iload_n 1, 1) := dk_27 (dk_at dksX4_cost_1 11 rfl rfl)
theorem dX4_cost_35 : decode cX4_cost 35 = .ok (.imul, 1) := dk_104 (dk_at dksX4_cost_1 12 rfl rfl)
theorem dX4_cost_36 : decode cX4_cost 36 = .ok (.iadd, 1) := dk_96 (dk_at dksX4_cost_1 13 rfl rfl)
theorem dX4_cost_37 : decode cX4_cost 37 = .ok (.iconst 2, 1) := dk_5 (dk_at dksX4_cost_1 14 rfl rfl)
theorem dX4_cost_38 : decode cX4_cost 38 = .ok (.iadd, 1) := dk_96 (dk_at dksX4_cost_1 15 rfl rfl)
theorem dX4_cost_39 : decode cX4_cost 39 = .ok (.iaload, 1) := dk_46 (dk_at dksX4_cost_1 16 rfl rfl)
theorem dX4_cost_40 : decode cX4_cost 40 = .ok (.iadd, 1) := dk_96 (dk_at dksX4_cost_1 17 rfl rfl)
theorem dX4_cost_41 : decode cX4_cost 41 = .ok (.ireturn, 1) := dk_172 (dk_at dksX4_cost_1 18 rfl rfl)
abbrev cX4_passed : ByteArray := prog_26_method_33_code
def yX4_passed : MethodName := ⟨RX4, "passed", "([IIII)I"⟩
def dkwX4_passed_6 : List UInt8 := [108, 167, 0, 5, 21, 6, 172]
abbrev dktX4_passed_6 : List UInt8 := dkwX4_passed_6 ++ []
def dkwX4_passed_5 : List UInt8 := [16, 9, 167, 0, 5, 21, 6, 54, 6, 42, 16, 7, 6, 27, 104, 96, 46, 8, 160, 0, 10, 21, 6, 5]
abbrev dktX4_passed_5 : List UInt8 := dkwX4_passed_5 ++ dktX4_passed_6
def dkwX4_passed_4 : List UInt8 := [54, 5, 28, 21, 5, 96, 54, 6, 21, 6, 156, 0, 7, 3, 167, 0, 17, 21, 6, 16, 9, 164, 0, 8]
abbrev dktX4_passed_4 : List UInt8 := dkwX4_passed_4 ++ dktX4_passed_5
def dkwX4_passed_3 : List UInt8 := [167, 0, 26, 29, 5, 112, 4, 160, 0, 8, 21, 4, 167, 0, 4, 3, 54, 5, 167, 0, 8, 21, 4, 116]
abbrev dktX4_passed_3 : List UInt8 := dkwX4_passed_3 ++ dktX4_passed_4
def dkwX4_passed_2 : List UInt8 := [21, 4, 54, 5, 167, 0, 45, 28, 7, 164, 0, 10, 5, 21, 4, 104, 167, 0, 5, 21, 4, 54, 5]
abbrev dktX4_passed_2 : List UInt8 := dkwX4_passed_2 ++ dktX4_passed_3
def dkwX4_passed_1 : List UInt8 := [170, 0, 0, 0, 69, 0, 0, 0, 1, 0, 0, 0, 3, 0, 0, 0, 25, 0, 0, 0, 32, 0, 0, 0, 51]
abbrev dktX4_passed_1 : List UInt8 := dkwX4_passed_1 ++ dktX4_passed_2
def dkwX4_passed_0 : List UInt8 := [42, 16, 7, 6, 27, 104, 96, 4, 96, 46, 54, 4, 3, 54, 5, 42, 16, 7, 6, 27, 104, 96, 46]
abbrev dktX4_passed_0 : List UInt8 := dkwX4_passed_0 ++ dktX4_passed_1
theorem dksX4_passed_0 : cX4_passed.data.toList.drop 0 = dktX4_passed_0 := by decide +kernel
theorem dksX4_passed_1 : cX4_passed.data.toList.drop 23 = dktX4_passed_1 := dk_seg dksX4_passed_0 23 rfl rfl
theorem dksX4_passed_2 : cX4_passed.data.toList.drop 48 = dktX4_passed_2 := dk_seg dksX4_passed_1 25 rfl rfl
theorem dksX4_passed_3 : cX4_passed.data.toList.drop 71 = dktX4_passed_3 := dk_seg dksX4_passed_2 23 rfl rfl
theorem dksX4_passed_4 : cX4_passed.data.toList.drop 95 = dktX4_passed_4 := dk_seg dksX4_passed_3 24 rfl rfl
theorem dksX4_passed_5 : cX4_passed.data.toList.drop 119 = dktX4_passed_5 := dk_seg dksX4_passed_4 24 rfl rfl
theorem dksX4_passed_6 : cX4_passed.data.toList.drop 143 = dktX4_passed_6 := dk_seg dksX4_passed_5 24 rfl rfl
theorem dX4_passed_0 : decode cX4_passed 0 = .ok (.aload_n 0, 1) := dk_42 (dk_at dksX4_passed_0 0 rfl rfl)
theorem dX4_passed_1 : decode cX4_passed 1 = .ok (.bipush 7, 2) := dk_16 7 (dk_at dksX4_passed_0 1 rfl rfl)
theorem dX4_passed_3 : decode cX4_passed 3 = .ok (.iconst 3, 1) := dk_6 (dk_at dksX4_passed_0 3 rfl rfl)
theorem dX4_passed_4 : decode cX4_passed 4 = .ok (.iload_n 1, 1) := dk_27 (dk_at dksX4_passed_0 4 rfl rfl)
theorem dX4_passed_5 : decode cX4_passed 5 = .ok (.imul, 1) := dk_104 (dk_at dksX4_passed_0 5 rfl rfl)
theorem dX4_passed_6 : decode cX4_passed 6 = .ok (.iadd, 1) := dk_96 (dk_at dksX4_passed_0 6 rfl rfl)
theorem dX4_passed_7 : decode cX4_passed 7 = .ok (.iconst 1, 1) := dk_4 (dk_at dksX4_passed_0 7 rfl rfl)
theorem dX4_passed_8 : decode cX4_passed 8 = .ok (.iadd, 1) := dk_96 (dk_at dksX4_passed_0 8 rfl rfl)
theorem dX4_passed_9 : decode cX4_passed 9 = .ok (.iaload, 1) := dk_46 (dk_at dksX4_passed_0 9 rfl rfl)
theorem dX4_passed_10 : decode cX4_passed 10 = .ok (.istore 4, 2) := dk_54 4 (dk_at dksX4_passed_0 10 rfl rfl)
theorem dX4_passed_12 : decode cX4_passed 12 = .ok (.iconst 0, 1) := dk_3 (dk_at dksX4_passed_0 12 rfl rfl)
theorem dX4_passed_13 : decode cX4_passed 13 = .ok (.istore 5, 2) := dk_54 5 (dk_at dksX4_passed_0 13 rfl rfl)
theorem dX4_passed_15 : decode cX4_passed 15 = .ok (.aload_n 0, 1) := dk_42 (dk_at dksX4_passed_0 15 rfl rfl)
theorem dX4_passed_16 : decode cX4_passed 16 = .ok (.bipush 7, 2) := dk_16 7 (dk_at dksX4_passed_0 16 rfl rfl)
theorem dX4_passed_18 : decode cX4_passed 18 = .ok (.iconst 3, 1) := dk_6 (dk_at dksX4_passed_0 18 rfl rfl)
theorem dX4_passed_19 : decode cX4_passed 19 = .ok (.iload_n 1, 1) := dk_27 (dk_at dksX4_passed_0 19 rfl rfl)
theorem dX4_passed_20 : decode cX4_passed 20 = .ok (.imul, 1) := dk_104 (dk_at dksX4_passed_0 20 rfl rfl)
theorem dX4_passed_21 : decode cX4_passed 21 = .ok (.iadd, 1) := dk_96 (dk_at dksX4_passed_0 21 rfl rfl)
theorem dX4_passed_22 : decode cX4_passed 22 = .ok (.iaload, 1) := dk_46 (dk_at dksX4_passed_0 22 rfl rfl)
theorem dX4_passed_23 : decode cX4_passed 23 = .ok (.tableswitch 69 1 3 #[25, 32, 51], 25) := by decide +kernel
theorem dX4_passed_48 : decode cX4_passed 48 = .ok (.iload 4, 2) := dk_21 4 (dk_at dksX4_passed_2 0 rfl rfl)
theorem dX4_passed_50 : decode cX4_passed 50 = .ok (.istore 5, 2) := dk_54 5 (dk_at dksX4_passed_2 2 rfl rfl)
theorem dX4_passed_52 : decode cX4_passed 52 = .ok (.goto 45, 3) := dk_167 0 45 (dk_at dksX4_passed_2 4 rfl rfl)
theorem dX4_passed_55 : decode cX4_passed 55 = .ok (.iload_n 2, 1) := dk_28 (dk_at dksX4_passed_2 7 rfl rfl)
theorem dX4_passed_56 : decode cX4_passed 56 = .ok (.iconst 4, 1) := dk_7 (dk_at dksX4_passed_2 8 rfl rfl)
theorem dX4_passed_57 : decode cX4_passed 57 = .ok (.if_icmp .le 10, 3) := dk_164 0 10 (dk_at dksX4_passed_2 9 rfl rfl)
theorem dX4_passed_60 : decode cX4_passed 60 = .ok (.iconst 2, 1) := dk_5 (dk_at dksX4_passed_2 12 rfl rfl)
theorem dX4_passed_61 : decode cX4_passed 61 = .ok (.iload 4, 2) := dk_21 4 (dk_at dksX4_passed_2 13 rfl rfl)
theorem dX4_passed_63 : decode cX4_passed 63 = .ok (.imul, 1) := dk_104 (dk_at dksX4_passed_2 15 rfl rfl)
theorem dX4_passed_64 : decode cX4_passed 64 = .ok (.goto 5, 3) := dk_167 0 5 (dk_at dksX4_passed_2 16 rfl rfl)
theorem dX4_passed_67 : decode cX4_passed 67 = .ok (.iload 4, 2) := dk_21 4 (dk_at dksX4_passed_2 19 rfl rfl)
theorem dX4_passed_69 : decode cX4_passed 69 = .ok (.istore 5, 2) := dk_54 5 (dk_at dksX4_passed_2 21 rfl rfl)
theorem dX4_passed_71 : decode cX4_passed 71 = .ok (.goto 26, 3) := dk_167 0 26 (dk_at dksX4_passed_3 0 rfl rfl)
theorem dX4_passed_74 : decode cX4_passed 74 = .ok (.iload_n 3, 1) := dk_29 (dk_at dksX4_passed_3 3 rfl rfl)
theorem dX4_passed_75 : decode cX4_passed 75 = .ok (.iconst 2, 1) := dk_5 (dk_at dksX4_passed_3 4 rfl rfl)
theorem dX4_passed_76 : decode cX4_passed 76 = .ok (.irem, 1) := dk_112 (dk_at dksX4_passed_3 5 rfl rfl)
theorem dX4_passed_77 : decode cX4_passed 77 = .ok (.iconst 1, 1) := dk_4 (dk_at dksX4_passed_3 6 rfl rfl)
theorem dX4_passed_78 : decode cX4_passed 78 = .ok (.if_icmp .ne 8, 3) := dk_160 0 8 (dk_at dksX4_passed_3 7 rfl rfl)
theorem dX4_passed_81 : decode cX4_passed 81 = .ok (.iload 4, 2) := dk_21 4 (dk_at dksX4_passed_3 10 rfl rfl)
theorem dX4_passed_83 : decode cX4_passed 83 = .ok (.goto 4, 3) := dk_167 0 4 (dk_at dksX4_passed_3 12 rfl rfl)
theorem dX4_passed_86 : decode cX4_passed 86 = .ok (.iconst 0, 1) := dk_3 (dk_at dksX4_passed_3 15 rfl rfl)
theorem dX4_passed_87 : decode cX4_passed 87 = .ok (.istore 5, 2) := dk_54 5 (dk_at dksX4_passed_3 16 rfl rfl)
theorem dX4_passed_89 : decode cX4_passed 89 = .ok (.goto 8, 3) := dk_167 0 8 (dk_at dksX4_passed_3 18 rfl rfl)
theorem dX4_passed_92 : decode cX4_passed 92 = .ok (.iload 4, 2) := dk_21 4 (dk_at dksX4_passed_3 21 rfl rfl)
theorem dX4_passed_94 : decode cX4_passed 94 = .ok (.ineg, 1) := dk_116 (dk_at dksX4_passed_3 23 rfl rfl)
theorem dX4_passed_95 : decode cX4_passed 95 = .ok (.istore 5, 2) := dk_54 5 (dk_at dksX4_passed_4 0 rfl rfl)
theorem dX4_passed_97 : decode cX4_passed 97 = .ok (.iload_n 2, 1) := dk_28 (dk_at dksX4_passed_4 2 rfl rfl)
theorem dX4_passed_98 : decode cX4_passed 98 = .ok (.iload 5, 2) := dk_21 5 (dk_at dksX4_passed_4 3 rfl rfl)
theorem dX4_passed_100 : decode cX4_passed 100 = .ok (.iadd, 1) := dk_96 (dk_at dksX4_passed_4 5 rfl rfl)
theorem dX4_passed_101 : decode cX4_passed 101 = .ok (.istore 6, 2) := dk_54 6 (dk_at dksX4_passed_4 6 rfl rfl)
theorem dX4_passed_103 : decode cX4_passed 103 = .ok (.iload 6, 2) := dk_21 6 (dk_at dksX4_passed_4 8 rfl rfl)
theorem dX4_passed_105 : decode cX4_passed 105 = .ok (.ifCond .ge 7, 3) := dk_156 0 7 (dk_at dksX4_passed_4 10 rfl rfl)
theorem dX4_passed_108 : decode cX4_passed 108 = .ok (.iconst 0, 1) := dk_3 (dk_at dksX4_passed_4 13 rfl rfl)
theorem dX4_passed_109 : decode cX4_passed 109 = .ok (.goto 17, 3) := dk_167 0 17 (dk_at dksX4_passed_4 14 rfl rfl)
theorem dX4_passed_112 : decode cX4_passed 112 = .ok (.iload 6, 2) := dk_21 6 (dk_at dksX4_passed_4 17 rfl rfl)
theorem dX4_passed_114 : decode cX4_passed 114 = .ok (.bipush 9, 2) := dk_16 9 (dk_at dksX4_passed_4 19 rfl rfl)
theorem dX4_passed_116 : decode cX4_passed 116 = .ok (.if_icmp .le 8, 3) := dk_164 0 8 (dk_at dksX4_passed_4 21 rfl rfl)
theorem dX4_passed_119 : decode cX4_passed 119 = .ok (.bipush 9, 2) := dk_16 9 (dk_at dksX4_passed_5 0 rfl rfl)
theorem dX4_passed_121 : decode cX4_passed 121 = .ok (.goto 5, 3) := dk_167 0 5 (dk_at dksX4_passed_5 2 rfl rfl)
theorem dX4_passed_124 : decode cX4_passed 124 = .ok (.iload 6, 2) := dk_21 6 (dk_at dksX4_passed_5 5 rfl rfl)
theorem dX4_passed_126 : decode cX4_passed 126 = .ok (.istore 6, 2) := dk_54 6 (dk_at dksX4_passed_5 7 rfl rfl)
theorem dX4_passed_128 : decode cX4_passed 128 = .ok (.aload_n 0, 1) := dk_42 (dk_at dksX4_passed_5 9 rfl rfl)
theorem dX4_passed_129 : decode cX4_passed 129 = .ok (.bipush 7, 2) := dk_16 7 (dk_at dksX4_passed_5 10 rfl rfl)
theorem dX4_passed_131 : decode cX4_passed 131 = .ok (.iconst 3, 1) := dk_6 (dk_at dksX4_passed_5 12 rfl rfl)
theorem dX4_passed_132 : decode cX4_passed 132 = .ok (.iload_n 1, 1) := dk_27 (dk_at dksX4_passed_5 13 rfl rfl)
theorem dX4_passed_133 : decode cX4_passed 133 = .ok (.imul, 1) := dk_104 (dk_at dksX4_passed_5 14 rfl rfl)
theorem dX4_passed_134 : decode cX4_passed 134 = .ok (.iadd, 1) := dk_96 (dk_at dksX4_passed_5 15 rfl rfl)
theorem dX4_passed_135 : decode cX4_passed 135 = .ok (.iaload, 1) := dk_46 (dk_at dksX4_passed_5 16 rfl rfl)
theorem dX4_passed_136 : decode cX4_passed 136 = .ok (.iconst 5, 1) := dk_8 (dk_at dksX4_passed_5 17 rfl rfl)
theorem dX4_passed_137 : decode cX4_passed 137 = .ok (.if_icmp .ne 10, 3) := dk_160 0 10 (dk_at dksX4_passed_5 18 rfl rfl)
theorem dX4_passed_140 : decode cX4_passed 140 = .ok (.iload 6, 2) := dk_21 6 (dk_at dksX4_passed_5 21 rfl rfl)
theorem dX4_passed_142 : decode cX4_passed 142 = .ok (.iconst 2, 1) := dk_5 (dk_at dksX4_passed_5 23 rfl rfl)
theorem dX4_passed_143 : decode cX4_passed 143 = .ok (.idiv, 1) := dk_108 (dk_at dksX4_passed_6 0 rfl rfl)
theorem dX4_passed_144 : decode cX4_passed 144 = .ok (.goto 5, 3) := dk_167 0 5 (dk_at dksX4_passed_6 1 rfl rfl)
theorem dX4_passed_147 : decode cX4_passed 147 = .ok (.iload 6, 2) := dk_21 6 (dk_at dksX4_passed_6 4 rfl rfl)
theorem dX4_passed_149 : decode cX4_passed 149 = .ok (.ireturn, 1) := dk_172 (dk_at dksX4_passed_6 6 rfl rfl)
abbrev cX4_lesson : ByteArray := prog_26_method_39_code
def yX4_lesson : MethodName := ⟨RX4, "lesson", "(II)I"⟩
def dkwX4_lesson_2 : List UInt8 := [27, 104, 96, 4, 96, 28, 79, 29, 172]
abbrev dktX4_lesson_2 : List UInt8 := dkwX4_lesson_2 ++ []
def dkwX4_lesson_1 : List UInt8 := [182, 0, 181, 42, 180, 0, 25, 16, 7, 6, 27, 104, 96, 4, 96, 46, 62, 42, 180, 0, 25, 16, 7, 6]
abbrev dktX4_lesson_1 : List UInt8 := dkwX4_lesson_1 ++ dktX4_lesson_2
def dkwX4_lesson_0 : List UInt8 := [42, 27, 182, 0, 188, 153, 0, 13, 28, 3, 16, 9, 184, 0, 71, 154, 0, 6, 18, 79, 172, 42]
abbrev dktX4_lesson_0 : List UInt8 := dkwX4_lesson_0 ++ dktX4_lesson_1
theorem dksX4_lesson_0 : cX4_lesson.data.toList.drop 0 = dktX4_lesson_0 := by decide +kernel
theorem dksX4_lesson_1 : cX4_lesson.data.toList.drop 22 = dktX4_lesson_1 := dk_seg dksX4_lesson_0 22 rfl rfl
theorem dksX4_lesson_2 : cX4_lesson.data.toList.drop 46 = dktX4_lesson_2 := dk_seg dksX4_lesson_1 24 rfl rfl
theorem dX4_lesson_0 : decode cX4_lesson 0 = .ok (.aload_n 0, 1) := dk_42 (dk_at dksX4_lesson_0 0 rfl rfl)
theorem dX4_lesson_1 : decode cX4_lesson 1 = .ok (.iload_n 1, 1) := dk_27 (dk_at dksX4_lesson_0 1 rfl rfl)
theorem dX4_lesson_2 : decode cX4_lesson 2 = .ok (.invokevirtual 188, 3) := dk_182 0 188 (dk_at dksX4_lesson_0 2 rfl rfl)
theorem dX4_lesson_5 : decode cX4_lesson 5 = .ok (.ifCond .eq 13, 3) := dk_153 0 13 (dk_at dksX4_lesson_0 5 rfl rfl)
theorem dX4_lesson_8 : decode cX4_lesson 8 = .ok (.iload_n 2, 1) := dk_28 (dk_at dksX4_lesson_0 8 rfl rfl)
theorem dX4_lesson_9 : decode cX4_lesson 9 = .ok (.iconst 0, 1) := dk_3 (dk_at dksX4_lesson_0 9 rfl rfl)
theorem dX4_lesson_10 : decode cX4_lesson 10 = .ok (.bipush 9, 2) := dk_16 9 (dk_at dksX4_lesson_0 10 rfl rfl)
theorem dX4_lesson_12 : decode cX4_lesson 12 = .ok (.invokestatic 71, 3) := dk_184 0 71 (dk_at dksX4_lesson_0 12 rfl rfl)
theorem dX4_lesson_15 : decode cX4_lesson 15 = .ok (.ifCond .ne 6, 3) := dk_154 0 6 (dk_at dksX4_lesson_0 15 rfl rfl)
theorem dX4_lesson_18 : decode cX4_lesson 18 = .ok (.ldc 79, 2) := dk_18 79 (dk_at dksX4_lesson_0 18 rfl rfl)
theorem dX4_lesson_20 : decode cX4_lesson 20 = .ok (.ireturn, 1) := dk_172 (dk_at dksX4_lesson_0 20 rfl rfl)
theorem dX4_lesson_21 : decode cX4_lesson 21 = .ok (.aload_n 0, 1) := dk_42 (dk_at dksX4_lesson_0 21 rfl rfl)
theorem dX4_lesson_22 : decode cX4_lesson 22 = .ok (.invokevirtual 181, 3) := dk_182 0 181 (dk_at dksX4_lesson_1 0 rfl rfl)
theorem dX4_lesson_25 : decode cX4_lesson 25 = .ok (.aload_n 0, 1) := dk_42 (dk_at dksX4_lesson_1 3 rfl rfl)
theorem dX4_lesson_26 : decode cX4_lesson 26 = .ok (.getfield 25, 3) := dk_180 0 25 (dk_at dksX4_lesson_1 4 rfl rfl)
theorem dX4_lesson_29 : decode cX4_lesson 29 = .ok (.bipush 7, 2) := dk_16 7 (dk_at dksX4_lesson_1 7 rfl rfl)
theorem dX4_lesson_31 : decode cX4_lesson 31 = .ok (.iconst 3, 1) := dk_6 (dk_at dksX4_lesson_1 9 rfl rfl)
theorem dX4_lesson_32 : decode cX4_lesson 32 = .ok (.iload_n 1, 1) := dk_27 (dk_at dksX4_lesson_1 10 rfl rfl)
theorem dX4_lesson_33 : decode cX4_lesson 33 = .ok (.imul, 1) := dk_104 (dk_at dksX4_lesson_1 11 rfl rfl)
theorem dX4_lesson_34 : decode cX4_lesson 34 = .ok (.iadd, 1) := dk_96 (dk_at dksX4_lesson_1 12 rfl rfl)
theorem dX4_lesson_35 : decode cX4_lesson 35 = .ok (.iconst 1, 1) := dk_4 (dk_at dksX4_lesson_1 13 rfl rfl)
theorem dX4_lesson_36 : decode cX4_lesson 36 = .ok (.iadd, 1) := dk_96 (dk_at dksX4_lesson_1 14 rfl rfl)
theorem dX4_lesson_37 : decode cX4_lesson 37 = .ok (.iaload, 1) := dk_46 (dk_at dksX4_lesson_1 15 rfl rfl)
theorem dX4_lesson_38 : decode cX4_lesson 38 = .ok (.istore_n 3, 1) := dk_62 (dk_at dksX4_lesson_1 16 rfl rfl)
theorem dX4_lesson_39 : decode cX4_lesson 39 = .ok (.aload_n 0, 1) := dk_42 (dk_at dksX4_lesson_1 17 rfl rfl)
theorem dX4_lesson_40 : decode cX4_lesson 40 = .ok (.getfield 25, 3) := dk_180 0 25 (dk_at dksX4_lesson_1 18 rfl rfl)
theorem dX4_lesson_43 : decode cX4_lesson 43 = .ok (.bipush 7, 2) := dk_16 7 (dk_at dksX4_lesson_1 21 rfl rfl)
theorem dX4_lesson_45 : decode cX4_lesson 45 = .ok (.iconst 3, 1) := dk_6 (dk_at dksX4_lesson_1 23 rfl rfl)
theorem dX4_lesson_46 : decode cX4_lesson 46 = .ok (.iload_n 1, 1) := dk_27 (dk_at dksX4_lesson_2 0 rfl rfl)
theorem dX4_lesson_47 : decode cX4_lesson 47 = .ok (.imul, 1) := dk_104 (dk_at dksX4_lesson_2 1 rfl rfl)
theorem dX4_lesson_48 : decode cX4_lesson 48 = .ok (.iadd, 1) := dk_96 (dk_at dksX4_lesson_2 2 rfl rfl)
theorem dX4_lesson_49 : decode cX4_lesson 49 = .ok (.iconst 1, 1) := dk_4 (dk_at dksX4_lesson_2 3 rfl rfl)
theorem dX4_lesson_50 : decode cX4_lesson 50 = .ok (.iadd, 1) := dk_96 (dk_at dksX4_lesson_2 4 rfl rfl)
theorem dX4_lesson_51 : decode cX4_lesson 51 = .ok (.iload_n 2, 1) := dk_28 (dk_at dksX4_lesson_2 5 rfl rfl)
theorem dX4_lesson_52 : decode cX4_lesson 52 = .ok (.iastore, 1) := dk_79 (dk_at dksX4_lesson_2 6 rfl rfl)
theorem dX4_lesson_53 : decode cX4_lesson 53 = .ok (.iload_n 3, 1) := dk_29 (dk_at dksX4_lesson_2 7 rfl rfl)
theorem dX4_lesson_54 : decode cX4_lesson 54 = .ok (.ireturn, 1) := dk_172 (dk_at dksX4_lesson_2 8 rfl rfl)
abbrev cX4_isCorner : ByteArray := prog_26_method_31_code
def yX4_isCorner : MethodName := ⟨RX4, "isCorner", "(I)Z"⟩
def dkwX4_isCorner_0 : List UInt8 := [27, 3, 42, 180, 0, 25, 16, 6, 46, 4, 100, 184, 0, 71, 172]
abbrev dktX4_isCorner_0 : List UInt8 := dkwX4_isCorner_0 ++ []
theorem dksX4_isCorner_0 : cX4_isCorner.data.toList.drop 0 = dktX4_isCorner_0 := by decide +kernel
theorem dX4_isCorner_0 : decode cX4_isCorner 0 = .ok (.iload_n 1, 1) := dk_27 (dk_at dksX4_isCorner_0 0 rfl rfl)
theorem dX4_isCorner_1 : decode cX4_isCorner 1 = .ok (.iconst 0, 1) := dk_3 (dk_at dksX4_isCorner_0 1 rfl rfl)
theorem dX4_isCorner_2 : decode cX4_isCorner 2 = .ok (.aload_n 0, 1) := dk_42 (dk_at dksX4_isCorner_0 2 rfl rfl)
theorem dX4_isCorner_3 : decode cX4_isCorner 3 = .ok (.getfield 25, 3) := dk_180 0 25 (dk_at dksX4_isCorner_0 3 rfl rfl)
theorem dX4_isCorner_6 : decode cX4_isCorner 6 = .ok (.bipush 6, 2) := dk_16 6 (dk_at dksX4_isCorner_0 6 rfl rfl)
theorem dX4_isCorner_8 : decode cX4_isCorner 8 = .ok (.iaload, 1) := dk_46 (dk_at dksX4_isCorner_0 8 rfl rfl)
theorem dX4_isCorner_9 : decode cX4_isCorner 9 = .ok (.iconst 1, 1) := dk_4 (dk_at dksX4_isCorner_0 9 rfl rfl)
theorem dX4_isCorner_10 : decode cX4_isCorner 10 = .ok (.isub, 1) := dk_100 (dk_at dksX4_isCorner_0 10 rfl rfl)
theorem dX4_isCorner_11 : decode cX4_isCorner 11 = .ok (.invokestatic 71, 3) := dk_184 0 71 (dk_at dksX4_isCorner_0 11 rfl rfl)
theorem dX4_isCorner_14 : decode cX4_isCorner 14 = .ok (.ireturn, 1) := dk_172 (dk_at dksX4_isCorner_0 14 rfl rfl)
abbrev cX4_reset : ByteArray := prog_26_method_40_code
def yX4_reset : MethodName := ⟨RX4, "reset", "()I"⟩
def dkwX4_reset_1 : List UInt8 := [180, 0, 25, 5, 3, 79, 27, 172]
abbrev dktX4_reset_1 : List UInt8 := dkwX4_reset_1 ++ []
def dkwX4_reset_0 : List UInt8 := [42, 182, 0, 191, 154, 0, 6, 18, 180, 172, 42, 182, 0, 181, 42, 180, 0, 25, 5, 46, 60, 42]
abbrev dktX4_reset_0 : List UInt8 := dkwX4_reset_0 ++ dktX4_reset_1
theorem dksX4_reset_0 : cX4_reset.data.toList.drop 0 = dktX4_reset_0 := by decide +kernel
theorem dksX4_reset_1 : cX4_reset.data.toList.drop 22 = dktX4_reset_1 := dk_seg dksX4_reset_0 22 rfl rfl
theorem dX4_reset_0 : decode cX4_reset 0 = .ok (.aload_n 0, 1) := dk_42 (dk_at dksX4_reset_0 0 rfl rfl)
theorem dX4_reset_1 : decode cX4_reset 1 = .ok (.invokevirtual 191, 3) := dk_182 0 191 (dk_at dksX4_reset_0 1 rfl rfl)
theorem dX4_reset_4 : decode cX4_reset 4 = .ok (.ifCond .ne 6, 3) := dk_154 0 6 (dk_at dksX4_reset_0 4 rfl rfl)
theorem dX4_reset_7 : decode cX4_reset 7 = .ok (.ldc 180, 2) := dk_18 180 (dk_at dksX4_reset_0 7 rfl rfl)
theorem dX4_reset_9 : decode cX4_reset 9 = .ok (.ireturn, 1) := dk_172 (dk_at dksX4_reset_0 9 rfl rfl)
theorem dX4_reset_10 : decode cX4_reset 10 = .ok (.aload_n 0, 1) := dk_42 (dk_at dksX4_reset_0 10 rfl rfl)
theorem dX4_reset_11 : decode cX4_reset 11 = .ok (.invokevirtual 181, 3) := dk_182 0 181 (dk_at dksX4_reset_0 11 rfl rfl)
theorem dX4_reset_14 : decode cX4_reset 14 = .ok (.aload_n 0, 1) := dk_42 (dk_at dksX4_reset_0 14 rfl rfl)
theorem dX4_reset_15 : decode cX4_reset 15 = .ok (.getfield 25, 3) := dk_180 0 25 (dk_at dksX4_reset_0 15 rfl rfl)
theorem dX4_reset_18 : decode cX4_reset 18 = .ok (.iconst 2, 1) := dk_5 (dk_at dksX4_reset_0 18 rfl rfl)
theorem dX4_reset_19 : decode cX4_reset 19 = .ok (.iaload, 1) := dk_46 (dk_at dksX4_reset_0 19 rfl rfl)
theorem dX4_reset_20 : decode cX4_reset 20 = .ok (.istore_n 1, 1) := dk_60 (dk_at dksX4_reset_0 20 rfl rfl)
theorem dX4_reset_21 : decode cX4_reset 21 = .ok (.aload_n 0, 1) := dk_42 (dk_at dksX4_reset_0 21 rfl rfl)
theorem dX4_reset_22 : decode cX4_reset 22 = .ok (.getfield 25, 3) := dk_180 0 25 (dk_at dksX4_reset_1 0 rfl rfl)
theorem dX4_reset_25 : decode cX4_reset 25 = .ok (.iconst 2, 1) := dk_5 (dk_at dksX4_reset_1 3 rfl rfl)
theorem dX4_reset_26 : decode cX4_reset 26 = .ok (.iconst 0, 1) := dk_3 (dk_at dksX4_reset_1 4 rfl rfl)
theorem dX4_reset_27 : decode cX4_reset 27 = .ok (.iastore, 1) := dk_79 (dk_at dksX4_reset_1 5 rfl rfl)
theorem dX4_reset_28 : decode cX4_reset 28 = .ok (.iload_n 1, 1) := dk_27 (dk_at dksX4_reset_1 6 rfl rfl)
theorem dX4_reset_29 : decode cX4_reset 29 = .ok (.ireturn, 1) := dk_172 (dk_at dksX4_reset_1 7 rfl rfl)
abbrev cX4_isTown : ByteArray := prog_26_method_30_code
def yX4_isTown : MethodName := ⟨RX4, "isTown", "()Z"⟩
def dkwX4_isTown_0 : List UInt8 := [42, 180, 0, 25, 3, 46, 158, 0, 7, 4, 167, 0, 4, 3, 172]
abbrev dktX4_isTown_0 : List UInt8 := dkwX4_isTown_0 ++ []
theorem dksX4_isTown_0 : cX4_isTown.data.toList.drop 0 = dktX4_isTown_0 := by decide +kernel
theorem dX4_isTown_0 : decode cX4_isTown 0 = .ok (.aload_n 0, 1) := dk_42 (dk_at dksX4_isTown_0 0 rfl rfl)
theorem dX4_isTown_1 : decode cX4_isTown 1 = .ok (.getfield 25, 3) := dk_180 0 25 (dk_at dksX4_isTown_0 1 rfl rfl)
theorem dX4_isTown_4 : decode cX4_isTown 4 = .ok (.iconst 0, 1) := dk_3 (dk_at dksX4_isTown_0 4 rfl rfl)
theorem dX4_isTown_5 : decode cX4_isTown 5 = .ok (.iaload, 1) := dk_46 (dk_at dksX4_isTown_0 5 rfl rfl)
theorem dX4_isTown_6 : decode cX4_isTown 6 = .ok (.ifCond .le 7, 3) := dk_158 0 7 (dk_at dksX4_isTown_0 6 rfl rfl)
theorem dX4_isTown_9 : decode cX4_isTown 9 = .ok (.iconst 1, 1) := dk_4 (dk_at dksX4_isTown_0 9 rfl rfl)
theorem dX4_isTown_10 : decode cX4_isTown 10 = .ok (.goto 4, 3) := dk_167 0 4 (dk_at dksX4_isTown_0 10 rfl rfl)
theorem dX4_isTown_13 : decode cX4_isTown 13 = .ok (.iconst 0, 1) := dk_3 (dk_at dksX4_isTown_0 13 rfl rfl)
theorem dX4_isTown_14 : decode cX4_isTown 14 = .ok (.ireturn, 1) := dk_172 (dk_at dksX4_isTown_0 14 rfl rfl)
abbrev cX4_street : ByteArray := prog_26_method_41_code
def yX4_street : MethodName := ⟨RX4, "street", "(II)I"⟩
def dkwX4_street_2 : List UInt8 := [4, 27, 120, 130, 79, 42, 180, 0, 25, 8, 46, 172]
abbrev dktX4_street_2 : List UInt8 := dkwX4_street_2 ++ []
def dkwX4_street_1 : List UInt8 := [8, 46, 27, 122, 4, 126, 28, 160, 0, 6, 18, 180, 172, 42, 182, 0, 181, 42, 180, 0, 25, 8, 92, 46]
abbrev dktX4_street_1 : List UInt8 := dkwX4_street_1 ++ dktX4_street_2
def dkwX4_street_0 : List UInt8 := [42, 27, 182, 0, 173, 153, 0, 12, 28, 3, 4, 184, 0, 71, 154, 0, 6, 18, 79, 172, 42, 180, 0, 25]
abbrev dktX4_street_0 : List UInt8 := dkwX4_street_0 ++ dktX4_street_1
theorem dksX4_street_0 : cX4_street.data.toList.drop 0 = dktX4_street_0 := by decide +kernel
theorem dksX4_street_1 : cX4_street.data.toList.drop 24 = dktX4_street_1 := dk_seg dksX4_street_0 24 rfl rfl
theorem dksX4_street_2 : cX4_street.data.toList.drop 48 = dktX4_street_2 := dk_seg dksX4_street_1 24 rfl rfl
theorem dX4_street_0 : decode cX4_street 0 = .ok (.aload_n 0, 1) := dk_42 (dk_at dksX4_street_0 0 rfl rfl)
theorem dX4_street_1 : decode cX4_street 1 = .ok (.iload_n 1, 1) := dk_27 (dk_at dksX4_street_0 1 rfl rfl)
theorem dX4_street_2 : decode cX4_street 2 = .ok (.invokevirtual 173, 3) := dk_182 0 173 (dk_at dksX4_street_0 2 rfl rfl)
theorem dX4_street_5 : decode cX4_street 5 = .ok (.ifCond .eq 12, 3) := dk_153 0 12 (dk_at dksX4_street_0 5 rfl rfl)
theorem dX4_street_8 : decode cX4_street 8 = .ok (.iload_n 2, 1) := dk_28 (dk_at dksX4_street_0 8 rfl rfl)
theorem dX4_street_9 : decode cX4_street 9 = .ok (.iconst 0, 1) := dk_3 (dk_at dksX4_street_0 9 rfl rfl)
theorem dX4_street_10 : decode cX4_street 10 = .ok (.iconst 1, 1) := dk_4 (dk_at dksX4_street_0 10 rfl rfl)
theorem dX4_street_11 : decode cX4_street 11 = .ok (.invokestatic 71, 3) := dk_184 0 71 (dk_at dksX4_street_0 11 rfl rfl)
theorem dX4_street_14 : decode cX4_street 14 = .ok (.ifCond .ne 6, 3) := dk_154 0 6 (dk_at dksX4_street_0 14 rfl rfl)
theorem dX4_street_17 : decode cX4_street 17 = .ok (.ldc 79, 2) := dk_18 79 (dk_at dksX4_street_0 17 rfl rfl)
theorem dX4_street_19 : decode cX4_street 19 = .ok (.ireturn, 1) := dk_172 (dk_at dksX4_street_0 19 rfl rfl)
theorem dX4_street_20 : decode cX4_street 20 = .ok (.aload_n 0, 1) := dk_42 (dk_at dksX4_street_0 20 rfl rfl)
theorem dX4_street_21 : decode cX4_street 21 = .ok (.getfield 25, 3) := dk_180 0 25 (dk_at dksX4_street_0 21 rfl rfl)
theorem dX4_street_24 : decode cX4_street 24 = .ok (.iconst 5, 1) := dk_8 (dk_at dksX4_street_1 0 rfl rfl)
theorem dX4_street_25 : decode cX4_street 25 = .ok (.iaload, 1) := dk_46 (dk_at dksX4_street_1 1 rfl rfl)
theorem dX4_street_26 : decode cX4_street 26 = .ok (.iload_n 1, 1) := dk_27 (dk_at dksX4_street_1 2 rfl rfl)
theorem dX4_street_27 : decode cX4_street 27 = .ok (.ishr, 1) := dk_122 (dk_at dksX4_street_1 3 rfl rfl)
theorem dX4_street_28 : decode cX4_street 28 = .ok (.iconst 1, 1) := dk_4 (dk_at dksX4_street_1 4 rfl rfl)
theorem dX4_street_29 : decode cX4_street 29 = .ok (.iand, 1) := dk_126 (dk_at dksX4_street_1 5 rfl rfl)
theorem dX4_street_30 : decode cX4_street 30 = .ok (.iload_n 2, 1) := dk_28 (dk_at dksX4_street_1 6 rfl rfl)
theorem dX4_street_31 : decode cX4_street 31 = .ok (.if_icmp .ne 6, 3) := dk_160 0 6 (dk_at dksX4_street_1 7 rfl rfl)
theorem dX4_street_34 : decode cX4_street 34 = .ok (.ldc 180, 2) := dk_18 180 (dk_at dksX4_street_1 10 rfl rfl)
theorem dX4_street_36 : decode cX4_street 36 = .ok (.ireturn, 1) := dk_172 (dk_at dksX4_street_1 12 rfl rfl)
theorem dX4_street_37 : decode cX4_street 37 = .ok (.aload_n 0, 1) := dk_42 (dk_at dksX4_street_1 13 rfl rfl)
theorem dX4_street_38 : decode cX4_street 38 = .ok (.invokevirtual 181, 3) := dk_182 0 181 (dk_at dksX4_street_1 14 rfl rfl)
theorem dX4_street_41 : decode cX4_street 41 = .ok (.aload_n 0, 1) := dk_42 (dk_at dksX4_street_1 17 rfl rfl)
theorem dX4_street_42 : decode cX4_street 42 = .ok (.getfield 25, 3) := dk_180 0 25 (dk_at dksX4_street_1 18 rfl rfl)
theorem dX4_street_45 : decode cX4_street 45 = .ok (.iconst 5, 1) := dk_8 (dk_at dksX4_street_1 21 rfl rfl)
theorem dX4_street_46 : decode cX4_street 46 = .ok (.dup2, 1) := dk_92 (dk_at dksX4_street_1 22 rfl rfl)
theorem dX4_street_47 : decode cX4_street 47 = .ok (.iaload, 1) := dk_46 (dk_at dksX4_street_1 23 rfl rfl)
theorem dX4_street_48 : decode cX4_street 48 = .ok (.iconst 1, 1) := dk_4 (dk_at dksX4_street_2 0 rfl rfl)
theorem dX4_street_49 : decode cX4_street 49 = .ok (.iload_n 1, 1) := dk_27 (dk_at dksX4_street_2 1 rfl rfl)
theorem dX4_street_50 : decode cX4_street 50 = .ok (.ishl, 1) := dk_120 (dk_at dksX4_street_2 2 rfl rfl)
theorem dX4_street_51 : decode cX4_street 51 = .ok (.ixor, 1) := dk_130 (dk_at dksX4_street_2 3 rfl rfl)
theorem dX4_street_52 : decode cX4_street 52 = .ok (.iastore, 1) := dk_79 (dk_at dksX4_street_2 4 rfl rfl)
theorem dX4_street_53 : decode cX4_street 53 = .ok (.aload_n 0, 1) := dk_42 (dk_at dksX4_street_2 5 rfl rfl)
theorem dX4_street_54 : decode cX4_street 54 = .ok (.getfield 25, 3) := dk_180 0 25 (dk_at dksX4_street_2 6 rfl rfl)
theorem dX4_street_57 : decode cX4_street 57 = .ok (.iconst 5, 1) := dk_8 (dk_at dksX4_street_2 9 rfl rfl)
theorem dX4_street_58 : decode cX4_street 58 = .ok (.iaload, 1) := dk_46 (dk_at dksX4_street_2 10 rfl rfl)
theorem dX4_street_59 : decode cX4_street 59 = .ok (.ireturn, 1) := dk_172 (dk_at dksX4_street_2 11 rfl rfl)
abbrev cX4_undo : ByteArray := prog_26_method_42_code
def yX4_undo : MethodName := ⟨RX4, "undo", "()I"⟩
def dkwX4_undo_1 : List UInt8 := [16, 42, 42, 180, 0, 160, 104, 42, 180, 0, 25, 3, 184, 0, 156, 42, 180, 0, 160, 172]
abbrev dktX4_undo_1 : List UInt8 := dkwX4_undo_1 ++ []
def dkwX4_undo_0 : List UInt8 := [42, 180, 0, 160, 154, 0, 6, 18, 180, 172, 42, 89, 180, 0, 160, 4, 100, 181, 0, 160, 42, 180, 0, 34]
abbrev dktX4_undo_0 : List UInt8 := dkwX4_undo_0 ++ dktX4_undo_1
theorem dksX4_undo_0 : cX4_undo.data.toList.drop 0 = dktX4_undo_0 := by decide +kernel
theorem dksX4_undo_1 : cX4_undo.data.toList.drop 24 = dktX4_undo_1 := dk_seg dksX4_undo_0 24 rfl rfl
theorem dX4_undo_0 : decode cX4_undo 0 = .ok (.aload_n 0, 1) := dk_42 (dk_at dksX4_undo_0 0 rfl rfl)
theorem dX4_undo_1 : decode cX4_undo 1 = .ok (.getfield 160, 3) := dk_180 0 160 (dk_at dksX4_undo_0 1 rfl rfl)
theorem dX4_undo_4 : decode cX4_undo 4 = .ok (.ifCond .ne 6, 3) := dk_154 0 6 (dk_at dksX4_undo_0 4 rfl rfl)
theorem dX4_undo_7 : decode cX4_undo 7 = .ok (.ldc 180, 2) := dk_18 180 (dk_at dksX4_undo_0 7 rfl rfl)
theorem dX4_undo_9 : decode cX4_undo 9 = .ok (.ireturn, 1) := dk_172 (dk_at dksX4_undo_0 9 rfl rfl)
theorem dX4_undo_10 : decode cX4_undo 10 = .ok (.aload_n 0, 1) := dk_42 (dk_at dksX4_undo_0 10 rfl rfl)
theorem dX4_undo_11 : decode cX4_undo 11 = .ok (.dup, 1) := dk_89 (dk_at dksX4_undo_0 11 rfl rfl)
theorem dX4_undo_12 : decode cX4_undo 12 = .ok (.getfield 160, 3) := dk_180 0 160 (dk_at dksX4_undo_0 12 rfl rfl)
theorem dX4_undo_15 : decode cX4_undo 15 = .ok (.iconst 1, 1) := dk_4 (dk_at dksX4_undo_0 15 rfl rfl)
theorem dX4_undo_16 : decode cX4_undo 16 = .ok (.isub, 1) := dk_100 (dk_at dksX4_undo_0 16 rfl rfl)
theorem dX4_undo_17 : decode cX4_undo 17 = .ok (.putfield 160, 3) := dk_181 0 160 (dk_at dksX4_undo_0 17 rfl rfl)
theorem dX4_undo_20 : decode cX4_undo 20 = .ok (.aload_n 0, 1) := dk_42 (dk_at dksX4_undo_0 20 rfl rfl)
theorem dX4_undo_21 : decode cX4_undo 21 = .ok (.getfield 34, 3) := dk_180 0 34 (dk_at dksX4_undo_0 21 rfl rfl)
theorem dX4_undo_24 : decode cX4_undo 24 = .ok (.bipush 42, 2) := dk_16 42 (dk_at dksX4_undo_1 0 rfl rfl)
theorem dX4_undo_26 : decode cX4_undo 26 = .ok (.aload_n 0, 1) := dk_42 (dk_at dksX4_undo_1 2 rfl rfl)
theorem dX4_undo_27 : decode cX4_undo 27 = .ok (.getfield 160, 3) := dk_180 0 160 (dk_at dksX4_undo_1 3 rfl rfl)
theorem dX4_undo_30 : decode cX4_undo 30 = .ok (.imul, 1) := dk_104 (dk_at dksX4_undo_1 6 rfl rfl)
theorem dX4_undo_31 : decode cX4_undo 31 = .ok (.aload_n 0, 1) := dk_42 (dk_at dksX4_undo_1 7 rfl rfl)
theorem dX4_undo_32 : decode cX4_undo 32 = .ok (.getfield 25, 3) := dk_180 0 25 (dk_at dksX4_undo_1 8 rfl rfl)
theorem dX4_undo_35 : decode cX4_undo 35 = .ok (.iconst 0, 1) := dk_3 (dk_at dksX4_undo_1 11 rfl rfl)
theorem dX4_undo_36 : decode cX4_undo 36 = .ok (.invokestatic 156, 3) := dk_184 0 156 (dk_at dksX4_undo_1 12 rfl rfl)
theorem dX4_undo_39 : decode cX4_undo 39 = .ok (.aload_n 0, 1) := dk_42 (dk_at dksX4_undo_1 15 rfl rfl)
theorem dX4_undo_40 : decode cX4_undo 40 = .ok (.getfield 160, 3) := dk_180 0 160 (dk_at dksX4_undo_1 16 rfl rfl)
theorem dX4_undo_43 : decode cX4_undo 43 = .ok (.ireturn, 1) := dk_172 (dk_at dksX4_undo_1 19 rfl rfl)
abbrev cX4_corner : ByteArray := prog_26_method_44_code
def yX4_corner : MethodName := ⟨RX4, "corner", "(II)I"⟩
def dkwX4_corner_4 : List UInt8 := [180, 0, 25, 4, 46, 42, 180, 0, 25, 6, 46, 184, 0, 163, 172, 18, 79, 172]
abbrev dktX4_corner_4 : List UInt8 := dkwX4_corner_4 ++ []
def dkwX4_corner_3 : List UInt8 := [5, 96, 46, 172, 42, 27, 3, 182, 0, 194, 172, 42, 27, 4, 182, 0, 194, 172, 42, 180, 0, 25, 27, 42]
abbrev dktX4_corner_3 : List UInt8 := dkwX4_corner_3 ++ dktX4_corner_4
def dkwX4_corner_2 : List UInt8 := [42, 180, 0, 25, 16, 7, 6, 27, 104, 96, 4, 96, 46, 172, 42, 180, 0, 25, 16, 7, 6, 27, 104, 96]
abbrev dktX4_corner_2 : List UInt8 := dkwX4_corner_2 ++ dktX4_corner_3
def dkwX4_corner_1 : List UInt8 := [170, 0, 0, 0, 0, 0, 0, 99, 0, 0, 0, 0, 0, 0, 0, 4, 0, 0, 0, 36, 0, 0, 0, 50, 0, 0, 0, 64, 0, 0, 0, 71, 0, 0, 0, 78]
abbrev dktX4_corner_1 : List UInt8 := dkwX4_corner_1 ++ dktX4_corner_2
def dkwX4_corner_0 : List UInt8 := [42, 27, 182, 0, 188, 154, 0, 6, 18, 79, 172, 28]
abbrev dktX4_corner_0 : List UInt8 := dkwX4_corner_0 ++ dktX4_corner_1
theorem dksX4_corner_0 : cX4_corner.data.toList.drop 0 = dktX4_corner_0 := by decide +kernel
theorem dksX4_corner_1 : cX4_corner.data.toList.drop 12 = dktX4_corner_1 := dk_seg dksX4_corner_0 12 rfl rfl
theorem dksX4_corner_2 : cX4_corner.data.toList.drop 48 = dktX4_corner_2 := dk_seg dksX4_corner_1 36 rfl rfl
theorem dksX4_corner_3 : cX4_corner.data.toList.drop 72 = dktX4_corner_3 := dk_seg dksX4_corner_2 24 rfl rfl
theorem dksX4_corner_4 : cX4_corner.data.toList.drop 96 = dktX4_corner_4 := dk_seg dksX4_corner_3 24 rfl rfl
theorem dX4_corner_0 : decode cX4_corner 0 = .ok (.aload_n 0, 1) := dk_42 (dk_at dksX4_corner_0 0 rfl rfl)
theorem dX4_corner_1 : decode cX4_corner 1 = .ok (.iload_n 1, 1) := dk_27 (dk_at dksX4_corner_0 1 rfl rfl)
theorem dX4_corner_2 : decode cX4_corner 2 = .ok (.invokevirtual 188, 3) := dk_182 0 188 (dk_at dksX4_corner_0 2 rfl rfl)
theorem dX4_corner_5 : decode cX4_corner 5 = .ok (.ifCond .ne 6, 3) := dk_154 0 6 (dk_at dksX4_corner_0 5 rfl rfl)
theorem dX4_corner_8 : decode cX4_corner 8 = .ok (.ldc 79, 2) := dk_18 79 (dk_at dksX4_corner_0 8 rfl rfl)
theorem dX4_corner_10 : decode cX4_corner 10 = .ok (.ireturn, 1) := dk_172 (dk_at dksX4_corner_0 10 rfl rfl)
theorem dX4_corner_11 : decode cX4_corner 11 = .ok (.iload_n 2, 1) := dk_28 (dk_at dksX4_corner_0 11 rfl rfl)
theorem dX4_corner_12 : decode cX4_corner 12 = .ok (.tableswitch 99 0 4 #[36, 50, 64, 71, 78], 36) := by decide +kernel
theorem dX4_corner_48 : decode cX4_corner 48 = .ok (.aload_n 0, 1) := dk_42 (dk_at dksX4_corner_2 0 rfl rfl)
theorem dX4_corner_49 : decode cX4_corner 49 = .ok (.getfield 25, 3) := dk_180 0 25 (dk_at dksX4_corner_2 1 rfl rfl)
theorem dX4_corner_52 : decode cX4_corner 52 = .ok (.bipush 7, 2) := dk_16 7 (dk_at dksX4_corner_2 4 rfl rfl)
theorem dX4_corner_54 : decode cX4_corner 54 = .ok (.iconst 3, 1) := dk_6 (dk_at dksX4_corner_2 6 rfl rfl)
theorem dX4_corner_55 : decode cX4_corner 55 = .ok (.iload_n 1, 1) := dk_27 (dk_at dksX4_corner_2 7 rfl rfl)
theorem dX4_corner_56 : decode cX4_corner 56 = .ok (.imul, 1) := dk_104 (dk_at dksX4_corner_2 8 rfl rfl)
theorem dX4_corner_57 : decode cX4_corner 57 = .ok (.iadd, 1) := dk_96 (dk_at dksX4_corner_2 9 rfl rfl)
theorem dX4_corner_58 : decode cX4_corner 58 = .ok (.iconst 1, 1) := dk_4 (dk_at dksX4_corner_2 10 rfl rfl)
theorem dX4_corner_59 : decode cX4_corner 59 = .ok (.iadd, 1) := dk_96 (dk_at dksX4_corner_2 11 rfl rfl)
theorem dX4_corner_60 : decode cX4_corner 60 = .ok (.iaload, 1) := dk_46 (dk_at dksX4_corner_2 12 rfl rfl)
theorem dX4_corner_61 : decode cX4_corner 61 = .ok (.ireturn, 1) := dk_172 (dk_at dksX4_corner_2 13 rfl rfl)
theorem dX4_corner_62 : decode cX4_corner 62 = .ok (.aload_n 0, 1) := dk_42 (dk_at dksX4_corner_2 14 rfl rfl)
theorem dX4_corner_63 : decode cX4_corner 63 = .ok (.getfield 25, 3) := dk_180 0 25 (dk_at dksX4_corner_2 15 rfl rfl)
theorem dX4_corner_66 : decode cX4_corner 66 = .ok (.bipush 7, 2) := dk_16 7 (dk_at dksX4_corner_2 18 rfl rfl)
theorem dX4_corner_68 : decode cX4_corner 68 = .ok (.iconst 3, 1) := dk_6 (dk_at dksX4_corner_2 20 rfl rfl)
theorem dX4_corner_69 : decode cX4_corner 69 = .ok (.iload_n 1, 1) := dk_27 (dk_at dksX4_corner_2 21 rfl rfl)
theorem dX4_corner_70 : decode cX4_corner 70 = .ok (.imul, 1) := dk_104 (dk_at dksX4_corner_2 22 rfl rfl)
theorem dX4_corner_71 : decode cX4_corner 71 = .ok (.iadd, 1) := dk_96 (dk_at dksX4_corner_2 23 rfl rfl)
theorem dX4_corner_72 : decode cX4_corner 72 = .ok (.iconst 2, 1) := dk_5 (dk_at dksX4_corner_3 0 rfl rfl)
theorem dX4_corner_73 : decode cX4_corner 73 = .ok (.iadd, 1) := dk_96 (dk_at dksX4_corner_3 1 rfl rfl)
theorem dX4_corner_74 : decode cX4_corner 74 = .ok (.iaload, 1) := dk_46 (dk_at dksX4_corner_3 2 rfl rfl)
theorem dX4_corner_75 : decode cX4_corner 75 = .ok (.ireturn, 1) := dk_172 (dk_at dksX4_corner_3 3 rfl rfl)
theorem dX4_corner_76 : decode cX4_corner 76 = .ok (.aload_n 0, 1) := dk_42 (dk_at dksX4_corner_3 4 rfl rfl)
theorem dX4_corner_77 : decode cX4_corner 77 = .ok (.iload_n 1, 1) := dk_27 (dk_at dksX4_corner_3 5 rfl rfl)
theorem dX4_corner_78 : decode cX4_corner 78 = .ok (.iconst 0, 1) := dk_3 (dk_at dksX4_corner_3 6 rfl rfl)
theorem dX4_corner_79 : decode cX4_corner 79 = .ok (.invokevirtual 194, 3) := dk_182 0 194 (dk_at dksX4_corner_3 7 rfl rfl)
theorem dX4_corner_82 : decode cX4_corner 82 = .ok (.ireturn, 1) := dk_172 (dk_at dksX4_corner_3 10 rfl rfl)
theorem dX4_corner_83 : decode cX4_corner 83 = .ok (.aload_n 0, 1) := dk_42 (dk_at dksX4_corner_3 11 rfl rfl)
theorem dX4_corner_84 : decode cX4_corner 84 = .ok (.iload_n 1, 1) := dk_27 (dk_at dksX4_corner_3 12 rfl rfl)
theorem dX4_corner_85 : decode cX4_corner 85 = .ok (.iconst 1, 1) := dk_4 (dk_at dksX4_corner_3 13 rfl rfl)
theorem dX4_corner_86 : decode cX4_corner 86 = .ok (.invokevirtual 194, 3) := dk_182 0 194 (dk_at dksX4_corner_3 14 rfl rfl)
theorem dX4_corner_89 : decode cX4_corner 89 = .ok (.ireturn, 1) := dk_172 (dk_at dksX4_corner_3 17 rfl rfl)
theorem dX4_corner_90 : decode cX4_corner 90 = .ok (.aload_n 0, 1) := dk_42 (dk_at dksX4_corner_3 18 rfl rfl)
theorem dX4_corner_91 : decode cX4_corner 91 = .ok (.getfield 25, 3) := dk_180 0 25 (dk_at dksX4_corner_3 19 rfl rfl)
theorem dX4_corner_94 : decode cX4_corner 94 = .ok (.iload_n 1, 1) := dk_27 (dk_at dksX4_corner_3 22 rfl rfl)
theorem dX4_corner_95 : decode cX4_corner 95 = .ok (.aload_n 0, 1) := dk_42 (dk_at dksX4_corner_3 23 rfl rfl)
theorem dX4_corner_96 : decode cX4_corner 96 = .ok (.getfield 25, 3) := dk_180 0 25 (dk_at dksX4_corner_4 0 rfl rfl)
theorem dX4_corner_99 : decode cX4_corner 99 = .ok (.iconst 1, 1) := dk_4 (dk_at dksX4_corner_4 3 rfl rfl)
theorem dX4_corner_100 : decode cX4_corner 100 = .ok (.iaload, 1) := dk_46 (dk_at dksX4_corner_4 4 rfl rfl)
theorem dX4_corner_101 : decode cX4_corner 101 = .ok (.aload_n 0, 1) := dk_42 (dk_at dksX4_corner_4 5 rfl rfl)
theorem dX4_corner_102 : decode cX4_corner 102 = .ok (.getfield 25, 3) := dk_180 0 25 (dk_at dksX4_corner_4 6 rfl rfl)
theorem dX4_corner_105 : decode cX4_corner 105 = .ok (.iconst 3, 1) := dk_6 (dk_at dksX4_corner_4 9 rfl rfl)
theorem dX4_corner_106 : decode cX4_corner 106 = .ok (.iaload, 1) := dk_46 (dk_at dksX4_corner_4 10 rfl rfl)
theorem dX4_corner_107 : decode cX4_corner 107 = .ok (.invokestatic 163, 3) := dk_184 0 163 (dk_at dksX4_corner_4 11 rfl rfl)
theorem dX4_corner_110 : decode cX4_corner 110 = .ok (.ireturn, 1) := dk_172 (dk_at dksX4_corner_4 14 rfl rfl)
theorem dX4_corner_111 : decode cX4_corner 111 = .ok (.ldc 79, 2) := dk_18 79 (dk_at dksX4_corner_4 15 rfl rfl)
theorem dX4_corner_113 : decode cX4_corner 113 = .ok (.ireturn, 1) := dk_172 (dk_at dksX4_corner_4 17 rfl rfl)
abbrev cX4_ends : ByteArray := prog_26_method_43_code
def yX4_ends : MethodName := ⟨RX4, "ends", "(II)I"⟩
def dkwX4_ends_2 : List UInt8 := [132, 4, 1, 167, 255, 212, 29, 172]
abbrev dktX4_ends_2 : List UInt8 := dkwX4_ends_2 ++ []
def dkwX4_ends_1 : List UInt8 := [5, 21, 4, 104, 96, 28, 96, 46, 27, 160, 0, 10, 4, 21, 4, 120, 167, 0, 4, 3, 128, 62]
abbrev dktX4_ends_1 : List UInt8 := dkwX4_ends_1 ++ dktX4_ends_2
def dkwX4_ends_0 : List UInt8 := [3, 62, 3, 54, 4, 21, 4, 42, 180, 0, 25, 16, 25, 46, 162, 0, 38, 29, 42, 180, 0, 25, 16, 26]
abbrev dktX4_ends_0 : List UInt8 := dkwX4_ends_0 ++ dktX4_ends_1
theorem dksX4_ends_0 : cX4_ends.data.toList.drop 0 = dktX4_ends_0 := by decide +kernel
theorem dksX4_ends_1 : cX4_ends.data.toList.drop 24 = dktX4_ends_1 := dk_seg dksX4_ends_0 24 rfl rfl
theorem dksX4_ends_2 : cX4_ends.data.toList.drop 46 = dktX4_ends_2 := dk_seg dksX4_ends_1 22 rfl rfl
theorem dX4_ends_0 : decode cX4_ends 0 = .ok (.iconst 0, 1) := dk_3 (dk_at dksX4_ends_0 0 rfl rfl)
theorem dX4_ends_1 : decode cX4_ends 1 = .ok (.istore_n 3, 1) := dk_62 (dk_at dksX4_ends_0 1 rfl rfl)
theorem dX4_ends_2 : decode cX4_ends 2 = .ok (.iconst 0, 1) := dk_3 (dk_at dksX4_ends_0 2 rfl rfl)
theorem dX4_ends_3 : decode cX4_ends 3 = .ok (.istore 4, 2) := dk_54 4 (dk_at dksX4_ends_0 3 rfl rfl)
theorem dX4_ends_5 : decode cX4_ends 5 = .ok (.iload 4, 2) := dk_21 4 (dk_at dksX4_ends_0 5 rfl rfl)
theorem dX4_ends_7 : decode cX4_ends 7 = .ok (.aload_n 0, 1) := dk_42 (dk_at dksX4_ends_0 7 rfl rfl)
theorem dX4_ends_8 : decode cX4_ends 8 = .ok (.getfield 25, 3) := dk_180 0 25 (dk_at dksX4_ends_0 8 rfl rfl)
theorem dX4_ends_11 : decode cX4_ends 11 = .ok (.bipush 25, 2) := dk_16 25 (dk_at dksX4_ends_0 11 rfl rfl)
theorem dX4_ends_13 : decode cX4_ends 13 = .ok (.iaload, 1) := dk_46 (dk_at dksX4_ends_0 13 rfl rfl)
theorem dX4_ends_14 : decode cX4_ends 14 = .ok (.if_icmp .ge 38, 3) := dk_162 0 38 (dk_at dksX4_ends_0 14 rfl rfl)
theorem dX4_ends_17 : decode cX4_ends 17 = .ok (.iload_n 3, 1) := dk_29 (dk_at dksX4_ends_0 17 rfl rfl)
theorem dX4_ends_18 : decode cX4_ends 18 = .ok (.aload_n 0, 1) := dk_42 (dk_at dksX4_ends_0 18 rfl rfl)
theorem dX4_ends_19 : decode cX4_ends 19 = .ok (.getfield 25, 3) := dk_180 0 25 (dk_at dksX4_ends_0 19 rfl rfl)
theorem dX4_ends_22 : decode cX4_ends 22 = .ok (.bipush 26, 2) := dk_16 26 (dk_at dksX4_ends_0 22 rfl rfl)
theorem dX4_ends_24 : decode cX4_ends 24 = .ok (.iconst 2, 1) := dk_5 (dk_at dksX4_ends_1 0 rfl rfl)
theorem dX4_ends_25 : decode cX4_ends 25 = .ok (.iload 4, 2) := dk_21 4 (dk_at dksX4_ends_1 1 rfl rfl)
theorem dX4_ends_27 : decode cX4_ends 27 = .ok (.imul, 1) := dk_104 (dk_at dksX4_ends_1 3 rfl rfl)
theorem dX4_ends_28 : decode cX4_ends 28 = .ok (.iadd, 1) := dk_96 (dk_at dksX4_ends_1 4 rfl rfl)
theorem dX4_ends_29 : decode cX4_ends 29 = .ok (.iload_n 2, 1) := dk_28 (dk_at dksX4_ends_1 5 rfl rfl)
theorem dX4_ends_30 : decode cX4_ends 30 = .ok (.iadd, 1) := dk_96 (dk_at dksX4_ends_1 6 rfl rfl)
theorem dX4_ends_31 : decode cX4_ends 31 = .ok (.iaload, 1) := dk_46 (dk_at dksX4_ends_1 7 rfl rfl)
theorem dX4_ends_32 : decode cX4_ends 32 = .ok (.iload_n 1, 1) := dk_27 (dk_at dksX4_ends_1 8 rfl rfl)
theorem dX4_ends_33 : decode cX4_ends 33 = .ok (.if_icmp .ne 10, 3) := dk_160 0 10 (dk_at dksX4_ends_1 9 rfl rfl)
theorem dX4_ends_36 : decode cX4_ends 36 = .ok (.iconst 1, 1) := dk_4 (dk_at dksX4_ends_1 12 rfl rfl)
theorem dX4_ends_37 : decode cX4_ends 37 = .ok (.iload 4, 2) := dk_21 4 (dk_at dksX4_ends_1 13 rfl rfl)
theorem dX4_ends_39 : decode cX4_ends 39 = .ok (.ishl, 1) := dk_120 (dk_at dksX4_ends_1 15 rfl rfl)
theorem dX4_ends_40 : decode cX4_ends 40 = .ok (.goto 4, 3) := dk_167 0 4 (dk_at dksX4_ends_1 16 rfl rfl)
theorem dX4_ends_43 : decode cX4_ends 43 = .ok (.iconst 0, 1) := dk_3 (dk_at dksX4_ends_1 19 rfl rfl)
theorem dX4_ends_44 : decode cX4_ends 44 = .ok (.ior, 1) := dk_128 (dk_at dksX4_ends_1 20 rfl rfl)
theorem dX4_ends_45 : decode cX4_ends 45 = .ok (.istore_n 3, 1) := dk_62 (dk_at dksX4_ends_1 21 rfl rfl)
theorem dX4_ends_46 : decode cX4_ends 46 = .ok (.iinc 4 1, 3) := dk_132 4 1 (dk_at dksX4_ends_2 0 rfl rfl)
theorem dX4_ends_49 : decode cX4_ends 49 = .ok (.goto (-44), 3) := dk_167 255 212 (dk_at dksX4_ends_2 3 rfl rfl)
theorem dX4_ends_52 : decode cX4_ends 52 = .ok (.iload_n 3, 1) := dk_29 (dk_at dksX4_ends_2 6 rfl rfl)
theorem dX4_ends_53 : decode cX4_ends 53 = .ok (.ireturn, 1) := dk_172 (dk_at dksX4_ends_2 7 rfl rfl)
abbrev cX4_way : ByteArray := prog_26_method_45_code
def yX4_way : MethodName := ⟨RX4, "way", "(II)I"⟩
def dkwX4_way_2 : List UInt8 := [46, 27, 122, 4, 126, 172]
abbrev dktX4_way_2 : List UInt8 := dkwX4_way_2 ++ []
def dkwX4_way_1 : List UInt8 := [162, 0, 19, 42, 180, 0, 25, 16, 26, 5, 27, 104, 96, 28, 96, 46, 167, 0, 13, 42, 180, 0, 25, 8]
abbrev dktX4_way_1 : List UInt8 := dkwX4_way_1 ++ dktX4_way_2
def dkwX4_way_0 : List UInt8 := [42, 27, 182, 0, 173, 153, 0, 12, 28, 3, 5, 184, 0, 71, 154, 0, 6, 18, 79, 172, 28, 5]
abbrev dktX4_way_0 : List UInt8 := dkwX4_way_0 ++ dktX4_way_1
theorem dksX4_way_0 : cX4_way.data.toList.drop 0 = dktX4_way_0 := by decide +kernel
theorem dksX4_way_1 : cX4_way.data.toList.drop 22 = dktX4_way_1 := dk_seg dksX4_way_0 22 rfl rfl
theorem dksX4_way_2 : cX4_way.data.toList.drop 46 = dktX4_way_2 := dk_seg dksX4_way_1 24 rfl rfl
theorem dX4_way_0 : decode cX4_way 0 = .ok (.aload_n 0, 1) := dk_42 (dk_at dksX4_way_0 0 rfl rfl)
theorem dX4_way_1 : decode cX4_way 1 = .ok (.iload_n 1, 1) := dk_27 (dk_at dksX4_way_0 1 rfl rfl)
theorem dX4_way_2 : decode cX4_way 2 = .ok (.invokevirtual 173, 3) := dk_182 0 173 (dk_at dksX4_way_0 2 rfl rfl)
theorem dX4_way_5 : decode cX4_way 5 = .ok (.ifCond .eq 12, 3) := dk_153 0 12 (dk_at dksX4_way_0 5 rfl rfl)
theorem dX4_way_8 : decode cX4_way 8 = .ok (.iload_n 2, 1) := dk_28 (dk_at dksX4_way_0 8 rfl rfl)
theorem dX4_way_9 : decode cX4_way 9 = .ok (.iconst 0, 1) := dk_3 (dk_at dksX4_way_0 9 rfl rfl)
theorem dX4_way_10 : decode cX4_way 10 = .ok (.iconst 2, 1) := dk_5 (dk_at dksX4_way_0 10 rfl rfl)
theorem dX4_way_11 : decode cX4_way 11 = .ok (.invokestatic 71, 3) := dk_184 0 71 (dk_at dksX4_way_0 11 rfl rfl)
theorem dX4_way_14 : decode cX4_way 14 = .ok (.ifCond .ne 6, 3) := dk_154 0 6 (dk_at dksX4_way_0 14 rfl rfl)
theorem dX4_way_17 : decode cX4_way 17 = .ok (.ldc 79, 2) := dk_18 79 (dk_at dksX4_way_0 17 rfl rfl)
theorem dX4_way_19 : decode cX4_way 19 = .ok (.ireturn, 1) := dk_172 (dk_at dksX4_way_0 19 rfl rfl)
theorem dX4_way_20 : decode cX4_way 20 = .ok (.iload_n 2, 1) := dk_28 (dk_at dksX4_way_0 20 rfl rfl)
theorem dX4_way_21 : decode cX4_way 21 = .ok (.iconst 2, 1) := dk_5 (dk_at dksX4_way_0 21 rfl rfl)
theorem dX4_way_22 : decode cX4_way 22 = .ok (.if_icmp .ge 19, 3) := dk_162 0 19 (dk_at dksX4_way_1 0 rfl rfl)
theorem dX4_way_25 : decode cX4_way 25 = .ok (.aload_n 0, 1) := dk_42 (dk_at dksX4_way_1 3 rfl rfl)
theorem dX4_way_26 : decode cX4_way 26 = .ok (.getfield 25, 3) := dk_180 0 25 (dk_at dksX4_way_1 4 rfl rfl)
theorem dX4_way_29 : decode cX4_way 29 = .ok (.bipush 26, 2) := dk_16 26 (dk_at dksX4_way_1 7 rfl rfl)
theorem dX4_way_31 : decode cX4_way 31 = .ok (.iconst 2, 1) := dk_5 (dk_at dksX4_way_1 9 rfl rfl)
theorem dX4_way_32 : decode cX4_way 32 = .ok (.iload_n 1, 1) := dk_27 (dk_at dksX4_way_1 10 rfl rfl)
theorem dX4_way_33 : decode cX4_way 33 = .ok (.imul, 1) := dk_104 (dk_at dksX4_way_1 11 rfl rfl)
theorem dX4_way_34 : decode cX4_way 34 = .ok (.iadd, 1) := dk_96 (dk_at dksX4_way_1 12 rfl rfl)
theorem dX4_way_35 : decode cX4_way 35 = .ok (.iload_n 2, 1) := dk_28 (dk_at dksX4_way_1 13 rfl rfl)
theorem dX4_way_36 : decode cX4_way 36 = .ok (.iadd, 1) := dk_96 (dk_at dksX4_way_1 14 rfl rfl)
theorem dX4_way_37 : decode cX4_way 37 = .ok (.iaload, 1) := dk_46 (dk_at dksX4_way_1 15 rfl rfl)
theorem dX4_way_38 : decode cX4_way 38 = .ok (.goto 13, 3) := dk_167 0 13 (dk_at dksX4_way_1 16 rfl rfl)
theorem dX4_way_41 : decode cX4_way 41 = .ok (.aload_n 0, 1) := dk_42 (dk_at dksX4_way_1 19 rfl rfl)
theorem dX4_way_42 : decode cX4_way 42 = .ok (.getfield 25, 3) := dk_180 0 25 (dk_at dksX4_way_1 20 rfl rfl)
theorem dX4_way_45 : decode cX4_way 45 = .ok (.iconst 5, 1) := dk_8 (dk_at dksX4_way_1 23 rfl rfl)
theorem dX4_way_46 : decode cX4_way 46 = .ok (.iaload, 1) := dk_46 (dk_at dksX4_way_2 0 rfl rfl)
theorem dX4_way_47 : decode cX4_way 47 = .ok (.iload_n 1, 1) := dk_27 (dk_at dksX4_way_2 1 rfl rfl)
theorem dX4_way_48 : decode cX4_way 48 = .ok (.ishr, 1) := dk_122 (dk_at dksX4_way_2 2 rfl rfl)
theorem dX4_way_49 : decode cX4_way 49 = .ok (.iconst 1, 1) := dk_4 (dk_at dksX4_way_2 3 rfl rfl)
theorem dX4_way_50 : decode cX4_way 50 = .ok (.iand, 1) := dk_126 (dk_at dksX4_way_2 4 rfl rfl)
theorem dX4_way_51 : decode cX4_way 51 = .ok (.ireturn, 1) := dk_172 (dk_at dksX4_way_2 5 rfl rfl)
abbrev cX4_would : ByteArray := prog_26_method_46_code
def yX4_would : MethodName := ⟨RX4, "would", "(II)I"⟩
def dkwX4_would_4 : List UInt8 := [180, 0, 25, 6, 46, 184, 0, 170, 172]
abbrev dktX4_would_4 : List UInt8 := dkwX4_would_4 ++ []
def dkwX4_would_3 : List UInt8 := [180, 0, 25, 6, 46, 184, 0, 163, 167, 0, 23, 42, 180, 0, 25, 29, 42, 180, 0, 25, 4, 46, 42]
abbrev dktX4_would_3 : List UInt8 := dkwX4_would_3 ++ dktX4_would_4
def dkwX4_would_2 : List UInt8 := [104, 96, 4, 96, 46, 62, 28, 154, 0, 26, 42, 180, 0, 25, 29, 42, 180, 0, 25, 4, 46, 42]
abbrev dktX4_would_2 : List UInt8 := dkwX4_would_2 ++ dktX4_would_3
def dkwX4_would_1 : List UInt8 := [27, 42, 180, 0, 25, 7, 46, 184, 0, 176, 154, 0, 6, 18, 65, 172, 42, 180, 0, 25, 16, 26, 5, 27]
abbrev dktX4_would_1 : List UInt8 := dkwX4_would_1 ++ dktX4_would_2
def dkwX4_would_0 : List UInt8 := [42, 27, 182, 0, 173, 153, 0, 12, 28, 3, 4, 184, 0, 71, 154, 0, 6, 18, 79, 172, 42, 180, 0, 25]
abbrev dktX4_would_0 : List UInt8 := dkwX4_would_0 ++ dktX4_would_1
theorem dksX4_would_0 : cX4_would.data.toList.drop 0 = dktX4_would_0 := by decide +kernel
theorem dksX4_would_1 : cX4_would.data.toList.drop 24 = dktX4_would_1 := dk_seg dksX4_would_0 24 rfl rfl
theorem dksX4_would_2 : cX4_would.data.toList.drop 48 = dktX4_would_2 := dk_seg dksX4_would_1 24 rfl rfl
theorem dksX4_would_3 : cX4_would.data.toList.drop 70 = dktX4_would_3 := dk_seg dksX4_would_2 22 rfl rfl
theorem dksX4_would_4 : cX4_would.data.toList.drop 93 = dktX4_would_4 := dk_seg dksX4_would_3 23 rfl rfl
theorem dX4_would_0 : decode cX4_would 0 = .ok (.aload_n 0, 1) := dk_42 (dk_at dksX4_would_0 0 rfl rfl)
theorem dX4_would_1 : decode cX4_would 1 = .ok (.iload_n 1, 1) := dk_27 (dk_at dksX4_would_0 1 rfl rfl)
theorem dX4_would_2 : decode cX4_would 2 = .ok (.invokevirtual 173, 3) := dk_182 0 173 (dk_at dksX4_would_0 2 rfl rfl)
theorem dX4_would_5 : decode cX4_would 5 = .ok (.ifCond .eq 12, 3) := dk_153 0 12 (dk_at dksX4_would_0 5 rfl rfl)
theorem dX4_would_8 : decode cX4_would 8 = .ok (.iload_n 2, 1) := dk_28 (dk_at dksX4_would_0 8 rfl rfl)
theorem dX4_would_9 : decode cX4_would 9 = .ok (.iconst 0, 1) := dk_3 (dk_at dksX4_would_0 9 rfl rfl)
theorem dX4_would_10 : decode cX4_would 10 = .ok (.iconst 1, 1) := dk_4 (dk_at dksX4_would_0 10 rfl rfl)
theorem dX4_would_11 : decode cX4_would 11 = .ok (.invokestatic 71, 3) := dk_184 0 71 (dk_at dksX4_would_0 11 rfl rfl)
theorem dX4_would_14 : decode cX4_would 14 = .ok (.ifCond .ne 6, 3) := dk_154 0 6 (dk_at dksX4_would_0 14 rfl rfl)
theorem dX4_would_17 : decode cX4_would 17 = .ok (.ldc 79, 2) := dk_18 79 (dk_at dksX4_would_0 17 rfl rfl)
theorem dX4_would_19 : decode cX4_would 19 = .ok (.ireturn, 1) := dk_172 (dk_at dksX4_would_0 19 rfl rfl)
theorem dX4_would_20 : decode cX4_would 20 = .ok (.aload_n 0, 1) := dk_42 (dk_at dksX4_would_0 20 rfl rfl)
theorem dX4_would_21 : decode cX4_would 21 = .ok (.getfield 25, 3) := dk_180 0 25 (dk_at dksX4_would_0 21 rfl rfl)
theorem dX4_would_24 : decode cX4_would 24 = .ok (.iload_n 1, 1) := dk_27 (dk_at dksX4_would_1 0 rfl rfl)
theorem dX4_would_25 : decode cX4_would 25 = .ok (.aload_n 0, 1) := dk_42 (dk_at dksX4_would_1 1 rfl rfl)
theorem dX4_would_26 : decode cX4_would 26 = .ok (.getfield 25, 3) := dk_180 0 25 (dk_at dksX4_would_1 2 rfl rfl)
theorem dX4_would_29 : decode cX4_would 29 = .ok (.iconst 4, 1) := dk_7 (dk_at dksX4_would_1 5 rfl rfl)
theorem dX4_would_30 : decode cX4_would 30 = .ok (.iaload, 1) := dk_46 (dk_at dksX4_would_1 6 rfl rfl)
theorem dX4_would_31 : decode cX4_would 31 = .ok (.invokestatic 176, 3) := dk_184 0 176 (dk_at dksX4_would_1 7 rfl rfl)
theorem dX4_would_34 : decode cX4_would 34 = .ok (.ifCond .ne 6, 3) := dk_154 0 6 (dk_at dksX4_would_1 10 rfl rfl)
theorem dX4_would_37 : decode cX4_would 37 = .ok (.ldc 65, 2) := dk_18 65 (dk_at dksX4_would_1 13 rfl rfl)
theorem dX4_would_39 : decode cX4_would 39 = .ok (.ireturn, 1) := dk_172 (dk_at dksX4_would_1 15 rfl rfl)
theorem dX4_would_40 : decode cX4_would 40 = .ok (.aload_n 0, 1) := dk_42 (dk_at dksX4_would_1 16 rfl rfl)
theorem dX4_would_41 : decode cX4_would 41 = .ok (.getfield 25, 3) := dk_180 0 25 (dk_at dksX4_would_1 17 rfl rfl)
theorem dX4_would_44 : decode cX4_would 44 = .ok (.bipush 26, 2) := dk_16 26 (dk_at dksX4_would_1 20 rfl rfl)
theorem dX4_would_46 : decode cX4_would 46 = .ok (.iconst 2, 1) := dk_5 (dk_at dksX4_would_1 22 rfl rfl)
theorem dX4_would_47 : decode cX4_would 47 = .ok (.iload_n 1, 1) := dk_27 (dk_at dksX4_would_1 23 rfl rfl)
theorem dX4_would_48 : decode cX4_would 48 = .ok (.imul, 1) := dk_104 (dk_at dksX4_would_2 0 rfl rfl)
theorem dX4_would_49 : decode cX4_would 49 = .ok (.iadd, 1) := dk_96 (dk_at dksX4_would_2 1 rfl rfl)
theorem dX4_would_50 : decode cX4_would 50 = .ok (.iconst 1, 1) := dk_4 (dk_at dksX4_would_2 2 rfl rfl)
theorem dX4_would_51 : decode cX4_would 51 = .ok (.iadd, 1) := dk_96 (dk_at dksX4_would_2 3 rfl rfl)
theorem dX4_would_52 : decode cX4_would 52 = .ok (.iaload, 1) := dk_46 (dk_at dksX4_would_2 4 rfl rfl)
theorem dX4_would_53 : decode cX4_would 53 = .ok (.istore_n 3, 1) := dk_62 (dk_at dksX4_would_2 5 rfl rfl)
theorem dX4_would_54 : decode cX4_would 54 = .ok (.iload_n 2, 1) := dk_28 (dk_at dksX4_would_2 6 rfl rfl)
theorem dX4_would_55 : decode cX4_would 55 = .ok (.ifCond .ne 26, 3) := dk_154 0 26 (dk_at dksX4_would_2 7 rfl rfl)
theorem dX4_would_58 : decode cX4_would 58 = .ok (.aload_n 0, 1) := dk_42 (dk_at dksX4_would_2 10 rfl rfl)
theorem dX4_would_59 : decode cX4_would 59 = .ok (.getfield 25, 3) := dk_180 0 25 (dk_at dksX4_would_2 11 rfl rfl)
theorem dX4_would_62 : decode cX4_would 62 = .ok (.iload_n 3, 1) := dk_29 (dk_at dksX4_would_2 14 rfl rfl)
theorem dX4_would_63 : decode cX4_would 63 = .ok (.aload_n 0, 1) := dk_42 (dk_at dksX4_would_2 15 rfl rfl)
theorem dX4_would_64 : decode cX4_would 64 = .ok (.getfield 25, 3) := dk_180 0 25 (dk_at dksX4_would_2 16 rfl rfl)
theorem dX4_would_67 : decode cX4_would 67 = .ok (.iconst 1, 1) := dk_4 (dk_at dksX4_would_2 19 rfl rfl)
theorem dX4_would_68 : decode cX4_would 68 = .ok (.iaload, 1) := dk_46 (dk_at dksX4_would_2 20 rfl rfl)
theorem dX4_would_69 : decode cX4_would 69 = .ok (.aload_n 0, 1) := dk_42 (dk_at dksX4_would_2 21 rfl rfl)
theorem dX4_would_70 : decode cX4_would 70 = .ok (.getfield 25, 3) := dk_180 0 25 (dk_at dksX4_would_3 0 rfl rfl)
theorem dX4_would_73 : decode cX4_would 73 = .ok (.iconst 3, 1) := dk_6 (dk_at dksX4_would_3 3 rfl rfl)
theorem dX4_would_74 : decode cX4_would 74 = .ok (.iaload, 1) := dk_46 (dk_at dksX4_would_3 4 rfl rfl)
theorem dX4_would_75 : decode cX4_would 75 = .ok (.invokestatic 163, 3) := dk_184 0 163 (dk_at dksX4_would_3 5 rfl rfl)
theorem dX4_would_78 : decode cX4_would 78 = .ok (.goto 23, 3) := dk_167 0 23 (dk_at dksX4_would_3 8 rfl rfl)
theorem dX4_would_81 : decode cX4_would 81 = .ok (.aload_n 0, 1) := dk_42 (dk_at dksX4_would_3 11 rfl rfl)
theorem dX4_would_82 : decode cX4_would 82 = .ok (.getfield 25, 3) := dk_180 0 25 (dk_at dksX4_would_3 12 rfl rfl)
theorem dX4_would_85 : decode cX4_would 85 = .ok (.iload_n 3, 1) := dk_29 (dk_at dksX4_would_3 15 rfl rfl)
theorem dX4_would_86 : decode cX4_would 86 = .ok (.aload_n 0, 1) := dk_42 (dk_at dksX4_would_3 16 rfl rfl)
theorem dX4_would_87 : decode cX4_would 87 = .ok (.getfield 25, 3) := dk_180 0 25 (dk_at dksX4_would_3 17 rfl rfl)
theorem dX4_would_90 : decode cX4_would 90 = .ok (.iconst 1, 1) := dk_4 (dk_at dksX4_would_3 20 rfl rfl)
theorem dX4_would_91 : decode cX4_would 91 = .ok (.iaload, 1) := dk_46 (dk_at dksX4_would_3 21 rfl rfl)
theorem dX4_would_92 : decode cX4_would 92 = .ok (.aload_n 0, 1) := dk_42 (dk_at dksX4_would_3 22 rfl rfl)
theorem dX4_would_93 : decode cX4_would 93 = .ok (.getfield 25, 3) := dk_180 0 25 (dk_at dksX4_would_4 0 rfl rfl)
theorem dX4_would_96 : decode cX4_would 96 = .ok (.iconst 3, 1) := dk_6 (dk_at dksX4_would_4 3 rfl rfl)
theorem dX4_would_97 : decode cX4_would 97 = .ok (.iaload, 1) := dk_46 (dk_at dksX4_would_4 4 rfl rfl)
theorem dX4_would_98 : decode cX4_would 98 = .ok (.invokestatic 170, 3) := dk_184 0 170 (dk_at dksX4_would_4 5 rfl rfl)
theorem dX4_would_101 : decode cX4_would 101 = .ok (.ireturn, 1) := dk_172 (dk_at dksX4_would_4 8 rfl rfl)
abbrev cX4_reach : ByteArray := prog_26_method_47_code
def yX4_reach : MethodName := ⟨RX4, "reach", "()I"⟩
def dkwX4_reach_4 : List UInt8 := [167, 255, 189, 132, 2, 1, 167, 255, 175, 27, 172]
abbrev dktX4_reach_4 : List UInt8 := dkwX4_reach_4 ++ []
def dkwX4_reach_3 : List UInt8 := [4, 42, 180, 0, 25, 16, 26, 5, 29, 104, 96, 4, 96, 46, 120, 167, 0, 4, 3, 128, 60, 132, 3, 1]
abbrev dktX4_reach_3 : List UInt8 := dkwX4_reach_3 ++ dktX4_reach_4
def dkwX4_reach_2 : List UInt8 := [184, 0, 167, 153, 0, 39, 27, 42, 180, 0, 25, 16, 26, 5, 29, 104, 96, 46, 184, 0, 167, 153, 0, 21]
abbrev dktX4_reach_2 : List UInt8 := dkwX4_reach_2 ++ dktX4_reach_3
def dkwX4_reach_1 : List UInt8 := [162, 0, 81, 3, 62, 29, 42, 180, 0, 25, 16, 25, 46, 162, 0, 62, 27, 42, 180, 0, 25, 8, 46, 29]
abbrev dktX4_reach_1 : List UInt8 := dkwX4_reach_1 ++ dktX4_reach_2
def dkwX4_reach_0 : List UInt8 := [42, 182, 0, 191, 154, 0, 6, 18, 180, 172, 4, 42, 180, 0, 25, 7, 46, 120, 60, 3, 61, 28, 16, 6]
abbrev dktX4_reach_0 : List UInt8 := dkwX4_reach_0 ++ dktX4_reach_1
theorem dksX4_reach_0 : cX4_reach.data.toList.drop 0 = dktX4_reach_0 := by decide +kernel
theorem dksX4_reach_1 : cX4_reach.data.toList.drop 24 = dktX4_reach_1 := dk_seg dksX4_reach_0 24 rfl rfl
theorem dksX4_reach_2 : cX4_reach.data.toList.drop 48 = dktX4_reach_2 := dk_seg dksX4_reach_1 24 rfl rfl
theorem dksX4_reach_3 : cX4_reach.data.toList.drop 72 = dktX4_reach_3 := dk_seg dksX4_reach_2 24 rfl rfl
theorem dksX4_reach_4 : cX4_reach.data.toList.drop 96 = dktX4_reach_4 := dk_seg dksX4_reach_3 24 rfl rfl
theorem dX4_reach_0 : decode cX4_reach 0 = .ok (.aload_n 0, 1) := dk_42 (dk_at dksX4_reach_0 0 rfl rfl)
theorem dX4_reach_1 : decode cX4_reach 1 = .ok (.invokevirtual 191, 3) := dk_182 0 191 (dk_at dksX4_reach_0 1 rfl rfl)
theorem dX4_reach_4 : decode cX4_reach 4 = .ok (.ifCond .ne 6, 3) := dk_154 0 6 (dk_at dksX4_reach_0 4 rfl rfl)
theorem dX4_reach_7 : decode cX4_reach 7 = .ok (.ldc 180, 2) := dk_18 180 (dk_at dksX4_reach_0 7 rfl rfl)
theorem dX4_reach_9 : decode cX4_reach 9 = .ok (.ireturn, 1) := dk_172 (dk_at dksX4_reach_0 9 rfl rfl)
theorem dX4_reach_10 : decode cX4_reach 10 = .ok (.iconst 1, 1) := dk_4 (dk_at dksX4_reach_0 10 rfl rfl)
theorem dX4_reach_11 : decode cX4_reach 11 = .ok (.aload_n 0, 1) := dk_42 (dk_at dksX4_reach_0 11 rfl rfl)
theorem dX4_reach_12 : decode cX4_reach 12 = .ok (.getfield 25, 3) := dk_180 0 25 (dk_at dksX4_reach_0 12 rfl rfl)
theorem dX4_reach_15 : decode cX4_reach 15 = .ok (.iconst 4, 1) := dk_7 (dk_at dksX4_reach_0 15 rfl rfl)
theorem dX4_reach_16 : decode cX4_reach 16 = .ok (.iaload, 1) := dk_46 (dk_at dksX4_reach_0 16 rfl rfl)
theorem dX4_reach_17 : decode cX4_reach 17 = .ok (.ishl, 1) := dk_120 (dk_at dksX4_reach_0 17 rfl rfl)
theorem dX4_reach_18 : decode cX4_reach 18 = .ok (.istore_n 1, 1) := dk_60 (dk_at dksX4_reach_0 18 rfl rfl)
theorem dX4_reach_19 : decode cX4_reach 19 = .ok (.iconst 0, 1) := dk_3 (dk_at dksX4_reach_0 19 rfl rfl)
theorem dX4_reach_20 : decode cX4_reach 20 = .ok (.istore_n 2, 1) := dk_61 (dk_at dksX4_reach_0 20 rfl rfl)
theorem dX4_reach_21 : decode cX4_reach 21 = .ok (.iload_n 2, 1) := dk_28 (dk_at dksX4_reach_0 21 rfl rfl)
theorem dX4_reach_22 : decode cX4_reach 22 = .ok (.bipush 6, 2) := dk_16 6 (dk_at dksX4_reach_0 22 rfl rfl)
theorem dX4_reach_24 : decode cX4_reach 24 = .ok (.if_icmp .ge 81, 3) := dk_162 0 81 (dk_at dksX4_reach_1 0 rfl rfl)
theorem dX4_reach_27 : decode cX4_reach 27 = .ok (.iconst 0, 1) := dk_3 (dk_at dksX4_reach_1 3 rfl rfl)
theorem dX4_reach_28 : decode cX4_reach 28 = .ok (.istore_n 3, 1) := dk_62 (dk_at dksX4_reach_1 4 rfl rfl)
theorem dX4_reach_29 : decode cX4_reach 29 = .ok (.iload_n 3, 1) := dk_29 (dk_at dksX4_reach_1 5 rfl rfl)
theorem dX4_reach_30 : decode cX4_reach 30 = .ok (.aload_n 0, 1) := dk_42 (dk_at dksX4_reach_1 6 rfl rfl)
theorem dX4_reach_31 : decode cX4_reach 31 = .ok (.getfield 25, 3) := dk_180 0 25 (dk_at dksX4_reach_1 7 rfl rfl)
theorem dX4_reach_34 : decode cX4_reach 34 = .ok (.bipush 25, 2) := dk_16 25 (dk_at dksX4_reach_1 10 rfl rfl)
theorem dX4_reach_36 : decode cX4_reach 36 = .ok (.iaload, 1) := dk_46 (dk_at dksX4_reach_1 12 rfl rfl)
theorem dX4_reach_37 : decode cX4_reach 37 = .ok (.if_icmp .ge 62, 3) := dk_162 0 62 (dk_at dksX4_reach_1 13 rfl rfl)
theorem dX4_reach_40 : decode cX4_reach 40 = .ok (.iload_n 1, 1) := dk_27 (dk_at dksX4_reach_1 16 rfl rfl)
theorem dX4_reach_41 : decode cX4_reach 41 = .ok (.aload_n 0, 1) := dk_42 (dk_at dksX4_reach_1 17 rfl rfl)
theorem dX4_reach_42 : decode cX4_reach 42 = .ok (.getfield 25, 3) := dk_180 0 25 (dk_at dksX4_reach_1 18 rfl rfl)
theorem dX4_reach_45 : decode cX4_reach 45 = .ok (.iconst 5, 1) := dk_8 (dk_at dksX4_reach_1 21 rfl rfl)
theorem dX4_reach_46 : decode cX4_reach 46 = .ok (.iaload, 1) := dk_46 (dk_at dksX4_reach_1 22 rfl rfl)
theorem dX4_reach_47 : decode cX4_reach 47 = .ok (.iload_n 3, 1) := dk_29 (dk_at dksX4_reach_1 23 rfl rfl)
theorem dX4_reach_48 : decode cX4_reach 48 = .ok (.invokestatic 167, 3) := dk_184 0 167 (dk_at dksX4_reach_2 0 rfl rfl)
theorem dX4_reach_51 : decode cX4_reach 51 = .ok (.ifCond .eq 39, 3) := dk_153 0 39 (dk_at dksX4_reach_2 3 rfl rfl)
theorem dX4_reach_54 : decode cX4_reach 54 = .ok (.iload_n 1, 1) := dk_27 (dk_at dksX4_reach_2 6 rfl rfl)
theorem dX4_reach_55 : decode cX4_reach 55 = .ok (.aload_n 0, 1) := dk_42 (dk_at dksX4_reach_2 7 rfl rfl)
theorem dX4_reach_56 : decode cX4_reach 56 = .ok (.getfield 25, 3) := dk_180 0 25 (dk_at dksX4_reach_2 8 rfl rfl)
theorem dX4_reach_59 : decode cX4_reach 59 = .ok (.bipush 26, 2) := dk_16 26 (dk_at dksX4_reach_2 11 rfl rfl)
theorem dX4_reach_61 : decode cX4_reach 61 = .ok (.iconst 2, 1) := dk_5 (dk_at dksX4_reach_2 13 rfl rfl)
theorem dX4_reach_62 : decode cX4_reach 62 = .ok (.iload_n 3, 1) := dk_29 (dk_at dksX4_reach_2 14 rfl rfl)
theorem dX4_reach_63 : decode cX4_reach 63 = .ok (.imul, 1) := dk_104 (dk_at dksX4_reach_2 15 rfl rfl)
theorem dX4_reach_64 : decode cX4_reach 64 = .ok (.iadd, 1) := dk_96 (dk_at dksX4_reach_2 16 rfl rfl)
theorem dX4_reach_65 : decode cX4_reach 65 = .ok (.iaload, 1) := dk_46 (dk_at dksX4_reach_2 17 rfl rfl)
theorem dX4_reach_66 : decode cX4_reach 66 = .ok (.invokestatic 167, 3) := dk_184 0 167 (dk_at dksX4_reach_2 18 rfl rfl)
theorem dX4_reach_69 : decode cX4_reach 69 = .ok (.ifCond .eq 21, 3) := dk_153 0 21 (dk_at dksX4_reach_2 21 rfl rfl)
theorem dX4_reach_72 : decode cX4_reach 72 = .ok (.iconst 1, 1) := dk_4 (dk_at dksX4_reach_3 0 rfl rfl)
theorem dX4_reach_73 : decode cX4_reach 73 = .ok (.aload_n 0, 1) := dk_42 (dk_at dksX4_reach_3 1 rfl rfl)
theorem dX4_reach_74 : decode cX4_reach 74 = .ok (.getfield 25, 3) := dk_180 0 25 (dk_at dksX4_reach_3 2 rfl rfl)
theorem dX4_reach_77 : decode cX4_reach 77 = .ok (.bipush 26, 2) := dk_16 26 (dk_at dksX4_reach_3 5 rfl rfl)
theorem dX4_reach_79 : decode cX4_reach 79 = .ok (.iconst 2, 1) := dk_5 (dk_at dksX4_reach_3 7 rfl rfl)
theorem dX4_reach_80 : decode cX4_reach 80 = .ok (.iload_n 3, 1) := dk_29 (dk_at dksX4_reach_3 8 rfl rfl)
theorem dX4_reach_81 : decode cX4_reach 81 = .ok (.imul, 1) := dk_104 (dk_at dksX4_reach_3 9 rfl rfl)
theorem dX4_reach_82 : decode cX4_reach 82 = .ok (.iadd, 1) := dk_96 (dk_at dksX4_reach_3 10 rfl rfl)
theorem dX4_reach_83 : decode cX4_reach 83 = .ok (.iconst 1, 1) := dk_4 (dk_at dksX4_reach_3 11 rfl rfl)
theorem dX4_reach_84 : decode cX4_reach 84 = .ok (.iadd, 1) := dk_96 (dk_at dksX4_reach_3 12 rfl rfl)
theorem dX4_reach_85 : decode cX4_reach 85 = .ok (.iaload, 1) := dk_46 (dk_at dksX4_reach_3 13 rfl rfl)
theorem dX4_reach_86 : decode cX4_reach 86 = .ok (.ishl, 1) := dk_120 (dk_at dksX4_reach_3 14 rfl rfl)
theorem dX4_reach_87 : decode cX4_reach 87 = .ok (.goto 4, 3) := dk_167 0 4 (dk_at dksX4_reach_3 15 rfl rfl)
theorem dX4_reach_90 : decode cX4_reach 90 = .ok (.iconst 0, 1) := dk_3 (dk_at dksX4_reach_3 18 rfl rfl)
theorem dX4_reach_91 : decode cX4_reach 91 = .ok (.ior, 1) := dk_128 (dk_at dksX4_reach_3 19 rfl rfl)
theorem dX4_reach_92 : decode cX4_reach 92 = .ok (.istore_n 1, 1) := dk_60 (dk_at dksX4_reach_3 20 rfl rfl)
theorem dX4_reach_93 : decode cX4_reach 93 = .ok (.iinc 3 1, 3) := dk_132 3 1 (dk_at dksX4_reach_3 21 rfl rfl)
theorem dX4_reach_96 : decode cX4_reach 96 = .ok (.goto (-67), 3) := dk_167 255 189 (dk_at dksX4_reach_4 0 rfl rfl)
theorem dX4_reach_99 : decode cX4_reach 99 = .ok (.iinc 2 1, 3) := dk_132 2 1 (dk_at dksX4_reach_4 3 rfl rfl)
theorem dX4_reach_102 : decode cX4_reach 102 = .ok (.goto (-81), 3) := dk_167 255 175 (dk_at dksX4_reach_4 6 rfl rfl)
theorem dX4_reach_105 : decode cX4_reach 105 = .ok (.iload_n 1, 1) := dk_27 (dk_at dksX4_reach_4 9 rfl rfl)
theorem dX4_reach_106 : decode cX4_reach 106 = .ok (.ireturn, 1) := dk_172 (dk_at dksX4_reach_4 10 rfl rfl)
abbrev cX4_cheapest : ByteArray := prog_26_method_54_code
def yX4_cheapest : MethodName := ⟨RX4, "cheapest", "(II)I"⟩
def dkwX4_cheapest_1 : List UInt8 := [42, 180, 0, 25, 8, 46, 182, 0, 222, 42, 28, 42, 180, 0, 207, 182, 0, 226, 172]
abbrev dktX4_cheapest_1 : List UInt8 := dkwX4_cheapest_1 ++ []
def dkwX4_cheapest_0 : List UInt8 := [42, 27, 182, 0, 188, 153, 0, 14, 28, 16, 254, 16, 7, 184, 0, 71, 154, 0, 6, 18, 79, 172, 42, 27]
abbrev dktX4_cheapest_0 : List UInt8 := dkwX4_cheapest_0 ++ dktX4_cheapest_1
theorem dksX4_cheapest_0 : cX4_cheapest.data.toList.drop 0 = dktX4_cheapest_0 := by decide +kernel
theorem dksX4_cheapest_1 : cX4_cheapest.data.toList.drop 24 = dktX4_cheapest_1 := dk_seg dksX4_cheapest_0 24 rfl rfl
theorem dX4_cheapest_0 : decode cX4_cheapest 0 = .ok (.aload_n 0, 1) := dk_42 (dk_at dksX4_cheapest_0 0 rfl rfl)
theorem dX4_cheapest_1 : decode cX4_cheapest 1 = .ok (.iload_n 1, 1) := dk_27 (dk_at dksX4_cheapest_0 1 rfl rfl)
theorem dX4_cheapest_2 : decode cX4_cheapest 2 = .ok (.invokevirtual 188, 3) := dk_182 0 188 (dk_at dksX4_cheapest_0 2 rfl rfl)
theorem dX4_cheapest_5 : decode cX4_cheapest 5 = .ok (.ifCond .eq 14, 3) := dk_153 0 14 (dk_at dksX4_cheapest_0 5 rfl rfl)
theorem dX4_cheapest_8 : decode cX4_cheapest 8 = .ok (.iload_n 2, 1) := dk_28 (dk_at dksX4_cheapest_0 8 rfl rfl)
theorem dX4_cheapest_9 : decode cX4_cheapest 9 = .ok (.bipush (-2), 2) := dk_16 254 (dk_at dksX4_cheapest_0 9 rfl rfl)
theorem dX4_cheapest_11 : decode cX4_cheapest 11 = .ok (.bipush 7, 2) := dk_16 7 (dk_at dksX4_cheapest_0 11 rfl rfl)
theorem dX4_cheapest_13 : decode cX4_cheapest 13 = .ok (.invokestatic 71, 3) := dk_184 0 71 (dk_at dksX4_cheapest_0 13 rfl rfl)
theorem dX4_cheapest_16 : decode cX4_cheapest 16 = .ok (.ifCond .ne 6, 3) := dk_154 0 6 (dk_at dksX4_cheapest_0 16 rfl rfl)
theorem dX4_cheapest_19 : decode cX4_cheapest 19 = .ok (.ldc 79, 2) := dk_18 79 (dk_at dksX4_cheapest_0 19 rfl rfl)
theorem dX4_cheapest_21 : decode cX4_cheapest 21 = .ok (.ireturn, 1) := dk_172 (dk_at dksX4_cheapest_0 21 rfl rfl)
theorem dX4_cheapest_22 : decode cX4_cheapest 22 = .ok (.aload_n 0, 1) := dk_42 (dk_at dksX4_cheapest_0 22 rfl rfl)
theorem dX4_cheapest_23 : decode cX4_cheapest 23 = .ok (.iload_n 1, 1) := dk_27 (dk_at dksX4_cheapest_0 23 rfl rfl)
theorem dX4_cheapest_24 : decode cX4_cheapest 24 = .ok (.aload_n 0, 1) := dk_42 (dk_at dksX4_cheapest_1 0 rfl rfl)
theorem dX4_cheapest_25 : decode cX4_cheapest 25 = .ok (.getfield 25, 3) := dk_180 0 25 (dk_at dksX4_cheapest_1 1 rfl rfl)
theorem dX4_cheapest_28 : decode cX4_cheapest 28 = .ok (.iconst 5, 1) := dk_8 (dk_at dksX4_cheapest_1 4 rfl rfl)
theorem dX4_cheapest_29 : decode cX4_cheapest 29 = .ok (.iaload, 1) := dk_46 (dk_at dksX4_cheapest_1 5 rfl rfl)
theorem dX4_cheapest_30 : decode cX4_cheapest 30 = .ok (.invokevirtual 222, 3) := dk_182 0 222 (dk_at dksX4_cheapest_1 6 rfl rfl)
theorem dX4_cheapest_33 : decode cX4_cheapest 33 = .ok (.aload_n 0, 1) := dk_42 (dk_at dksX4_cheapest_1 9 rfl rfl)
theorem dX4_cheapest_34 : decode cX4_cheapest 34 = .ok (.iload_n 2, 1) := dk_28 (dk_at dksX4_cheapest_1 10 rfl rfl)
theorem dX4_cheapest_35 : decode cX4_cheapest 35 = .ok (.aload_n 0, 1) := dk_42 (dk_at dksX4_cheapest_1 11 rfl rfl)
theorem dX4_cheapest_36 : decode cX4_cheapest 36 = .ok (.getfield 207, 3) := dk_180 0 207 (dk_at dksX4_cheapest_1 12 rfl rfl)
theorem dX4_cheapest_39 : decode cX4_cheapest 39 = .ok (.invokevirtual 226, 3) := dk_182 0 226 (dk_at dksX4_cheapest_1 15 rfl rfl)
theorem dX4_cheapest_42 : decode cX4_cheapest 42 = .ok (.ireturn, 1) := dk_172 (dk_at dksX4_cheapest_1 18 rfl rfl)
abbrev cX4_finds : ByteArray := prog_26_method_52_code
def yX4_finds : MethodName := ⟨RX4, "finds", "(II)V"⟩
def dkwX4_finds_4 : List UInt8 := [21, 4, 153, 0, 11, 42, 42, 180, 0, 197, 182, 0, 216, 42, 16, 8, 182, 0, 219, 62, 167, 255, 160, 177]
abbrev dktX4_finds_4 : List UInt8 := dkwX4_finds_4 ++ []
def dkwX4_finds_3 : List UInt8 := [162, 0, 7, 4, 167, 0, 4, 3, 54, 4, 42, 180, 0, 50, 42, 180, 0, 197, 46, 27, 160, 0, 16]
abbrev dktX4_finds_3 : List UInt8 := dkwX4_finds_3 ++ dktX4_finds_4
def dkwX4_finds_2 : List UInt8 := [42, 180, 0, 56, 42, 180, 0, 197, 46, 42, 180, 0, 204, 160, 0, 18, 42, 180, 0, 197, 42, 180, 0, 207]
abbrev dktX4_finds_2 : List UInt8 := dkwX4_finds_2 ++ dktX4_finds_3
def dkwX4_finds_1 : List UInt8 := [180, 0, 204, 18, 65, 159, 0, 46, 42, 180, 0, 56, 42, 180, 0, 197, 46, 42, 180, 0, 204, 161, 0, 30]
abbrev dktX4_finds_1 : List UInt8 := dkwX4_finds_1 ++ dktX4_finds_2
def dkwX4_finds_0 : List UInt8 := [42, 182, 0, 213, 42, 180, 0, 31, 8, 28, 79, 42, 18, 65, 181, 0, 204, 4, 62, 29, 153, 0, 98, 42]
abbrev dktX4_finds_0 : List UInt8 := dkwX4_finds_0 ++ dktX4_finds_1
theorem dksX4_finds_0 : cX4_finds.data.toList.drop 0 = dktX4_finds_0 := by decide +kernel
theorem dksX4_finds_1 : cX4_finds.data.toList.drop 24 = dktX4_finds_1 := dk_seg dksX4_finds_0 24 rfl rfl
theorem dksX4_finds_2 : cX4_finds.data.toList.drop 48 = dktX4_finds_2 := dk_seg dksX4_finds_1 24 rfl rfl
theorem dksX4_finds_3 : cX4_finds.data.toList.drop 72 = dktX4_finds_3 := dk_seg dksX4_finds_2 24 rfl rfl
theorem dksX4_finds_4 : cX4_finds.data.toList.drop 95 = dktX4_finds_4 := dk_seg dksX4_finds_3 23 rfl rfl
theorem dX4_finds_0 : decode cX4_finds 0 = .ok (.aload_n 0, 1) := dk_42 (dk_at dksX4_finds_0 0 rfl rfl)
theorem dX4_finds_1 : decode cX4_finds 1 = .ok (.invokevirtual 213, 3) := dk_182 0 213 (dk_at dksX4_finds_0 1 rfl rfl)
theorem dX4_finds_4 : decode cX4_finds 4 = .ok (.aload_n 0, 1) := dk_42 (dk_at dksX4_finds_0 4 rfl rfl)
theorem dX4_finds_5 : decode cX4_finds 5 = .ok (.getfield 31, 3) := dk_180 0 31 (dk_at dksX4_finds_0 5 rfl rfl)
theorem dX4_finds_8 : decode cX4_finds 8 = .ok (.iconst 5, 1) := dk_8 (dk_at dksX4_finds_0 8 rfl rfl)
theorem dX4_finds_9 : decode cX4_finds 9 = .ok (.iload_n 2, 1) := dk_28 (dk_at dksX4_finds_0 9 rfl rfl)
theorem dX4_finds_10 : decode cX4_finds 10 = .ok (.iastore, 1) := dk_79 (dk_at dksX4_finds_0 10 rfl rfl)
theorem dX4_finds_11 : decode cX4_finds 11 = .ok (.aload_n 0, 1) := dk_42 (dk_at dksX4_finds_0 11 rfl rfl)
theorem dX4_finds_12 : decode cX4_finds 12 = .ok (.ldc 65, 2) := dk_18 65 (dk_at dksX4_finds_0 12 rfl rfl)
theorem dX4_finds_14 : decode cX4_finds 14 = .ok (.putfield 204, 3) := dk_181 0 204 (dk_at dksX4_finds_0 14 rfl rfl)
theorem dX4_finds_17 : decode cX4_finds 17 = .ok (.iconst 1, 1) := dk_4 (dk_at dksX4_finds_0 17 rfl rfl)
theorem dX4_finds_18 : decode cX4_finds 18 = .ok (.istore_n 3, 1) := dk_62 (dk_at dksX4_finds_0 18 rfl rfl)
theorem dX4_finds_19 : decode cX4_finds 19 = .ok (.iload_n 3, 1) := dk_29 (dk_at dksX4_finds_0 19 rfl rfl)
theorem dX4_finds_20 : decode cX4_finds 20 = .ok (.ifCond .eq 98, 3) := dk_153 0 98 (dk_at dksX4_finds_0 20 rfl rfl)
theorem dX4_finds_23 : decode cX4_finds 23 = .ok (.aload_n 0, 1) := dk_42 (dk_at dksX4_finds_0 23 rfl rfl)
theorem dX4_finds_24 : decode cX4_finds 24 = .ok (.getfield 204, 3) := dk_180 0 204 (dk_at dksX4_finds_1 0 rfl rfl)
theorem dX4_finds_27 : decode cX4_finds 27 = .ok (.ldc 65, 2) := dk_18 65 (dk_at dksX4_finds_1 3 rfl rfl)
theorem dX4_finds_29 : decode cX4_finds 29 = .ok (.if_icmp .eq 46, 3) := dk_159 0 46 (dk_at dksX4_finds_1 5 rfl rfl)
theorem dX4_finds_32 : decode cX4_finds 32 = .ok (.aload_n 0, 1) := dk_42 (dk_at dksX4_finds_1 8 rfl rfl)
theorem dX4_finds_33 : decode cX4_finds 33 = .ok (.getfield 56, 3) := dk_180 0 56 (dk_at dksX4_finds_1 9 rfl rfl)
theorem dX4_finds_36 : decode cX4_finds 36 = .ok (.aload_n 0, 1) := dk_42 (dk_at dksX4_finds_1 12 rfl rfl)
theorem dX4_finds_37 : decode cX4_finds 37 = .ok (.getfield 197, 3) := dk_180 0 197 (dk_at dksX4_finds_1 13 rfl rfl)
theorem dX4_finds_40 : decode cX4_finds 40 = .ok (.iaload, 1) := dk_46 (dk_at dksX4_finds_1 16 rfl rfl)
theorem dX4_finds_41 : decode cX4_finds 41 = .ok (.aload_n 0, 1) := dk_42 (dk_at dksX4_finds_1 17 rfl rfl)
theorem dX4_finds_42 : decode cX4_finds 42 = .ok (.getfield 204, 3) := dk_180 0 204 (dk_at dksX4_finds_1 18 rfl rfl)
theorem dX4_finds_45 : decode cX4_finds 45 = .ok (.if_icmp .lt 30, 3) := dk_161 0 30 (dk_at dksX4_finds_1 21 rfl rfl)
theorem dX4_finds_48 : decode cX4_finds 48 = .ok (.aload_n 0, 1) := dk_42 (dk_at dksX4_finds_2 0 rfl rfl)
theorem dX4_finds_49 : decode cX4_finds 49 = .ok (.getfield 56, 3) := dk_180 0 56 (dk_at dksX4_finds_2 1 rfl rfl)
theorem dX4_finds_52 : decode cX4_finds 52 = .ok (.aload_n 0, 1) := dk_42 (dk_at dksX4_finds_2 4 rfl rfl)
theorem dX4_finds_53 : decode cX4_finds 53 = .ok (.getfield 197, 3) := dk_180 0 197 (dk_at dksX4_finds_2 5 rfl rfl)
theorem dX4_finds_56 : decode cX4_finds 56 = .ok (.iaload, 1) := dk_46 (dk_at dksX4_finds_2 8 rfl rfl)
theorem dX4_finds_57 : decode cX4_finds 57 = .ok (.aload_n 0, 1) := dk_42 (dk_at dksX4_finds_2 9 rfl rfl)
theorem dX4_finds_58 : decode cX4_finds 58 = .ok (.getfield 204, 3) := dk_180 0 204 (dk_at dksX4_finds_2 10 rfl rfl)
theorem dX4_finds_61 : decode cX4_finds 61 = .ok (.if_icmp .ne 18, 3) := dk_160 0 18 (dk_at dksX4_finds_2 13 rfl rfl)
theorem dX4_finds_64 : decode cX4_finds 64 = .ok (.aload_n 0, 1) := dk_42 (dk_at dksX4_finds_2 16 rfl rfl)
theorem dX4_finds_65 : decode cX4_finds 65 = .ok (.getfield 197, 3) := dk_180 0 197 (dk_at dksX4_finds_2 17 rfl rfl)
theorem dX4_finds_68 : decode cX4_finds 68 = .ok (.aload_n 0, 1) := dk_42 (dk_at dksX4_finds_2 20 rfl rfl)
theorem dX4_finds_69 : decode cX4_finds 69 = .ok (.getfield 207, 3) := dk_180 0 207 (dk_at dksX4_finds_2 21 rfl rfl)
theorem dX4_finds_72 : decode cX4_finds 72 = .ok (.if_icmp .ge 7, 3) := dk_162 0 7 (dk_at dksX4_finds_3 0 rfl rfl)
theorem dX4_finds_75 : decode cX4_finds 75 = .ok (.iconst 1, 1) := dk_4 (dk_at dksX4_finds_3 3 rfl rfl)
theorem dX4_finds_76 : decode cX4_finds 76 = .ok (.goto 4, 3) := dk_167 0 4 (dk_at dksX4_finds_3 4 rfl rfl)
theorem dX4_finds_79 : decode cX4_finds 79 = .ok (.iconst 0, 1) := dk_3 (dk_at dksX4_finds_3 7 rfl rfl)
theorem dX4_finds_80 : decode cX4_finds 80 = .ok (.istore 4, 2) := dk_54 4 (dk_at dksX4_finds_3 8 rfl rfl)
theorem dX4_finds_82 : decode cX4_finds 82 = .ok (.aload_n 0, 1) := dk_42 (dk_at dksX4_finds_3 10 rfl rfl)
theorem dX4_finds_83 : decode cX4_finds 83 = .ok (.getfield 50, 3) := dk_180 0 50 (dk_at dksX4_finds_3 11 rfl rfl)
theorem dX4_finds_86 : decode cX4_finds 86 = .ok (.aload_n 0, 1) := dk_42 (dk_at dksX4_finds_3 14 rfl rfl)
theorem dX4_finds_87 : decode cX4_finds 87 = .ok (.getfield 197, 3) := dk_180 0 197 (dk_at dksX4_finds_3 15 rfl rfl)
theorem dX4_finds_90 : decode cX4_finds 90 = .ok (.iaload, 1) := dk_46 (dk_at dksX4_finds_3 18 rfl rfl)
theorem dX4_finds_91 : decode cX4_finds 91 = .ok (.iload_n 1, 1) := dk_27 (dk_at dksX4_finds_3 19 rfl rfl)
theorem dX4_finds_92 : decode cX4_finds 92 = .ok (.if_icmp .ne 16, 3) := dk_160 0 16 (dk_at dksX4_finds_3 20 rfl rfl)
theorem dX4_finds_95 : decode cX4_finds 95 = .ok (.iload 4, 2) := dk_21 4 (dk_at dksX4_finds_4 0 rfl rfl)
theorem dX4_finds_97 : decode cX4_finds 97 = .ok (.ifCond .eq 11, 3) := dk_153 0 11 (dk_at dksX4_finds_4 2 rfl rfl)
theorem dX4_finds_100 : decode cX4_finds 100 = .ok (.aload_n 0, 1) := dk_42 (dk_at dksX4_finds_4 5 rfl rfl)
theorem dX4_finds_101 : decode cX4_finds 101 = .ok (.aload_n 0, 1) := dk_42 (dk_at dksX4_finds_4 6 rfl rfl)
theorem dX4_finds_102 : decode cX4_finds 102 = .ok (.getfield 197, 3) := dk_180 0 197 (dk_at dksX4_finds_4 7 rfl rfl)
theorem dX4_finds_105 : decode cX4_finds 105 = .ok (.invokevirtual 216, 3) := dk_182 0 216 (dk_at dksX4_finds_4 10 rfl rfl)
theorem dX4_finds_108 : decode cX4_finds 108 = .ok (.aload_n 0, 1) := dk_42 (dk_at dksX4_finds_4 13 rfl rfl)
theorem dX4_finds_109 : decode cX4_finds 109 = .ok (.bipush 8, 2) := dk_16 8 (dk_at dksX4_finds_4 14 rfl rfl)
theorem dX4_finds_111 : decode cX4_finds 111 = .ok (.invokevirtual 219, 3) := dk_182 0 219 (dk_at dksX4_finds_4 16 rfl rfl)
theorem dX4_finds_114 : decode cX4_finds 114 = .ok (.istore_n 3, 1) := dk_62 (dk_at dksX4_finds_4 19 rfl rfl)
theorem dX4_finds_115 : decode cX4_finds 115 = .ok (.goto (-96), 3) := dk_167 255 160 (dk_at dksX4_finds_4 20 rfl rfl)
theorem dX4_finds_118 : decode cX4_finds 118 = .ok (.return_, 1) := dk_177 (dk_at dksX4_finds_4 23 rfl rfl)
abbrev cX4_begins : ByteArray := prog_26_method_48_code
def yX4_begins : MethodName := ⟨RX4, "begins", "()V"⟩
def dkwX4_begins_2 : List UInt8 := [79, 42, 180, 0, 56, 3, 3, 79, 177]
abbrev dktX4_begins_2 : List UInt8 := dkwX4_begins_2 ++ []
def dkwX4_begins_1 : List UInt8 := [79, 42, 180, 0, 50, 3, 42, 180, 0, 25, 7, 46, 79, 42, 180, 0, 53, 3, 42, 180, 0, 25, 4, 46]
abbrev dktX4_begins_1 : List UInt8 := dkwX4_begins_1 ++ dktX4_begins_2
def dkwX4_begins_0 : List UInt8 := [42, 180, 0, 25, 3, 42, 180, 0, 31, 3, 184, 0, 156, 42, 3, 181, 0, 197, 42, 180, 0, 47, 3, 3]
abbrev dktX4_begins_0 : List UInt8 := dkwX4_begins_0 ++ dktX4_begins_1
theorem dksX4_begins_0 : cX4_begins.data.toList.drop 0 = dktX4_begins_0 := by decide +kernel
theorem dksX4_begins_1 : cX4_begins.data.toList.drop 24 = dktX4_begins_1 := dk_seg dksX4_begins_0 24 rfl rfl
theorem dksX4_begins_2 : cX4_begins.data.toList.drop 48 = dktX4_begins_2 := dk_seg dksX4_begins_1 24 rfl rfl
theorem dX4_begins_0 : decode cX4_begins 0 = .ok (.aload_n 0, 1) := dk_42 (dk_at dksX4_begins_0 0 rfl rfl)
theorem dX4_begins_1 : decode cX4_begins 1 = .ok (.getfield 25, 3) := dk_180 0 25 (dk_at dksX4_begins_0 1 rfl rfl)
theorem dX4_begins_4 : decode cX4_begins 4 = .ok (.iconst 0, 1) := dk_3 (dk_at dksX4_begins_0 4 rfl rfl)
theorem dX4_begins_5 : decode cX4_begins 5 = .ok (.aload_n 0, 1) := dk_42 (dk_at dksX4_begins_0 5 rfl rfl)
theorem dX4_begins_6 : decode cX4_begins 6 = .ok (.getfield 31, 3) := dk_180 0 31 (dk_at dksX4_begins_0 6 rfl rfl)
theorem dX4_begins_9 : decode cX4_begins 9 = .ok (.iconst 0, 1) := dk_3 (dk_at dksX4_begins_0 9 rfl rfl)
theorem dX4_begins_10 : decode cX4_begins 10 = .ok (.invokestatic 156, 3) := dk_184 0 156 (dk_at dksX4_begins_0 10 rfl rfl)
theorem dX4_begins_13 : decode cX4_begins 13 = .ok (.aload_n 0, 1) := dk_42 (dk_at dksX4_begins_0 13 rfl rfl)
theorem dX4_begins_14 : decode cX4_begins 14 = .ok (.iconst 0, 1) := dk_3 (dk_at dksX4_begins_0 14 rfl rfl)
theorem dX4_begins_15 : decode cX4_begins 15 = .ok (.putfield 197, 3) := dk_181 0 197 (dk_at dksX4_begins_0 15 rfl rfl)
theorem dX4_begins_18 : decode cX4_begins 18 = .ok (.aload_n 0, 1) := dk_42 (dk_at dksX4_begins_0 18 rfl rfl)
theorem dX4_begins_19 : decode cX4_begins 19 = .ok (.getfield 47, 3) := dk_180 0 47 (dk_at dksX4_begins_0 19 rfl rfl)
theorem dX4_begins_22 : decode cX4_begins 22 = .ok (.iconst 0, 1) := dk_3 (dk_at dksX4_begins_0 22 rfl rfl)
theorem dX4_begins_23 : decode cX4_begins 23 = .ok (.iconst 0, 1) := dk_3 (dk_at dksX4_begins_0 23 rfl rfl)
theorem dX4_begins_24 : decode cX4_begins 24 = .ok (.iastore, 1) := dk_79 (dk_at dksX4_begins_1 0 rfl rfl)
theorem dX4_begins_25 : decode cX4_begins 25 = .ok (.aload_n 0, 1) := dk_42 (dk_at dksX4_begins_1 1 rfl rfl)
theorem dX4_begins_26 : decode cX4_begins 26 = .ok (.getfield 50, 3) := dk_180 0 50 (dk_at dksX4_begins_1 2 rfl rfl)
theorem dX4_begins_29 : decode cX4_begins 29 = .ok (.iconst 0, 1) := dk_3 (dk_at dksX4_begins_1 5 rfl rfl)
theorem dX4_begins_30 : decode cX4_begins 30 = .ok (.aload_n 0, 1) := dk_42 (dk_at dksX4_begins_1 6 rfl rfl)
theorem dX4_begins_31 : decode cX4_begins 31 = .ok (.getfield 25, 3) := dk_180 0 25 (dk_at dksX4_begins_1 7 rfl rfl)
theorem dX4_begins_34 : decode cX4_begins 34 = .ok (.iconst 4, 1) := dk_7 (dk_at dksX4_begins_1 10 rfl rfl)
theorem dX4_begins_35 : decode cX4_begins 35 = .ok (.iaload, 1) := dk_46 (dk_at dksX4_begins_1 11 rfl rfl)
theorem dX4_begins_36 : decode cX4_begins 36 = .ok (.iastore, 1) := dk_79 (dk_at dksX4_begins_1 12 rfl rfl)
theorem dX4_begins_37 : decode cX4_begins 37 = .ok (.aload_n 0, 1) := dk_42 (dk_at dksX4_begins_1 13 rfl rfl)
theorem dX4_begins_38 : decode cX4_begins 38 = .ok (.getfield 53, 3) := dk_180 0 53 (dk_at dksX4_begins_1 14 rfl rfl)
theorem dX4_begins_41 : decode cX4_begins 41 = .ok (.iconst 0, 1) := dk_3 (dk_at dksX4_begins_1 17 rfl rfl)
theorem dX4_begins_42 : decode cX4_begins 42 = .ok (.aload_n 0, 1) := dk_42 (dk_at dksX4_begins_1 18 rfl rfl)
theorem dX4_begins_43 : decode cX4_begins 43 = .ok (.getfield 25, 3) := dk_180 0 25 (dk_at dksX4_begins_1 19 rfl rfl)
theorem dX4_begins_46 : decode cX4_begins 46 = .ok (.iconst 1, 1) := dk_4 (dk_at dksX4_begins_1 22 rfl rfl)
theorem dX4_begins_47 : decode cX4_begins 47 = .ok (.iaload, 1) := dk_46 (dk_at dksX4_begins_1 23 rfl rfl)
theorem dX4_begins_48 : decode cX4_begins 48 = .ok (.iastore, 1) := dk_79 (dk_at dksX4_begins_2 0 rfl rfl)
theorem dX4_begins_49 : decode cX4_begins 49 = .ok (.aload_n 0, 1) := dk_42 (dk_at dksX4_begins_2 1 rfl rfl)
theorem dX4_begins_50 : decode cX4_begins 50 = .ok (.getfield 56, 3) := dk_180 0 56 (dk_at dksX4_begins_2 2 rfl rfl)
theorem dX4_begins_53 : decode cX4_begins 53 = .ok (.iconst 0, 1) := dk_3 (dk_at dksX4_begins_2 5 rfl rfl)
theorem dX4_begins_54 : decode cX4_begins 54 = .ok (.iconst 0, 1) := dk_3 (dk_at dksX4_begins_2 6 rfl rfl)
theorem dX4_begins_55 : decode cX4_begins 55 = .ok (.iastore, 1) := dk_79 (dk_at dksX4_begins_2 7 rfl rfl)
theorem dX4_begins_56 : decode cX4_begins 56 = .ok (.return_, 1) := dk_177 (dk_at dksX4_begins_2 8 rfl rfl)
abbrev cX4_keeps : ByteArray := prog_26_method_51_code
def yX4_keeps : MethodName := ⟨RX4, "keeps", "(I)V"⟩
def dkwX4_keeps_2 : List UInt8 := [132, 2, 1, 167, 255, 236, 177]
abbrev dktX4_keeps_2 : List UInt8 := dkwX4_keeps_2 ++ []
def dkwX4_keeps_1 : List UInt8 := [181, 0, 210, 3, 61, 28, 27, 162, 0, 21, 42, 180, 0, 59, 28, 42, 180, 0, 44, 28, 46, 79]
abbrev dktX4_keeps_1 : List UInt8 := dkwX4_keeps_1 ++ dktX4_keeps_2
def dkwX4_keeps_0 : List UInt8 := [42, 42, 180, 0, 56, 27, 46, 181, 0, 204, 42, 27, 181, 0, 207, 42, 42, 180, 0, 50, 27, 46]
abbrev dktX4_keeps_0 : List UInt8 := dkwX4_keeps_0 ++ dktX4_keeps_1
theorem dksX4_keeps_0 : cX4_keeps.data.toList.drop 0 = dktX4_keeps_0 := by decide +kernel
theorem dksX4_keeps_1 : cX4_keeps.data.toList.drop 22 = dktX4_keeps_1 := dk_seg dksX4_keeps_0 22 rfl rfl
theorem dksX4_keeps_2 : cX4_keeps.data.toList.drop 44 = dktX4_keeps_2 := dk_seg dksX4_keeps_1 22 rfl rfl
theorem dX4_keeps_0 : decode cX4_keeps 0 = .ok (.aload_n 0, 1) := dk_42 (dk_at dksX4_keeps_0 0 rfl rfl)
theorem dX4_keeps_1 : decode cX4_keeps 1 = .ok (.aload_n 0, 1) := dk_42 (dk_at dksX4_keeps_0 1 rfl rfl)
theorem dX4_keeps_2 : decode cX4_keeps 2 = .ok (.getfield 56, 3) := dk_180 0 56 (dk_at dksX4_keeps_0 2 rfl rfl)
theorem dX4_keeps_5 : decode cX4_keeps 5 = .ok (.iload_n 1, 1) := dk_27 (dk_at dksX4_keeps_0 5 rfl rfl)
theorem dX4_keeps_6 : decode cX4_keeps 6 = .ok (.iaload, 1) := dk_46 (dk_at dksX4_keeps_0 6 rfl rfl)
theorem dX4_keeps_7 : decode cX4_keeps 7 = .ok (.putfield 204, 3) := dk_181 0 204 (dk_at dksX4_keeps_0 7 rfl rfl)
theorem dX4_keeps_10 : decode cX4_keeps 10 = .ok (.aload_n 0, 1) := dk_42 (dk_at dksX4_keeps_0 10 rfl rfl)
theorem dX4_keeps_11 : decode cX4_keeps 11 = .ok (.iload_n 1, 1) := dk_27 (dk_at dksX4_keeps_0 11 rfl rfl)
theorem dX4_keeps_12 : decode cX4_keeps 12 = .ok (.putfield 207, 3) := dk_181 0 207 (dk_at dksX4_keeps_0 12 rfl rfl)
theorem dX4_keeps_15 : decode cX4_keeps 15 = .ok (.aload_n 0, 1) := dk_42 (dk_at dksX4_keeps_0 15 rfl rfl)
theorem dX4_keeps_16 : decode cX4_keeps 16 = .ok (.aload_n 0, 1) := dk_42 (dk_at dksX4_keeps_0 16 rfl rfl)
theorem dX4_keeps_17 : decode cX4_keeps 17 = .ok (.getfield 50, 3) := dk_180 0 50 (dk_at dksX4_keeps_0 17 rfl rfl)
theorem dX4_keeps_20 : decode cX4_keeps 20 = .ok (.iload_n 1, 1) := dk_27 (dk_at dksX4_keeps_0 20 rfl rfl)
theorem dX4_keeps_21 : decode cX4_keeps 21 = .ok (.iaload, 1) := dk_46 (dk_at dksX4_keeps_0 21 rfl rfl)
theorem dX4_keeps_22 : decode cX4_keeps 22 = .ok (.putfield 210, 3) := dk_181 0 210 (dk_at dksX4_keeps_1 0 rfl rfl)
theorem dX4_keeps_25 : decode cX4_keeps 25 = .ok (.iconst 0, 1) := dk_3 (dk_at dksX4_keeps_1 3 rfl rfl)
theorem dX4_keeps_26 : decode cX4_keeps 26 = .ok (.istore_n 2, 1) := dk_61 (dk_at dksX4_keeps_1 4 rfl rfl)
theorem dX4_keeps_27 : decode cX4_keeps 27 = .ok (.iload_n 2, 1) := dk_28 (dk_at dksX4_keeps_1 5 rfl rfl)
theorem dX4_keeps_28 : decode cX4_keeps 28 = .ok (.iload_n 1, 1) := dk_27 (dk_at dksX4_keeps_1 6 rfl rfl)
theorem dX4_keeps_29 : decode cX4_keeps 29 = .ok (.if_icmp .ge 21, 3) := dk_162 0 21 (dk_at dksX4_keeps_1 7 rfl rfl)
theorem dX4_keeps_32 : decode cX4_keeps 32 = .ok (.aload_n 0, 1) := dk_42 (dk_at dksX4_keeps_1 10 rfl rfl)
theorem dX4_keeps_33 : decode cX4_keeps 33 = .ok (.getfield 59, 3) := dk_180 0 59 (dk_at dksX4_keeps_1 11 rfl rfl)
theorem dX4_keeps_36 : decode cX4_keeps 36 = .ok (.iload_n 2, 1) := dk_28 (dk_at dksX4_keeps_1 14 rfl rfl)
theorem dX4_keeps_37 : decode cX4_keeps 37 = .ok (.aload_n 0, 1) := dk_42 (dk_at dksX4_keeps_1 15 rfl rfl)
theorem dX4_keeps_38 : decode cX4_keeps 38 = .ok (.getfield 44, 3) := dk_180 0 44 (dk_at dksX4_keeps_1 16 rfl rfl)
theorem dX4_keeps_41 : decode cX4_keeps 41 = .ok (.iload_n 2, 1) := dk_28 (dk_at dksX4_keeps_1 19 rfl rfl)
theorem dX4_keeps_42 : decode cX4_keeps 42 = .ok (.iaload, 1) := dk_46 (dk_at dksX4_keeps_1 20 rfl rfl)
theorem dX4_keeps_43 : decode cX4_keeps 43 = .ok (.iastore, 1) := dk_79 (dk_at dksX4_keeps_1 21 rfl rfl)
theorem dX4_keeps_44 : decode cX4_keeps 44 = .ok (.iinc 2 1, 3) := dk_132 2 1 (dk_at dksX4_keeps_2 0 rfl rfl)
theorem dX4_keeps_47 : decode cX4_keeps 47 = .ok (.goto (-20), 3) := dk_167 255 236 (dk_at dksX4_keeps_2 3 rfl rfl)
theorem dX4_keeps_50 : decode cX4_keeps 50 = .ok (.return_, 1) := dk_177 (dk_at dksX4_keeps_2 6 rfl rfl)
abbrev cX4_goesOn : ByteArray := prog_26_method_50_code
def yX4_goesOn : MethodName := ⟨RX4, "goesOn", "(I)Z"⟩
def dkwX4_goesOn_4 : List UInt8 := [89, 180, 0, 197, 4, 100, 181, 0, 197, 167, 255, 185, 3, 172]
abbrev dktX4_goesOn_4 : List UInt8 := dkwX4_goesOn_4 ++ []
def dkwX4_goesOn_3 : List UInt8 := [180, 0, 197, 46, 184, 0, 176, 153, 0, 10, 42, 28, 182, 0, 200, 4, 172, 132, 2, 1, 167, 255, 215, 42]
abbrev dktX4_goesOn_3 : List UInt8 := dkwX4_goesOn_3 ++ dktX4_goesOn_4
def dkwX4_goesOn_2 : List UInt8 := [61, 28, 42, 180, 0, 31, 16, 25, 46, 162, 0, 36, 42, 180, 0, 31, 28, 42, 180, 0, 50, 42]
abbrev dktX4_goesOn_2 : List UInt8 := dkwX4_goesOn_2 ++ dktX4_goesOn_3
def dkwX4_goesOn_1 : List UInt8 := [180, 0, 197, 4, 100, 181, 0, 197, 42, 180, 0, 197, 155, 0, 70, 42, 180, 0, 47, 42, 180, 0, 197, 46]
abbrev dktX4_goesOn_1 : List UInt8 := dkwX4_goesOn_1 ++ dktX4_goesOn_2
def dkwX4_goesOn_0 : List UInt8 := [42, 180, 0, 197, 27, 162, 0, 16, 42, 180, 0, 47, 42, 180, 0, 197, 3, 79, 167, 0, 13, 42, 89]
abbrev dktX4_goesOn_0 : List UInt8 := dkwX4_goesOn_0 ++ dktX4_goesOn_1
theorem dksX4_goesOn_0 : cX4_goesOn.data.toList.drop 0 = dktX4_goesOn_0 := by decide +kernel
theorem dksX4_goesOn_1 : cX4_goesOn.data.toList.drop 23 = dktX4_goesOn_1 := dk_seg dksX4_goesOn_0 23 rfl rfl
theorem dksX4_goesOn_2 : cX4_goesOn.data.toList.drop 47 = dktX4_goesOn_2 := dk_seg dksX4_goesOn_1 24 rfl rfl
theorem dksX4_goesOn_3 : cX4_goesOn.data.toList.drop 69 = dktX4_goesOn_3 := dk_seg dksX4_goesOn_2 22 rfl rfl
theorem dksX4_goesOn_4 : cX4_goesOn.data.toList.drop 93 = dktX4_goesOn_4 := dk_seg dksX4_goesOn_3 24 rfl rfl
theorem dX4_goesOn_0 : decode cX4_goesOn 0 = .ok (.aload_n 0, 1) := dk_42 (dk_at dksX4_goesOn_0 0 rfl rfl)
theorem dX4_goesOn_1 : decode cX4_goesOn 1 = .ok (.getfield 197, 3) := dk_180 0 197 (dk_at dksX4_goesOn_0 1 rfl rfl)
theorem dX4_goesOn_4 : decode cX4_goesOn 4 = .ok (.iload_n 1, 1) := dk_27 (dk_at dksX4_goesOn_0 4 rfl rfl)
theorem dX4_goesOn_5 : decode cX4_goesOn 5 = .ok (.if_icmp .ge 16, 3) := dk_162 0 16 (dk_at dksX4_goesOn_0 5 rfl rfl)
theorem dX4_goesOn_8 : decode cX4_goesOn 8 = .ok (.aload_n 0, 1) := dk_42 (dk_at dksX4_goesOn_0 8 rfl rfl)
theorem dX4_goesOn_9 : decode cX4_goesOn 9 = .ok (.getfield 47, 3) := dk_180 0 47 (dk_at dksX4_goesOn_0 9 rfl rfl)
theorem dX4_goesOn_12 : decode cX4_goesOn 12 = .ok (.aload_n 0, 1) := dk_42 (dk_at dksX4_goesOn_0 12 rfl rfl)
theorem dX4_goesOn_13 : decode cX4_goesOn 13 = .ok (.getfield 197, 3) := dk_180 0 197 (dk_at dksX4_goesOn_0 13 rfl rfl)
theorem dX4_goesOn_16 : decode cX4_goesOn 16 = .ok (.iconst 0, 1) := dk_3 (dk_at dksX4_goesOn_0 16 rfl rfl)
theorem dX4_goesOn_17 : decode cX4_goesOn 17 = .ok (.iastore, 1) := dk_79 (dk_at dksX4_goesOn_0 17 rfl rfl)
theorem dX4_goesOn_18 : decode cX4_goesOn 18 = .ok (.goto 13, 3) := dk_167 0 13 (dk_at dksX4_goesOn_0 18 rfl rfl)
theorem dX4_goesOn_21 : decode cX4_goesOn 21 = .ok (.aload_n 0, 1) := dk_42 (dk_at dksX4_goesOn_0 21 rfl rfl)
theorem dX4_goesOn_22 : decode cX4_goesOn 22 = .ok (.dup, 1) := dk_89 (dk_at dksX4_goesOn_0 22 rfl rfl)
theorem dX4_goesOn_23 : decode cX4_goesOn 23 = .ok (.getfield 197, 3) := dk_180 0 197 (dk_at dksX4_goesOn_1 0 rfl rfl)
theorem dX4_goesOn_26 : decode cX4_goesOn 26 = .ok (.iconst 1, 1) := dk_4 (dk_at dksX4_goesOn_1 3 rfl rfl)
theorem dX4_goesOn_27 : decode cX4_goesOn 27 = .ok (.isub, 1) := dk_100 (dk_at dksX4_goesOn_1 4 rfl rfl)
theorem dX4_goesOn_28 : decode cX4_goesOn 28 = .ok (.putfield 197, 3) := dk_181 0 197 (dk_at dksX4_goesOn_1 5 rfl rfl)
theorem dX4_goesOn_31 : decode cX4_goesOn 31 = .ok (.aload_n 0, 1) := dk_42 (dk_at dksX4_goesOn_1 8 rfl rfl)
theorem dX4_goesOn_32 : decode cX4_goesOn 32 = .ok (.getfield 197, 3) := dk_180 0 197 (dk_at dksX4_goesOn_1 9 rfl rfl)
theorem dX4_goesOn_35 : decode cX4_goesOn 35 = .ok (.ifCond .lt 70, 3) := dk_155 0 70 (dk_at dksX4_goesOn_1 12 rfl rfl)
theorem dX4_goesOn_38 : decode cX4_goesOn 38 = .ok (.aload_n 0, 1) := dk_42 (dk_at dksX4_goesOn_1 15 rfl rfl)
theorem dX4_goesOn_39 : decode cX4_goesOn 39 = .ok (.getfield 47, 3) := dk_180 0 47 (dk_at dksX4_goesOn_1 16 rfl rfl)
theorem dX4_goesOn_42 : decode cX4_goesOn 42 = .ok (.aload_n 0, 1) := dk_42 (dk_at dksX4_goesOn_1 19 rfl rfl)
theorem dX4_goesOn_43 : decode cX4_goesOn 43 = .ok (.getfield 197, 3) := dk_180 0 197 (dk_at dksX4_goesOn_1 20 rfl rfl)
theorem dX4_goesOn_46 : decode cX4_goesOn 46 = .ok (.iaload, 1) := dk_46 (dk_at dksX4_goesOn_1 23 rfl rfl)
theorem dX4_goesOn_47 : decode cX4_goesOn 47 = .ok (.istore_n 2, 1) := dk_61 (dk_at dksX4_goesOn_2 0 rfl rfl)
theorem dX4_goesOn_48 : decode cX4_goesOn 48 = .ok (.iload_n 2, 1) := dk_28 (dk_at dksX4_goesOn_2 1 rfl rfl)
theorem dX4_goesOn_49 : decode cX4_goesOn 49 = .ok (.aload_n 0, 1) := dk_42 (dk_at dksX4_goesOn_2 2 rfl rfl)
theorem dX4_goesOn_50 : decode cX4_goesOn 50 = .ok (.getfield 31, 3) := dk_180 0 31 (dk_at dksX4_goesOn_2 3 rfl rfl)
theorem dX4_goesOn_53 : decode cX4_goesOn 53 = .ok (.bipush 25, 2) := dk_16 25 (dk_at dksX4_goesOn_2 6 rfl rfl)
theorem dX4_goesOn_55 : decode cX4_goesOn 55 = .ok (.iaload, 1) := dk_46 (dk_at dksX4_goesOn_2 8 rfl rfl)
theorem dX4_goesOn_56 : decode cX4_goesOn 56 = .ok (.if_icmp .ge 36, 3) := dk_162 0 36 (dk_at dksX4_goesOn_2 9 rfl rfl)
theorem dX4_goesOn_59 : decode cX4_goesOn 59 = .ok (.aload_n 0, 1) := dk_42 (dk_at dksX4_goesOn_2 12 rfl rfl)
theorem dX4_goesOn_60 : decode cX4_goesOn 60 = .ok (.getfield 31, 3) := dk_180 0 31 (dk_at dksX4_goesOn_2 13 rfl rfl)
theorem dX4_goesOn_63 : decode cX4_goesOn 63 = .ok (.iload_n 2, 1) := dk_28 (dk_at dksX4_goesOn_2 16 rfl rfl)
theorem dX4_goesOn_64 : decode cX4_goesOn 64 = .ok (.aload_n 0, 1) := dk_42 (dk_at dksX4_goesOn_2 17 rfl rfl)
theorem dX4_goesOn_65 : decode cX4_goesOn 65 = .ok (.getfield 50, 3) := dk_180 0 50 (dk_at dksX4_goesOn_2 18 rfl rfl)
theorem dX4_goesOn_68 : decode cX4_goesOn 68 = .ok (.aload_n 0, 1) := dk_42 (dk_at dksX4_goesOn_2 21 rfl rfl)
theorem dX4_goesOn_69 : decode cX4_goesOn 69 = .ok (.getfield 197, 3) := dk_180 0 197 (dk_at dksX4_goesOn_3 0 rfl rfl)
theorem dX4_goesOn_72 : decode cX4_goesOn 72 = .ok (.iaload, 1) := dk_46 (dk_at dksX4_goesOn_3 3 rfl rfl)
theorem dX4_goesOn_73 : decode cX4_goesOn 73 = .ok (.invokestatic 176, 3) := dk_184 0 176 (dk_at dksX4_goesOn_3 4 rfl rfl)
theorem dX4_goesOn_76 : decode cX4_goesOn 76 = .ok (.ifCond .eq 10, 3) := dk_153 0 10 (dk_at dksX4_goesOn_3 7 rfl rfl)
theorem dX4_goesOn_79 : decode cX4_goesOn 79 = .ok (.aload_n 0, 1) := dk_42 (dk_at dksX4_goesOn_3 10 rfl rfl)
theorem dX4_goesOn_80 : decode cX4_goesOn 80 = .ok (.iload_n 2, 1) := dk_28 (dk_at dksX4_goesOn_3 11 rfl rfl)
theorem dX4_goesOn_81 : decode cX4_goesOn 81 = .ok (.invokevirtual 200, 3) := dk_182 0 200 (dk_at dksX4_goesOn_3 12 rfl rfl)
theorem dX4_goesOn_84 : decode cX4_goesOn 84 = .ok (.iconst 1, 1) := dk_4 (dk_at dksX4_goesOn_3 15 rfl rfl)
theorem dX4_goesOn_85 : decode cX4_goesOn 85 = .ok (.ireturn, 1) := dk_172 (dk_at dksX4_goesOn_3 16 rfl rfl)
theorem dX4_goesOn_86 : decode cX4_goesOn 86 = .ok (.iinc 2 1, 3) := dk_132 2 1 (dk_at dksX4_goesOn_3 17 rfl rfl)
theorem dX4_goesOn_89 : decode cX4_goesOn 89 = .ok (.goto (-41), 3) := dk_167 255 215 (dk_at dksX4_goesOn_3 20 rfl rfl)
theorem dX4_goesOn_92 : decode cX4_goesOn 92 = .ok (.aload_n 0, 1) := dk_42 (dk_at dksX4_goesOn_3 23 rfl rfl)
theorem dX4_goesOn_93 : decode cX4_goesOn 93 = .ok (.dup, 1) := dk_89 (dk_at dksX4_goesOn_4 0 rfl rfl)
theorem dX4_goesOn_94 : decode cX4_goesOn 94 = .ok (.getfield 197, 3) := dk_180 0 197 (dk_at dksX4_goesOn_4 1 rfl rfl)
theorem dX4_goesOn_97 : decode cX4_goesOn 97 = .ok (.iconst 1, 1) := dk_4 (dk_at dksX4_goesOn_4 4 rfl rfl)
theorem dX4_goesOn_98 : decode cX4_goesOn 98 = .ok (.isub, 1) := dk_100 (dk_at dksX4_goesOn_4 5 rfl rfl)
theorem dX4_goesOn_99 : decode cX4_goesOn 99 = .ok (.putfield 197, 3) := dk_181 0 197 (dk_at dksX4_goesOn_4 6 rfl rfl)
theorem dX4_goesOn_102 : decode cX4_goesOn 102 = .ok (.goto (-71), 3) := dk_167 255 185 (dk_at dksX4_goesOn_4 9 rfl rfl)
theorem dX4_goesOn_105 : decode cX4_goesOn 105 = .ok (.iconst 0, 1) := dk_3 (dk_at dksX4_goesOn_4 12 rfl rfl)
theorem dX4_goesOn_106 : decode cX4_goesOn 106 = .ok (.ireturn, 1) := dk_172 (dk_at dksX4_goesOn_4 13 rfl rfl)
abbrev cX4_adds : ByteArray := prog_26_method_49_code
def yX4_adds : MethodName := ⟨RX4, "adds", "(I)V"⟩
def dkwX4_adds_5 : List UInt8 := [180, 0, 197, 46, 29, 184, 0, 170, 96, 79, 42, 89, 180, 0, 197, 4, 96, 181, 0, 197, 177]
abbrev dktX4_adds_5 : List UInt8 := dkwX4_adds_5 ++ []
def dkwX4_adds_4 : List UInt8 := [180, 0, 197, 4, 96, 42, 180, 0, 56, 42, 180, 0, 197, 46, 42, 180, 0, 31, 28, 42, 180, 0, 53, 42]
abbrev dktX4_adds_4 : List UInt8 := dkwX4_adds_4 ++ dktX4_adds_5
def dkwX4_adds_3 : List UInt8 := [180, 0, 31, 28, 42, 180, 0, 53, 42, 180, 0, 197, 46, 29, 184, 0, 163, 79, 42, 180, 0, 56, 42]
abbrev dktX4_adds_3 : List UInt8 := dkwX4_adds_3 ++ dktX4_adds_4
def dkwX4_adds_2 : List UInt8 := [42, 180, 0, 50, 42, 180, 0, 197, 4, 96, 28, 79, 42, 180, 0, 53, 42, 180, 0, 197, 4, 96, 42]
abbrev dktX4_adds_2 : List UInt8 := dkwX4_adds_2 ++ dktX4_adds_3
def dkwX4_adds_1 : List UInt8 := [96, 62, 42, 180, 0, 44, 42, 180, 0, 197, 27, 79, 42, 180, 0, 47, 42, 180, 0, 197, 27, 4, 96, 79]
abbrev dktX4_adds_1 : List UInt8 := dkwX4_adds_1 ++ dktX4_adds_2
def dkwX4_adds_0 : List UInt8 := [42, 180, 0, 31, 16, 26, 5, 27, 104, 96, 4, 96, 46, 61, 42, 180, 0, 31, 6, 46, 42, 180, 0, 197]
abbrev dktX4_adds_0 : List UInt8 := dkwX4_adds_0 ++ dktX4_adds_1
theorem dksX4_adds_0 : cX4_adds.data.toList.drop 0 = dktX4_adds_0 := by decide +kernel
theorem dksX4_adds_1 : cX4_adds.data.toList.drop 24 = dktX4_adds_1 := dk_seg dksX4_adds_0 24 rfl rfl
theorem dksX4_adds_2 : cX4_adds.data.toList.drop 48 = dktX4_adds_2 := dk_seg dksX4_adds_1 24 rfl rfl
theorem dksX4_adds_3 : cX4_adds.data.toList.drop 71 = dktX4_adds_3 := dk_seg dksX4_adds_2 23 rfl rfl
theorem dksX4_adds_4 : cX4_adds.data.toList.drop 94 = dktX4_adds_4 := dk_seg dksX4_adds_3 23 rfl rfl
theorem dksX4_adds_5 : cX4_adds.data.toList.drop 118 = dktX4_adds_5 := dk_seg dksX4_adds_4 24 rfl rfl
theorem dX4_adds_0 : decode cX4_adds 0 = .ok (.aload_n 0, 1) := dk_42 (dk_at dksX4_adds_0 0 rfl rfl)
theorem dX4_adds_1 : decode cX4_adds 1 = .ok (.getfield 31, 3) := dk_180 0 31 (dk_at dksX4_adds_0 1 rfl rfl)
theorem dX4_adds_4 : decode cX4_adds 4 = .ok (.bipush 26, 2) := dk_16 26 (dk_at dksX4_adds_0 4 rfl rfl)
theorem dX4_adds_6 : decode cX4_adds 6 = .ok (.iconst 2, 1) := dk_5 (dk_at dksX4_adds_0 6 rfl rfl)
theorem dX4_adds_7 : decode cX4_adds 7 = .ok (.iload_n 1, 1) := dk_27 (dk_at dksX4_adds_0 7 rfl rfl)
theorem dX4_adds_8 : decode cX4_adds 8 = .ok (.imul, 1) := dk_104 (dk_at dksX4_adds_0 8 rfl rfl)
theorem dX4_adds_9 : decode cX4_adds 9 = .ok (.iadd, 1) := dk_96 (dk_at dksX4_adds_0 9 rfl rfl)
theorem dX4_adds_10 : decode cX4_adds 10 = .ok (.iconst 1, 1) := dk_4 (dk_at dksX4_adds_0 10 rfl rfl)
theorem dX4_adds_11 : decode cX4_adds 11 = .ok (.iadd, 1) := dk_96 (dk_at dksX4_adds_0 11 rfl rfl)
theorem dX4_adds_12 : decode cX4_adds 12 = .ok (.iaload, 1) := dk_46 (dk_at dksX4_adds_0 12 rfl rfl)
theorem dX4_adds_13 : decode cX4_adds 13 = .ok (.istore_n 2, 1) := dk_61 (dk_at dksX4_adds_0 13 rfl rfl)
theorem dX4_adds_14 : decode cX4_adds 14 = .ok (.aload_n 0, 1) := dk_42 (dk_at dksX4_adds_0 14 rfl rfl)
theorem dX4_adds_15 : decode cX4_adds 15 = .ok (.getfield 31, 3) := dk_180 0 31 (dk_at dksX4_adds_0 15 rfl rfl)
theorem dX4_adds_18 : decode cX4_adds 18 = .ok (.iconst 3, 1) := dk_6 (dk_at dksX4_adds_0 18 rfl rfl)
theorem dX4_adds_19 : decode cX4_adds 19 = .ok (.iaload, 1) := dk_46 (dk_at dksX4_adds_0 19 rfl rfl)
theorem dX4_adds_20 : decode cX4_adds 20 = .ok (.aload_n 0, 1) := dk_42 (dk_at dksX4_adds_0 20 rfl rfl)
theorem dX4_adds_21 : decode cX4_adds 21 = .ok (.getfield 197, 3) := dk_180 0 197 (dk_at dksX4_adds_0 21 rfl rfl)
theorem dX4_adds_24 : decode cX4_adds 24 = .ok (.iadd, 1) := dk_96 (dk_at dksX4_adds_1 0 rfl rfl)
theorem dX4_adds_25 : decode cX4_adds 25 = .ok (.istore_n 3, 1) := dk_62 (dk_at dksX4_adds_1 1 rfl rfl)
theorem dX4_adds_26 : decode cX4_adds 26 = .ok (.aload_n 0, 1) := dk_42 (dk_at dksX4_adds_1 2 rfl rfl)
theorem dX4_adds_27 : decode cX4_adds 27 = .ok (.getfield 44, 3) := dk_180 0 44 (dk_at dksX4_adds_1 3 rfl rfl)
theorem dX4_adds_30 : decode cX4_adds 30 = .ok (.aload_n 0, 1) := dk_42 (dk_at dksX4_adds_1 6 rfl rfl)
theorem dX4_adds_31 : decode cX4_adds 31 = .ok (.getfield 197, 3) := dk_180 0 197 (dk_at dksX4_adds_1 7 rfl rfl)
theorem dX4_adds_34 : decode cX4_adds 34 = .ok (.iload_n 1, 1) := dk_27 (dk_at dksX4_adds_1 10 rfl rfl)
theorem dX4_adds_35 : decode cX4_adds 35 = .ok (.iastore, 1) := dk_79 (dk_at dksX4_adds_1 11 rfl rfl)
theorem dX4_adds_36 : decode cX4_adds 36 = .ok (.aload_n 0, 1) := dk_42 (dk_at dksX4_adds_1 12 rfl rfl)
theorem dX4_adds_37 : decode cX4_adds 37 = .ok (.getfield 47, 3) := dk_180 0 47 (dk_at dksX4_adds_1 13 rfl rfl)
theorem dX4_adds_40 : decode cX4_adds 40 = .ok (.aload_n 0, 1) := dk_42 (dk_at dksX4_adds_1 16 rfl rfl)
theorem dX4_adds_41 : decode cX4_adds 41 = .ok (.getfield 197, 3) := dk_180 0 197 (dk_at dksX4_adds_1 17 rfl rfl)
theorem dX4_adds_44 : decode cX4_adds 44 = .ok (.iload_n 1, 1) := dk_27 (dk_at dksX4_adds_1 20 rfl rfl)
theorem dX4_adds_45 : decode cX4_adds 45 = .ok (.iconst 1, 1) := dk_4 (dk_at dksX4_adds_1 21 rfl rfl)
theorem dX4_adds_46 : decode cX4_adds 46 = .ok (.iadd, 1) := dk_96 (dk_at dksX4_adds_1 22 rfl rfl)
theorem dX4_adds_47 : decode cX4_adds 47 = .ok (.iastore, 1) := dk_79 (dk_at dksX4_adds_1 23 rfl rfl)
theorem dX4_adds_48 : decode cX4_adds 48 = .ok (.aload_n 0, 1) := dk_42 (dk_at dksX4_adds_2 0 rfl rfl)
theorem dX4_adds_49 : decode cX4_adds 49 = .ok (.getfield 50, 3) := dk_180 0 50 (dk_at dksX4_adds_2 1 rfl rfl)
theorem dX4_adds_52 : decode cX4_adds 52 = .ok (.aload_n 0, 1) := dk_42 (dk_at dksX4_adds_2 4 rfl rfl)
theorem dX4_adds_53 : decode cX4_adds 53 = .ok (.getfield 197, 3) := dk_180 0 197 (dk_at dksX4_adds_2 5 rfl rfl)
theorem dX4_adds_56 : decode cX4_adds 56 = .ok (.iconst 1, 1) := dk_4 (dk_at dksX4_adds_2 8 rfl rfl)
theorem dX4_adds_57 : decode cX4_adds 57 = .ok (.iadd, 1) := dk_96 (dk_at dksX4_adds_2 9 rfl rfl)
theorem dX4_adds_58 : decode cX4_adds 58 = .ok (.iload_n 2, 1) := dk_28 (dk_at dksX4_adds_2 10 rfl rfl)
theorem dX4_adds_59 : decode cX4_adds 59 = .ok (.iastore, 1) := dk_79 (dk_at dksX4_adds_2 11 rfl rfl)
theorem dX4_adds_60 : decode cX4_adds 60 = .ok (.aload_n 0, 1) := dk_42 (dk_at dksX4_adds_2 12 rfl rfl)
theorem dX4_adds_61 : decode cX4_adds 61 = .ok (.getfield 53, 3) := dk_180 0 53 (dk_at dksX4_adds_2 13 rfl rfl)
theorem dX4_adds_64 : decode cX4_adds 64 = .ok (.aload_n 0, 1) := dk_42 (dk_at dksX4_adds_2 16 rfl rfl)
theorem dX4_adds_65 : decode cX4_adds 65 = .ok (.getfield 197, 3) := dk_180 0 197 (dk_at dksX4_adds_2 17 rfl rfl)
theorem dX4_adds_68 : decode cX4_adds 68 = .ok (.iconst 1, 1) := dk_4 (dk_at dksX4_adds_2 20 rfl rfl)
theorem dX4_adds_69 : decode cX4_adds 69 = .ok (.iadd, 1) := dk_96 (dk_at dksX4_adds_2 21 rfl rfl)
theorem dX4_adds_70 : decode cX4_adds 70 = .ok (.aload_n 0, 1) := dk_42 (dk_at dksX4_adds_2 22 rfl rfl)
theorem dX4_adds_71 : decode cX4_adds 71 = .ok (.getfield 31, 3) := dk_180 0 31 (dk_at dksX4_adds_3 0 rfl rfl)
theorem dX4_adds_74 : decode cX4_adds 74 = .ok (.iload_n 2, 1) := dk_28 (dk_at dksX4_adds_3 3 rfl rfl)
theorem dX4_adds_75 : decode cX4_adds 75 = .ok (.aload_n 0, 1) := dk_42 (dk_at dksX4_adds_3 4 rfl rfl)
theorem dX4_adds_76 : decode cX4_adds 76 = .ok (.getfield 53, 3) := dk_180 0 53 (dk_at dksX4_adds_3 5 rfl rfl)
theorem dX4_adds_79 : decode cX4_adds 79 = .ok (.aload_n 0, 1) := dk_42 (dk_at dksX4_adds_3 8 rfl rfl)
theorem dX4_adds_80 : decode cX4_adds 80 = .ok (.getfield 197, 3) := dk_180 0 197 (dk_at dksX4_adds_3 9 rfl rfl)
theorem dX4_adds_83 : decode cX4_adds 83 = .ok (.iaload, 1) := dk_46 (dk_at dksX4_adds_3 12 rfl rfl)
theorem dX4_adds_84 : decode cX4_adds 84 = .ok (.iload_n 3, 1) := dk_29 (dk_at dksX4_adds_3 13 rfl rfl)
theorem dX4_adds_85 : decode cX4_adds 85 = .ok (.invokestatic 163, 3) := dk_184 0 163 (dk_at dksX4_adds_3 14 rfl rfl)
theorem dX4_adds_88 : decode cX4_adds 88 = .ok (.iastore, 1) := dk_79 (dk_at dksX4_adds_3 17 rfl rfl)
theorem dX4_adds_89 : decode cX4_adds 89 = .ok (.aload_n 0, 1) := dk_42 (dk_at dksX4_adds_3 18 rfl rfl)
theorem dX4_adds_90 : decode cX4_adds 90 = .ok (.getfield 56, 3) := dk_180 0 56 (dk_at dksX4_adds_3 19 rfl rfl)
theorem dX4_adds_93 : decode cX4_adds 93 = .ok (.aload_n 0, 1) := dk_42 (dk_at dksX4_adds_3 22 rfl rfl)
theorem dX4_adds_94 : decode cX4_adds 94 = .ok (.getfield 197, 3) := dk_180 0 197 (dk_at dksX4_adds_4 0 rfl rfl)
theorem dX4_adds_97 : decode cX4_adds 97 = .ok (.iconst 1, 1) := dk_4 (dk_at dksX4_adds_4 3 rfl rfl)
theorem dX4_adds_98 : decode cX4_adds 98 = .ok (.iadd, 1) := dk_96 (dk_at dksX4_adds_4 4 rfl rfl)
theorem dX4_adds_99 : decode cX4_adds 99 = .ok (.aload_n 0, 1) := dk_42 (dk_at dksX4_adds_4 5 rfl rfl)
theorem dX4_adds_100 : decode cX4_adds 100 = .ok (.getfield 56, 3) := dk_180 0 56 (dk_at dksX4_adds_4 6 rfl rfl)
theorem dX4_adds_103 : decode cX4_adds 103 = .ok (.aload_n 0, 1) := dk_42 (dk_at dksX4_adds_4 9 rfl rfl)
theorem dX4_adds_104 : decode cX4_adds 104 = .ok (.getfield 197, 3) := dk_180 0 197 (dk_at dksX4_adds_4 10 rfl rfl)
theorem dX4_adds_107 : decode cX4_adds 107 = .ok (.iaload, 1) := dk_46 (dk_at dksX4_adds_4 13 rfl rfl)
theorem dX4_adds_108 : decode cX4_adds 108 = .ok (.aload_n 0, 1) := dk_42 (dk_at dksX4_adds_4 14 rfl rfl)
theorem dX4_adds_109 : decode cX4_adds 109 = .ok (.getfield 31, 3) := dk_180 0 31 (dk_at dksX4_adds_4 15 rfl rfl)
theorem dX4_adds_112 : decode cX4_adds 112 = .ok (.iload_n 2, 1) := dk_28 (dk_at dksX4_adds_4 18 rfl rfl)
theorem dX4_adds_113 : decode cX4_adds 113 = .ok (.aload_n 0, 1) := dk_42 (dk_at dksX4_adds_4 19 rfl rfl)
theorem dX4_adds_114 : decode cX4_adds 114 = .ok (.getfield 53, 3) := dk_180 0 53 (dk_at dksX4_adds_4 20 rfl rfl)
theorem dX4_adds_117 : decode cX4_adds 117 = .ok (.aload_n 0, 1) := dk_42 (dk_at dksX4_adds_4 23 rfl rfl)
theorem dX4_adds_118 : decode cX4_adds 118 = .ok (.getfield 197, 3) := dk_180 0 197 (dk_at dksX4_adds_5 0 rfl rfl)
theorem dX4_adds_121 : decode cX4_adds 121 = .ok (.iaload, 1) := dk_46 (dk_at dksX4_adds_5 3 rfl rfl)
theorem dX4_adds_122 : decode cX4_adds 122 = .ok (.iload_n 3, 1) := dk_29 (dk_at dksX4_adds_5 4 rfl rfl)
theorem dX4_adds_123 : decode cX4_adds 123 = .ok (.invokestatic 170, 3) := dk_184 0 170 (dk_at dksX4_adds_5 5 rfl rfl)
theorem dX4_adds_126 : decode cX4_adds 126 = .ok (.iadd, 1) := dk_96 (dk_at dksX4_adds_5 8 rfl rfl)
theorem dX4_adds_127 : decode cX4_adds 127 = .ok (.iastore, 1) := dk_79 (dk_at dksX4_adds_5 9 rfl rfl)
theorem dX4_adds_128 : decode cX4_adds 128 = .ok (.aload_n 0, 1) := dk_42 (dk_at dksX4_adds_5 10 rfl rfl)
theorem dX4_adds_129 : decode cX4_adds 129 = .ok (.dup, 1) := dk_89 (dk_at dksX4_adds_5 11 rfl rfl)
theorem dX4_adds_130 : decode cX4_adds 130 = .ok (.getfield 197, 3) := dk_180 0 197 (dk_at dksX4_adds_5 12 rfl rfl)
theorem dX4_adds_133 : decode cX4_adds 133 = .ok (.iconst 1, 1) := dk_4 (dk_at dksX4_adds_5 15 rfl rfl)
theorem dX4_adds_134 : decode cX4_adds 134 = .ok (.iadd, 1) := dk_96 (dk_at dksX4_adds_5 16 rfl rfl)
theorem dX4_adds_135 : decode cX4_adds 135 = .ok (.putfield 197, 3) := dk_181 0 197 (dk_at dksX4_adds_5 17 rfl rfl)
theorem dX4_adds_138 : decode cX4_adds 138 = .ok (.return_, 1) := dk_177 (dk_at dksX4_adds_5 20 rfl rfl)
abbrev cX4_told : ByteArray := prog_26_method_53_code
def yX4_told : MethodName := ⟨RX4, "told", "(II)I"⟩
def dkwX4_told_2 : List UInt8 := [180, 0, 59, 27, 46, 167, 0, 5, 18, 65, 172]
abbrev dktX4_told_2 : List UInt8 := dkwX4_told_2 ++ []
def dkwX4_told_1 : List UInt8 := [167, 0, 32, 27, 16, 254, 160, 0, 7, 28, 167, 0, 22, 27, 42, 180, 0, 207, 162, 0, 12, 42]
abbrev dktX4_told_1 : List UInt8 := dkwX4_told_1 ++ dktX4_told_2
def dkwX4_told_0 : List UInt8 := [42, 180, 0, 204, 18, 65, 160, 0, 8, 18, 65, 167, 0, 44, 27, 2, 160, 0, 10, 42, 180, 0, 204]
abbrev dktX4_told_0 : List UInt8 := dkwX4_told_0 ++ dktX4_told_1
theorem dksX4_told_0 : cX4_told.data.toList.drop 0 = dktX4_told_0 := by decide +kernel
theorem dksX4_told_1 : cX4_told.data.toList.drop 23 = dktX4_told_1 := dk_seg dksX4_told_0 23 rfl rfl
theorem dksX4_told_2 : cX4_told.data.toList.drop 45 = dktX4_told_2 := dk_seg dksX4_told_1 22 rfl rfl
theorem dX4_told_0 : decode cX4_told 0 = .ok (.aload_n 0, 1) := dk_42 (dk_at dksX4_told_0 0 rfl rfl)
theorem dX4_told_1 : decode cX4_told 1 = .ok (.getfield 204, 3) := dk_180 0 204 (dk_at dksX4_told_0 1 rfl rfl)
theorem dX4_told_4 : decode cX4_told 4 = .ok (.ldc 65, 2) := dk_18 65 (dk_at dksX4_told_0 4 rfl rfl)
theorem dX4_told_6 : decode cX4_told 6 = .ok (.if_icmp .ne 8, 3) := dk_160 0 8 (dk_at dksX4_told_0 6 rfl rfl)
theorem dX4_told_9 : decode cX4_told 9 = .ok (.ldc 65, 2) := dk_18 65 (dk_at dksX4_told_0 9 rfl rfl)
theorem dX4_told_11 : decode cX4_told 11 = .ok (.goto 44, 3) := dk_167 0 44 (dk_at dksX4_told_0 11 rfl rfl)
theorem dX4_told_14 : decode cX4_told 14 = .ok (.iload_n 1, 1) := dk_27 (dk_at dksX4_told_0 14 rfl rfl)
theorem dX4_told_15 : decode cX4_told 15 = .ok (.iconst (-1), 1) := dk_2 (dk_at dksX4_told_0 15 rfl rfl)
theorem dX4_told_16 : decode cX4_told 16 = .ok (.if_icmp .ne 10, 3) := dk_160 0 10 (dk_at dksX4_told_0 16 rfl rfl)
theorem dX4_told_19 : decode cX4_told 19 = .ok (.aload_n 0, 1) := dk_42 (dk_at dksX4_told_0 19 rfl rfl)
theorem dX4_told_20 : decode cX4_told 20 = .ok (.getfield 204, 3) := dk_180 0 204 (dk_at dksX4_told_0 20 rfl rfl)
theorem dX4_told_23 : decode cX4_told 23 = .ok (.goto 32, 3) := dk_167 0 32 (dk_at dksX4_told_1 0 rfl rfl)
theorem dX4_told_26 : decode cX4_told 26 = .ok (.iload_n 1, 1) := dk_27 (dk_at dksX4_told_1 3 rfl rfl)
theorem dX4_told_27 : decode cX4_told 27 = .ok (.bipush (-2), 2) := dk_16 254 (dk_at dksX4_told_1 4 rfl rfl)
theorem dX4_told_29 : decode cX4_told 29 = .ok (.if_icmp .ne 7, 3) := dk_160 0 7 (dk_at dksX4_told_1 6 rfl rfl)
theorem dX4_told_32 : decode cX4_told 32 = .ok (.iload_n 2, 1) := dk_28 (dk_at dksX4_told_1 9 rfl rfl)
theorem dX4_told_33 : decode cX4_told 33 = .ok (.goto 22, 3) := dk_167 0 22 (dk_at dksX4_told_1 10 rfl rfl)
theorem dX4_told_36 : decode cX4_told 36 = .ok (.iload_n 1, 1) := dk_27 (dk_at dksX4_told_1 13 rfl rfl)
theorem dX4_told_37 : decode cX4_told 37 = .ok (.aload_n 0, 1) := dk_42 (dk_at dksX4_told_1 14 rfl rfl)
theorem dX4_told_38 : decode cX4_told 38 = .ok (.getfield 207, 3) := dk_180 0 207 (dk_at dksX4_told_1 15 rfl rfl)
theorem dX4_told_41 : decode cX4_told 41 = .ok (.if_icmp .ge 12, 3) := dk_162 0 12 (dk_at dksX4_told_1 18 rfl rfl)
theorem dX4_told_44 : decode cX4_told 44 = .ok (.aload_n 0, 1) := dk_42 (dk_at dksX4_told_1 21 rfl rfl)
theorem dX4_told_45 : decode cX4_told 45 = .ok (.getfield 59, 3) := dk_180 0 59 (dk_at dksX4_told_2 0 rfl rfl)
theorem dX4_told_48 : decode cX4_told 48 = .ok (.iload_n 1, 1) := dk_27 (dk_at dksX4_told_2 3 rfl rfl)
theorem dX4_told_49 : decode cX4_told 49 = .ok (.iaload, 1) := dk_46 (dk_at dksX4_told_2 4 rfl rfl)
theorem dX4_told_50 : decode cX4_told 50 = .ok (.goto 5, 3) := dk_167 0 5 (dk_at dksX4_told_2 5 rfl rfl)
theorem dX4_told_53 : decode cX4_told 53 = .ok (.ldc 65, 2) := dk_18 65 (dk_at dksX4_told_2 8 rfl rfl)
theorem dX4_told_55 : decode cX4_told 55 = .ok (.ireturn, 1) := dk_172 (dk_at dksX4_told_2 10 rfl rfl)
abbrev cX4_dearest : ByteArray := prog_26_method_55_code
def yX4_dearest : MethodName := ⟨RX4, "dearest", "(II)I"⟩
def dkwX4_dearest_4 : List UInt8 := [167, 0, 4, 3, 62, 167, 255, 202, 42, 28, 42, 180, 0, 210, 182, 0, 226, 172]
abbrev dktX4_dearest_4 : List UInt8 := dkwX4_dearest_4 ++ []
def dkwX4_dearest_3 : List UInt8 := [164, 0, 11, 42, 42, 180, 0, 197, 182, 0, 216, 27, 158, 0, 15, 42, 27, 182, 0, 219, 153, 0, 7, 4]
abbrev dktX4_dearest_3 : List UInt8 := dkwX4_dearest_3 ++ dktX4_dearest_4
def dkwX4_dearest_2 : List UInt8 := [153, 0, 56, 42, 180, 0, 197, 27, 160, 0, 27, 42, 180, 0, 56, 42, 180, 0, 197, 46, 42, 180, 0, 204]
abbrev dktX4_dearest_2 : List UInt8 := dkwX4_dearest_2 ++ dktX4_dearest_3
def dkwX4_dearest_1 : List UInt8 := [16, 7, 184, 0, 71, 154, 0, 6, 18, 79, 172, 42, 182, 0, 213, 42, 18, 65, 181, 0, 204, 4, 62, 29]
abbrev dktX4_dearest_1 : List UInt8 := dkwX4_dearest_1 ++ dktX4_dearest_2
def dkwX4_dearest_0 : List UInt8 := [42, 182, 0, 191, 154, 0, 6, 18, 180, 172, 27, 3, 16, 8, 184, 0, 71, 153, 0, 14, 28, 16, 254]
abbrev dktX4_dearest_0 : List UInt8 := dkwX4_dearest_0 ++ dktX4_dearest_1
theorem dksX4_dearest_0 : cX4_dearest.data.toList.drop 0 = dktX4_dearest_0 := by decide +kernel
theorem dksX4_dearest_1 : cX4_dearest.data.toList.drop 23 = dktX4_dearest_1 := dk_seg dksX4_dearest_0 23 rfl rfl
theorem dksX4_dearest_2 : cX4_dearest.data.toList.drop 47 = dktX4_dearest_2 := dk_seg dksX4_dearest_1 24 rfl rfl
theorem dksX4_dearest_3 : cX4_dearest.data.toList.drop 71 = dktX4_dearest_3 := dk_seg dksX4_dearest_2 24 rfl rfl
theorem dksX4_dearest_4 : cX4_dearest.data.toList.drop 95 = dktX4_dearest_4 := dk_seg dksX4_dearest_3 24 rfl rfl
theorem dX4_dearest_0 : decode cX4_dearest 0 = .ok (.aload_n 0, 1) := dk_42 (dk_at dksX4_dearest_0 0 rfl rfl)
theorem dX4_dearest_1 : decode cX4_dearest 1 = .ok (.invokevirtual 191, 3) := dk_182 0 191 (dk_at dksX4_dearest_0 1 rfl rfl)
theorem dX4_dearest_4 : decode cX4_dearest 4 = .ok (.ifCond .ne 6, 3) := dk_154 0 6 (dk_at dksX4_dearest_0 4 rfl rfl)
theorem dX4_dearest_7 : decode cX4_dearest 7 = .ok (.ldc 180, 2) := dk_18 180 (dk_at dksX4_dearest_0 7 rfl rfl)
theorem dX4_dearest_9 : decode cX4_dearest 9 = .ok (.ireturn, 1) := dk_172 (dk_at dksX4_dearest_0 9 rfl rfl)
theorem dX4_dearest_10 : decode cX4_dearest 10 = .ok (.iload_n 1, 1) := dk_27 (dk_at dksX4_dearest_0 10 rfl rfl)
theorem dX4_dearest_11 : decode cX4_dearest 11 = .ok (.iconst 0, 1) := dk_3 (dk_at dksX4_dearest_0 11 rfl rfl)
theorem dX4_dearest_12 : decode cX4_dearest 12 = .ok (.bipush 8, 2) := dk_16 8 (dk_at dksX4_dearest_0 12 rfl rfl)
theorem dX4_dearest_14 : decode cX4_dearest 14 = .ok (.invokestatic 71, 3) := dk_184 0 71 (dk_at dksX4_dearest_0 14 rfl rfl)
theorem dX4_dearest_17 : decode cX4_dearest 17 = .ok (.ifCond .eq 14, 3) := dk_153 0 14 (dk_at dksX4_dearest_0 17 rfl rfl)
theorem dX4_dearest_20 : decode cX4_dearest 20 = .ok (.iload_n 2, 1) := dk_28 (dk_at dksX4_dearest_0 20 rfl rfl)
theorem dX4_dearest_21 : decode cX4_dearest 21 = .ok (.bipush (-2), 2) := dk_16 254 (dk_at dksX4_dearest_0 21 rfl rfl)
theorem dX4_dearest_23 : decode cX4_dearest 23 = .ok (.bipush 7, 2) := dk_16 7 (dk_at dksX4_dearest_1 0 rfl rfl)
theorem dX4_dearest_25 : decode cX4_dearest 25 = .ok (.invokestatic 71, 3) := dk_184 0 71 (dk_at dksX4_dearest_1 2 rfl rfl)
theorem dX4_dearest_28 : decode cX4_dearest 28 = .ok (.ifCond .ne 6, 3) := dk_154 0 6 (dk_at dksX4_dearest_1 5 rfl rfl)
theorem dX4_dearest_31 : decode cX4_dearest 31 = .ok (.ldc 79, 2) := dk_18 79 (dk_at dksX4_dearest_1 8 rfl rfl)
theorem dX4_dearest_33 : decode cX4_dearest 33 = .ok (.ireturn, 1) := dk_172 (dk_at dksX4_dearest_1 10 rfl rfl)
theorem dX4_dearest_34 : decode cX4_dearest 34 = .ok (.aload_n 0, 1) := dk_42 (dk_at dksX4_dearest_1 11 rfl rfl)
theorem dX4_dearest_35 : decode cX4_dearest 35 = .ok (.invokevirtual 213, 3) := dk_182 0 213 (dk_at dksX4_dearest_1 12 rfl rfl)
theorem dX4_dearest_38 : decode cX4_dearest 38 = .ok (.aload_n 0, 1) := dk_42 (dk_at dksX4_dearest_1 15 rfl rfl)
theorem dX4_dearest_39 : decode cX4_dearest 39 = .ok (.ldc 65, 2) := dk_18 65 (dk_at dksX4_dearest_1 16 rfl rfl)
theorem dX4_dearest_41 : decode cX4_dearest 41 = .ok (.putfield 204, 3) := dk_181 0 204 (dk_at dksX4_dearest_1 18 rfl rfl)
theorem dX4_dearest_44 : decode cX4_dearest 44 = .ok (.iconst 1, 1) := dk_4 (dk_at dksX4_dearest_1 21 rfl rfl)
theorem dX4_dearest_45 : decode cX4_dearest 45 = .ok (.istore_n 3, 1) := dk_62 (dk_at dksX4_dearest_1 22 rfl rfl)
theorem dX4_dearest_46 : decode cX4_dearest 46 = .ok (.iload_n 3, 1) := dk_29 (dk_at dksX4_dearest_1 23 rfl rfl)
theorem dX4_dearest_47 : decode cX4_dearest 47 = .ok (.ifCond .eq 56, 3) := dk_153 0 56 (dk_at dksX4_dearest_2 0 rfl rfl)
theorem dX4_dearest_50 : decode cX4_dearest 50 = .ok (.aload_n 0, 1) := dk_42 (dk_at dksX4_dearest_2 3 rfl rfl)
theorem dX4_dearest_51 : decode cX4_dearest 51 = .ok (.getfield 197, 3) := dk_180 0 197 (dk_at dksX4_dearest_2 4 rfl rfl)
theorem dX4_dearest_54 : decode cX4_dearest 54 = .ok (.iload_n 1, 1) := dk_27 (dk_at dksX4_dearest_2 7 rfl rfl)
theorem dX4_dearest_55 : decode cX4_dearest 55 = .ok (.if_icmp .ne 27, 3) := dk_160 0 27 (dk_at dksX4_dearest_2 8 rfl rfl)
theorem dX4_dearest_58 : decode cX4_dearest 58 = .ok (.aload_n 0, 1) := dk_42 (dk_at dksX4_dearest_2 11 rfl rfl)
theorem dX4_dearest_59 : decode cX4_dearest 59 = .ok (.getfield 56, 3) := dk_180 0 56 (dk_at dksX4_dearest_2 12 rfl rfl)
theorem dX4_dearest_62 : decode cX4_dearest 62 = .ok (.aload_n 0, 1) := dk_42 (dk_at dksX4_dearest_2 15 rfl rfl)
theorem dX4_dearest_63 : decode cX4_dearest 63 = .ok (.getfield 197, 3) := dk_180 0 197 (dk_at dksX4_dearest_2 16 rfl rfl)
theorem dX4_dearest_66 : decode cX4_dearest 66 = .ok (.iaload, 1) := dk_46 (dk_at dksX4_dearest_2 19 rfl rfl)
theorem dX4_dearest_67 : decode cX4_dearest 67 = .ok (.aload_n 0, 1) := dk_42 (dk_at dksX4_dearest_2 20 rfl rfl)
theorem dX4_dearest_68 : decode cX4_dearest 68 = .ok (.getfield 204, 3) := dk_180 0 204 (dk_at dksX4_dearest_2 21 rfl rfl)
theorem dX4_dearest_71 : decode cX4_dearest 71 = .ok (.if_icmp .le 11, 3) := dk_164 0 11 (dk_at dksX4_dearest_3 0 rfl rfl)
theorem dX4_dearest_74 : decode cX4_dearest 74 = .ok (.aload_n 0, 1) := dk_42 (dk_at dksX4_dearest_3 3 rfl rfl)
theorem dX4_dearest_75 : decode cX4_dearest 75 = .ok (.aload_n 0, 1) := dk_42 (dk_at dksX4_dearest_3 4 rfl rfl)
theorem dX4_dearest_76 : decode cX4_dearest 76 = .ok (.getfield 197, 3) := dk_180 0 197 (dk_at dksX4_dearest_3 5 rfl rfl)
theorem dX4_dearest_79 : decode cX4_dearest 79 = .ok (.invokevirtual 216, 3) := dk_182 0 216 (dk_at dksX4_dearest_3 8 rfl rfl)
theorem dX4_dearest_82 : decode cX4_dearest 82 = .ok (.iload_n 1, 1) := dk_27 (dk_at dksX4_dearest_3 11 rfl rfl)
theorem dX4_dearest_83 : decode cX4_dearest 83 = .ok (.ifCond .le 15, 3) := dk_158 0 15 (dk_at dksX4_dearest_3 12 rfl rfl)
theorem dX4_dearest_86 : decode cX4_dearest 86 = .ok (.aload_n 0, 1) := dk_42 (dk_at dksX4_dearest_3 15 rfl rfl)
theorem dX4_dearest_87 : decode cX4_dearest 87 = .ok (.iload_n 1, 1) := dk_27 (dk_at dksX4_dearest_3 16 rfl rfl)
theorem dX4_dearest_88 : decode cX4_dearest 88 = .ok (.invokevirtual 219, 3) := dk_182 0 219 (dk_at dksX4_dearest_3 17 rfl rfl)
theorem dX4_dearest_91 : decode cX4_dearest 91 = .ok (.ifCond .eq 7, 3) := dk_153 0 7 (dk_at dksX4_dearest_3 20 rfl rfl)
theorem dX4_dearest_94 : decode cX4_dearest 94 = .ok (.iconst 1, 1) := dk_4 (dk_at dksX4_dearest_3 23 rfl rfl)
theorem dX4_dearest_95 : decode cX4_dearest 95 = .ok (.goto 4, 3) := dk_167 0 4 (dk_at dksX4_dearest_4 0 rfl rfl)
theorem dX4_dearest_98 : decode cX4_dearest 98 = .ok (.iconst 0, 1) := dk_3 (dk_at dksX4_dearest_4 3 rfl rfl)
theorem dX4_dearest_99 : decode cX4_dearest 99 = .ok (.istore_n 3, 1) := dk_62 (dk_at dksX4_dearest_4 4 rfl rfl)
theorem dX4_dearest_100 : decode cX4_dearest 100 = .ok (.goto (-54), 3) := dk_167 255 202 (dk_at dksX4_dearest_4 5 rfl rfl)
theorem dX4_dearest_103 : decode cX4_dearest 103 = .ok (.aload_n 0, 1) := dk_42 (dk_at dksX4_dearest_4 8 rfl rfl)
theorem dX4_dearest_104 : decode cX4_dearest 104 = .ok (.iload_n 2, 1) := dk_28 (dk_at dksX4_dearest_4 9 rfl rfl)
theorem dX4_dearest_105 : decode cX4_dearest 105 = .ok (.aload_n 0, 1) := dk_42 (dk_at dksX4_dearest_4 10 rfl rfl)
theorem dX4_dearest_106 : decode cX4_dearest 106 = .ok (.getfield 210, 3) := dk_180 0 210 (dk_at dksX4_dearest_4 11 rfl rfl)
theorem dX4_dearest_109 : decode cX4_dearest 109 = .ok (.invokevirtual 226, 3) := dk_182 0 226 (dk_at dksX4_dearest_4 14 rfl rfl)
theorem dX4_dearest_112 : decode cX4_dearest 112 = .ok (.ireturn, 1) := dk_172 (dk_at dksX4_dearest_4 17 rfl rfl)
abbrev cX4_moods : ByteArray := prog_26_method_56_code
def yX4_moods : MethodName := ⟨RX4, "moods", "(II)I"⟩
def dkwX4_moods_4 : List UInt8 := [54, 4, 167, 255, 193, 29, 172]
abbrev dktX4_moods_4 : List UInt8 := dkwX4_moods_4 ++ []
def dkwX4_moods_3 : List UInt8 := [167, 0, 4, 3, 128, 62, 28, 158, 0, 15, 42, 28, 182, 0, 219, 153, 0, 7, 4, 167, 0, 4, 3]
abbrev dktX4_moods_3 : List UInt8 := dkwX4_moods_3 ++ dktX4_moods_4
def dkwX4_moods_2 : List UInt8 := [180, 0, 50, 42, 180, 0, 197, 46, 27, 160, 0, 17, 4, 42, 180, 0, 53, 42, 180, 0, 197, 46, 120]
abbrev dktX4_moods_2 : List UInt8 := dkwX4_moods_2 ++ dktX4_moods_3
def dkwX4_moods_1 : List UInt8 := [182, 0, 213, 3, 62, 4, 54, 4, 21, 4, 153, 0, 64, 29, 42, 180, 0, 197, 28, 160, 0, 30, 42]
abbrev dktX4_moods_1 : List UInt8 := dkwX4_moods_1 ++ dktX4_moods_2
def dkwX4_moods_0 : List UInt8 := [42, 27, 182, 0, 188, 153, 0, 13, 28, 3, 16, 8, 184, 0, 71, 154, 0, 6, 18, 79, 172, 42]
abbrev dktX4_moods_0 : List UInt8 := dkwX4_moods_0 ++ dktX4_moods_1
theorem dksX4_moods_0 : cX4_moods.data.toList.drop 0 = dktX4_moods_0 := by decide +kernel
theorem dksX4_moods_1 : cX4_moods.data.toList.drop 22 = dktX4_moods_1 := dk_seg dksX4_moods_0 22 rfl rfl
theorem dksX4_moods_2 : cX4_moods.data.toList.drop 45 = dktX4_moods_2 := dk_seg dksX4_moods_1 23 rfl rfl
theorem dksX4_moods_3 : cX4_moods.data.toList.drop 68 = dktX4_moods_3 := dk_seg dksX4_moods_2 23 rfl rfl
theorem dksX4_moods_4 : cX4_moods.data.toList.drop 91 = dktX4_moods_4 := dk_seg dksX4_moods_3 23 rfl rfl
theorem dX4_moods_0 : decode cX4_moods 0 = .ok (.aload_n 0, 1) := dk_42 (dk_at dksX4_moods_0 0 rfl rfl)
theorem dX4_moods_1 : decode cX4_moods 1 = .ok (.iload_n 1, 1) := dk_27 (dk_at dksX4_moods_0 1 rfl rfl)
theorem dX4_moods_2 : decode cX4_moods 2 = .ok (.invokevirtual 188, 3) := dk_182 0 188 (dk_at dksX4_moods_0 2 rfl rfl)
theorem dX4_moods_5 : decode cX4_moods 5 = .ok (.ifCond .eq 13, 3) := dk_153 0 13 (dk_at dksX4_moods_0 5 rfl rfl)
theorem dX4_moods_8 : decode cX4_moods 8 = .ok (.iload_n 2, 1) := dk_28 (dk_at dksX4_moods_0 8 rfl rfl)
theorem dX4_moods_9 : decode cX4_moods 9 = .ok (.iconst 0, 1) := dk_3 (dk_at dksX4_moods_0 9 rfl rfl)
theorem dX4_moods_10 : decode cX4_moods 10 = .ok (.bipush 8, 2) := dk_16 8 (dk_at dksX4_moods_0 10 rfl rfl)
theorem dX4_moods_12 : decode cX4_moods 12 = .ok (.invokestatic 71, 3) := dk_184 0 71 (dk_at dksX4_moods_0 12 rfl rfl)
theorem dX4_moods_15 : decode cX4_moods 15 = .ok (.ifCond .ne 6, 3) := dk_154 0 6 (dk_at dksX4_moods_0 15 rfl rfl)
theorem dX4_moods_18 : decode cX4_moods 18 = .ok (.ldc 79, 2) := dk_18 79 (dk_at dksX4_moods_0 18 rfl rfl)
theorem dX4_moods_20 : decode cX4_moods 20 = .ok (.ireturn, 1) := dk_172 (dk_at dksX4_moods_0 20 rfl rfl)
theorem dX4_moods_21 : decode cX4_moods 21 = .ok (.aload_n 0, 1) := dk_42 (dk_at dksX4_moods_0 21 rfl rfl)
theorem dX4_moods_22 : decode cX4_moods 22 = .ok (.invokevirtual 213, 3) := dk_182 0 213 (dk_at dksX4_moods_1 0 rfl rfl)
theorem dX4_moods_25 : decode cX4_moods 25 = .ok (.iconst 0, 1) := dk_3 (dk_at dksX4_moods_1 3 rfl rfl)
theorem dX4_moods_26 : decode cX4_moods 26 = .ok (.istore_n 3, 1) := dk_62 (dk_at dksX4_moods_1 4 rfl rfl)
theorem dX4_moods_27 : decode cX4_moods 27 = .ok (.iconst 1, 1) := dk_4 (dk_at dksX4_moods_1 5 rfl rfl)
theorem dX4_moods_28 : decode cX4_moods 28 = .ok (.istore 4, 2) := dk_54 4 (dk_at dksX4_moods_1 6 rfl rfl)
theorem dX4_moods_30 : decode cX4_moods 30 = .ok (.iload 4, 2) := dk_21 4 (dk_at dksX4_moods_1 8 rfl rfl)
theorem dX4_moods_32 : decode cX4_moods 32 = .ok (.ifCond .eq 64, 3) := dk_153 0 64 (dk_at dksX4_moods_1 10 rfl rfl)
theorem dX4_moods_35 : decode cX4_moods 35 = .ok (.iload_n 3, 1) := dk_29 (dk_at dksX4_moods_1 13 rfl rfl)
theorem dX4_moods_36 : decode cX4_moods 36 = .ok (.aload_n 0, 1) := dk_42 (dk_at dksX4_moods_1 14 rfl rfl)
theorem dX4_moods_37 : decode cX4_moods 37 = .ok (.getfield 197, 3) := dk_180 0 197 (dk_at dksX4_moods_1 15 rfl rfl)
theorem dX4_moods_40 : decode cX4_moods 40 = .ok (.iload_n 2, 1) := dk_28 (dk_at dksX4_moods_1 18 rfl rfl)
theorem dX4_moods_41 : decode cX4_moods 41 = .ok (.if_icmp .ne 30, 3) := dk_160 0 30 (dk_at dksX4_moods_1 19 rfl rfl)
theorem dX4_moods_44 : decode cX4_moods 44 = .ok (.aload_n 0, 1) := dk_42 (dk_at dksX4_moods_1 22 rfl rfl)
theorem dX4_moods_45 : decode cX4_moods 45 = .ok (.getfield 50, 3) := dk_180 0 50 (dk_at dksX4_moods_2 0 rfl rfl)
theorem dX4_moods_48 : decode cX4_moods 48 = .ok (.aload_n 0, 1) := dk_42 (dk_at dksX4_moods_2 3 rfl rfl)
theorem dX4_moods_49 : decode cX4_moods 49 = .ok (.getfield 197, 3) := dk_180 0 197 (dk_at dksX4_moods_2 4 rfl rfl)
theorem dX4_moods_52 : decode cX4_moods 52 = .ok (.iaload, 1) := dk_46 (dk_at dksX4_moods_2 7 rfl rfl)
theorem dX4_moods_53 : decode cX4_moods 53 = .ok (.iload_n 1, 1) := dk_27 (dk_at dksX4_moods_2 8 rfl rfl)
theorem dX4_moods_54 : decode cX4_moods 54 = .ok (.if_icmp .ne 17, 3) := dk_160 0 17 (dk_at dksX4_moods_2 9 rfl rfl)
theorem dX4_moods_57 : decode cX4_moods 57 = .ok (.iconst 1, 1) := dk_4 (dk_at dksX4_moods_2 12 rfl rfl)
theorem dX4_moods_58 : decode cX4_moods 58 = .ok (.aload_n 0, 1) := dk_42 (dk_at dksX4_moods_2 13 rfl rfl)
theorem dX4_moods_59 : decode cX4_moods 59 = .ok (.getfield 53, 3) := dk_180 0 53 (dk_at dksX4_moods_2 14 rfl rfl)
theorem dX4_moods_62 : decode cX4_moods 62 = .ok (.aload_n 0, 1) := dk_42 (dk_at dksX4_moods_2 17 rfl rfl)
theorem dX4_moods_63 : decode cX4_moods 63 = .ok (.getfield 197, 3) := dk_180 0 197 (dk_at dksX4_moods_2 18 rfl rfl)
theorem dX4_moods_66 : decode cX4_moods 66 = .ok (.iaload, 1) := dk_46 (dk_at dksX4_moods_2 21 rfl rfl)
theorem dX4_moods_67 : decode cX4_moods 67 = .ok (.ishl, 1) := dk_120 (dk_at dksX4_moods_2 22 rfl rfl)
theorem dX4_moods_68 : decode cX4_moods 68 = .ok (.goto 4, 3) := dk_167 0 4 (dk_at dksX4_moods_3 0 rfl rfl)
theorem dX4_moods_71 : decode cX4_moods 71 = .ok (.iconst 0, 1) := dk_3 (dk_at dksX4_moods_3 3 rfl rfl)
theorem dX4_moods_72 : decode cX4_moods 72 = .ok (.ior, 1) := dk_128 (dk_at dksX4_moods_3 4 rfl rfl)
theorem dX4_moods_73 : decode cX4_moods 73 = .ok (.istore_n 3, 1) := dk_62 (dk_at dksX4_moods_3 5 rfl rfl)
theorem dX4_moods_74 : decode cX4_moods 74 = .ok (.iload_n 2, 1) := dk_28 (dk_at dksX4_moods_3 6 rfl rfl)
theorem dX4_moods_75 : decode cX4_moods 75 = .ok (.ifCond .le 15, 3) := dk_158 0 15 (dk_at dksX4_moods_3 7 rfl rfl)
theorem dX4_moods_78 : decode cX4_moods 78 = .ok (.aload_n 0, 1) := dk_42 (dk_at dksX4_moods_3 10 rfl rfl)
theorem dX4_moods_79 : decode cX4_moods 79 = .ok (.iload_n 2, 1) := dk_28 (dk_at dksX4_moods_3 11 rfl rfl)
theorem dX4_moods_80 : decode cX4_moods 80 = .ok (.invokevirtual 219, 3) := dk_182 0 219 (dk_at dksX4_moods_3 12 rfl rfl)
theorem dX4_moods_83 : decode cX4_moods 83 = .ok (.ifCond .eq 7, 3) := dk_153 0 7 (dk_at dksX4_moods_3 15 rfl rfl)
theorem dX4_moods_86 : decode cX4_moods 86 = .ok (.iconst 1, 1) := dk_4 (dk_at dksX4_moods_3 18 rfl rfl)
theorem dX4_moods_87 : decode cX4_moods 87 = .ok (.goto 4, 3) := dk_167 0 4 (dk_at dksX4_moods_3 19 rfl rfl)
theorem dX4_moods_90 : decode cX4_moods 90 = .ok (.iconst 0, 1) := dk_3 (dk_at dksX4_moods_3 22 rfl rfl)
theorem dX4_moods_91 : decode cX4_moods 91 = .ok (.istore 4, 2) := dk_54 4 (dk_at dksX4_moods_4 0 rfl rfl)
theorem dX4_moods_93 : decode cX4_moods 93 = .ok (.goto (-63), 3) := dk_167 255 193 (dk_at dksX4_moods_4 2 rfl rfl)
theorem dX4_moods_96 : decode cX4_moods 96 = .ok (.iload_n 3, 1) := dk_29 (dk_at dksX4_moods_4 5 rfl rfl)
theorem dX4_moods_97 : decode cX4_moods 97 = .ok (.ireturn, 1) := dk_172 (dk_at dksX4_moods_4 6 rfl rfl)
abbrev cX4_gets : ByteArray := prog_26_method_57_code
def yX4_gets : MethodName := ⟨RX4, "gets", "(II)I"⟩
def dkwX4_gets_6 : List UInt8 := [46, 167, 0, 5, 18, 65, 172]
abbrev dktX4_gets_6 : List UInt8 := dkwX4_gets_6 ++ []
def dkwX4_gets_5 : List UInt8 := [2, 160, 0, 10, 42, 180, 0, 207, 167, 0, 22, 28, 42, 180, 0, 207, 162, 0, 12, 42, 180, 0, 59, 28]
abbrev dktX4_gets_5 : List UInt8 := dkwX4_gets_5 ++ dktX4_gets_6
def dkwX4_gets_4 : List UInt8 := [16, 8, 182, 0, 219, 62, 167, 255, 204, 42, 180, 0, 204, 18, 65, 160, 0, 8, 18, 65, 167, 0, 34, 28]
abbrev dktX4_gets_4 : List UInt8 := dkwX4_gets_4 ++ dktX4_gets_5
def dkwX4_gets_3 : List UInt8 := [159, 0, 14, 42, 180, 0, 197, 42, 180, 0, 207, 162, 0, 11, 42, 42, 180, 0, 197, 182, 0, 216, 42]
abbrev dktX4_gets_3 : List UInt8 := dkwX4_gets_3 ++ dktX4_gets_4
def dkwX4_gets_2 : List UInt8 := [153, 0, 54, 42, 180, 0, 53, 42, 180, 0, 197, 46, 27, 160, 0, 31, 42, 180, 0, 204, 18, 65]
abbrev dktX4_gets_2 : List UInt8 := dkwX4_gets_2 ++ dktX4_gets_3
def dkwX4_gets_1 : List UInt8 := [184, 0, 71, 154, 0, 6, 18, 79, 172, 42, 182, 0, 213, 42, 18, 65, 181, 0, 204, 4, 62, 29]
abbrev dktX4_gets_1 : List UInt8 := dkwX4_gets_1 ++ dktX4_gets_2
def dkwX4_gets_0 : List UInt8 := [42, 182, 0, 191, 154, 0, 6, 18, 180, 172, 27, 3, 16, 9, 184, 0, 71, 153, 0, 13, 28, 2, 16, 7]
abbrev dktX4_gets_0 : List UInt8 := dkwX4_gets_0 ++ dktX4_gets_1
theorem dksX4_gets_0 : cX4_gets.data.toList.drop 0 = dktX4_gets_0 := by decide +kernel
theorem dksX4_gets_1 : cX4_gets.data.toList.drop 24 = dktX4_gets_1 := dk_seg dksX4_gets_0 24 rfl rfl
theorem dksX4_gets_2 : cX4_gets.data.toList.drop 46 = dktX4_gets_2 := dk_seg dksX4_gets_1 22 rfl rfl
theorem dksX4_gets_3 : cX4_gets.data.toList.drop 68 = dktX4_gets_3 := dk_seg dksX4_gets_2 22 rfl rfl
theorem dksX4_gets_4 : cX4_gets.data.toList.drop 91 = dktX4_gets_4 := dk_seg dksX4_gets_3 23 rfl rfl
theorem dksX4_gets_5 : cX4_gets.data.toList.drop 115 = dktX4_gets_5 := dk_seg dksX4_gets_4 24 rfl rfl
theorem dksX4_gets_6 : cX4_gets.data.toList.drop 139 = dktX4_gets_6 := dk_seg dksX4_gets_5 24 rfl rfl
theorem dX4_gets_0 : decode cX4_gets 0 = .ok (.aload_n 0, 1) := dk_42 (dk_at dksX4_gets_0 0 rfl rfl)
theorem dX4_gets_1 : decode cX4_gets 1 = .ok (.invokevirtual 191, 3) := dk_182 0 191 (dk_at dksX4_gets_0 1 rfl rfl)
theorem dX4_gets_4 : decode cX4_gets 4 = .ok (.ifCond .ne 6, 3) := dk_154 0 6 (dk_at dksX4_gets_0 4 rfl rfl)
theorem dX4_gets_7 : decode cX4_gets 7 = .ok (.ldc 180, 2) := dk_18 180 (dk_at dksX4_gets_0 7 rfl rfl)
theorem dX4_gets_9 : decode cX4_gets 9 = .ok (.ireturn, 1) := dk_172 (dk_at dksX4_gets_0 9 rfl rfl)
theorem dX4_gets_10 : decode cX4_gets 10 = .ok (.iload_n 1, 1) := dk_27 (dk_at dksX4_gets_0 10 rfl rfl)
theorem dX4_gets_11 : decode cX4_gets 11 = .ok (.iconst 0, 1) := dk_3 (dk_at dksX4_gets_0 11 rfl rfl)
theorem dX4_gets_12 : decode cX4_gets 12 = .ok (.bipush 9, 2) := dk_16 9 (dk_at dksX4_gets_0 12 rfl rfl)
theorem dX4_gets_14 : decode cX4_gets 14 = .ok (.invokestatic 71, 3) := dk_184 0 71 (dk_at dksX4_gets_0 14 rfl rfl)
theorem dX4_gets_17 : decode cX4_gets 17 = .ok (.ifCond .eq 13, 3) := dk_153 0 13 (dk_at dksX4_gets_0 17 rfl rfl)
theorem dX4_gets_20 : decode cX4_gets 20 = .ok (.iload_n 2, 1) := dk_28 (dk_at dksX4_gets_0 20 rfl rfl)
theorem dX4_gets_21 : decode cX4_gets 21 = .ok (.iconst (-1), 1) := dk_2 (dk_at dksX4_gets_0 21 rfl rfl)
theorem dX4_gets_22 : decode cX4_gets 22 = .ok (.bipush 7, 2) := dk_16 7 (dk_at dksX4_gets_0 22 rfl rfl)
theorem dX4_gets_24 : decode cX4_gets 24 = .ok (.invokestatic 71, 3) := dk_184 0 71 (dk_at dksX4_gets_1 0 rfl rfl)
theorem dX4_gets_27 : decode cX4_gets 27 = .ok (.ifCond .ne 6, 3) := dk_154 0 6 (dk_at dksX4_gets_1 3 rfl rfl)
theorem dX4_gets_30 : decode cX4_gets 30 = .ok (.ldc 79, 2) := dk_18 79 (dk_at dksX4_gets_1 6 rfl rfl)
theorem dX4_gets_32 : decode cX4_gets 32 = .ok (.ireturn, 1) := dk_172 (dk_at dksX4_gets_1 8 rfl rfl)
theorem dX4_gets_33 : decode cX4_gets 33 = .ok (.aload_n 0, 1) := dk_42 (dk_at dksX4_gets_1 9 rfl rfl)
theorem dX4_gets_34 : decode cX4_gets 34 = .ok (.invokevirtual 213, 3) := dk_182 0 213 (dk_at dksX4_gets_1 10 rfl rfl)
theorem dX4_gets_37 : decode cX4_gets 37 = .ok (.aload_n 0, 1) := dk_42 (dk_at dksX4_gets_1 13 rfl rfl)
theorem dX4_gets_38 : decode cX4_gets 38 = .ok (.ldc 65, 2) := dk_18 65 (dk_at dksX4_gets_1 14 rfl rfl)
theorem dX4_gets_40 : decode cX4_gets 40 = .ok (.putfield 204, 3) := dk_181 0 204 (dk_at dksX4_gets_1 16 rfl rfl)
theorem dX4_gets_43 : decode cX4_gets 43 = .ok (.iconst 1, 1) := dk_4 (dk_at dksX4_gets_1 19 rfl rfl)
theorem dX4_gets_44 : decode cX4_gets 44 = .ok (.istore_n 3, 1) := dk_62 (dk_at dksX4_gets_1 20 rfl rfl)
theorem dX4_gets_45 : decode cX4_gets 45 = .ok (.iload_n 3, 1) := dk_29 (dk_at dksX4_gets_1 21 rfl rfl)
theorem dX4_gets_46 : decode cX4_gets 46 = .ok (.ifCond .eq 54, 3) := dk_153 0 54 (dk_at dksX4_gets_2 0 rfl rfl)
theorem dX4_gets_49 : decode cX4_gets 49 = .ok (.aload_n 0, 1) := dk_42 (dk_at dksX4_gets_2 3 rfl rfl)
theorem dX4_gets_50 : decode cX4_gets 50 = .ok (.getfield 53, 3) := dk_180 0 53 (dk_at dksX4_gets_2 4 rfl rfl)
theorem dX4_gets_53 : decode cX4_gets 53 = .ok (.aload_n 0, 1) := dk_42 (dk_at dksX4_gets_2 7 rfl rfl)
theorem dX4_gets_54 : decode cX4_gets 54 = .ok (.getfield 197, 3) := dk_180 0 197 (dk_at dksX4_gets_2 8 rfl rfl)
theorem dX4_gets_57 : decode cX4_gets 57 = .ok (.iaload, 1) := dk_46 (dk_at dksX4_gets_2 11 rfl rfl)
theorem dX4_gets_58 : decode cX4_gets 58 = .ok (.iload_n 1, 1) := dk_27 (dk_at dksX4_gets_2 12 rfl rfl)
theorem dX4_gets_59 : decode cX4_gets 59 = .ok (.if_icmp .ne 31, 3) := dk_160 0 31 (dk_at dksX4_gets_2 13 rfl rfl)
theorem dX4_gets_62 : decode cX4_gets 62 = .ok (.aload_n 0, 1) := dk_42 (dk_at dksX4_gets_2 16 rfl rfl)
theorem dX4_gets_63 : decode cX4_gets 63 = .ok (.getfield 204, 3) := dk_180 0 204 (dk_at dksX4_gets_2 17 rfl rfl)
theorem dX4_gets_66 : decode cX4_gets 66 = .ok (.ldc 65, 2) := dk_18 65 (dk_at dksX4_gets_2 20 rfl rfl)
theorem dX4_gets_68 : decode cX4_gets 68 = .ok (.if_icmp .eq 14, 3) := dk_159 0 14 (dk_at dksX4_gets_3 0 rfl rfl)
theorem dX4_gets_71 : decode cX4_gets 71 = .ok (.aload_n 0, 1) := dk_42 (dk_at dksX4_gets_3 3 rfl rfl)
theorem dX4_gets_72 : decode cX4_gets 72 = .ok (.getfield 197, 3) := dk_180 0 197 (dk_at dksX4_gets_3 4 rfl rfl)
theorem dX4_gets_75 : decode cX4_gets 75 = .ok (.aload_n 0, 1) := dk_42 (dk_at dksX4_gets_3 7 rfl rfl)
theorem dX4_gets_76 : decode cX4_gets 76 = .ok (.getfield 207, 3) := dk_180 0 207 (dk_at dksX4_gets_3 8 rfl rfl)
theorem dX4_gets_79 : decode cX4_gets 79 = .ok (.if_icmp .ge 11, 3) := dk_162 0 11 (dk_at dksX4_gets_3 11 rfl rfl)
theorem dX4_gets_82 : decode cX4_gets 82 = .ok (.aload_n 0, 1) := dk_42 (dk_at dksX4_gets_3 14 rfl rfl)
theorem dX4_gets_83 : decode cX4_gets 83 = .ok (.aload_n 0, 1) := dk_42 (dk_at dksX4_gets_3 15 rfl rfl)
theorem dX4_gets_84 : decode cX4_gets 84 = .ok (.getfield 197, 3) := dk_180 0 197 (dk_at dksX4_gets_3 16 rfl rfl)
theorem dX4_gets_87 : decode cX4_gets 87 = .ok (.invokevirtual 216, 3) := dk_182 0 216 (dk_at dksX4_gets_3 19 rfl rfl)
theorem dX4_gets_90 : decode cX4_gets 90 = .ok (.aload_n 0, 1) := dk_42 (dk_at dksX4_gets_3 22 rfl rfl)
theorem dX4_gets_91 : decode cX4_gets 91 = .ok (.bipush 8, 2) := dk_16 8 (dk_at dksX4_gets_4 0 rfl rfl)
theorem dX4_gets_93 : decode cX4_gets 93 = .ok (.invokevirtual 219, 3) := dk_182 0 219 (dk_at dksX4_gets_4 2 rfl rfl)
theorem dX4_gets_96 : decode cX4_gets 96 = .ok (.istore_n 3, 1) := dk_62 (dk_at dksX4_gets_4 5 rfl rfl)
theorem dX4_gets_97 : decode cX4_gets 97 = .ok (.goto (-52), 3) := dk_167 255 204 (dk_at dksX4_gets_4 6 rfl rfl)
theorem dX4_gets_100 : decode cX4_gets 100 = .ok (.aload_n 0, 1) := dk_42 (dk_at dksX4_gets_4 9 rfl rfl)
theorem dX4_gets_101 : decode cX4_gets 101 = .ok (.getfield 204, 3) := dk_180 0 204 (dk_at dksX4_gets_4 10 rfl rfl)
theorem dX4_gets_104 : decode cX4_gets 104 = .ok (.ldc 65, 2) := dk_18 65 (dk_at dksX4_gets_4 13 rfl rfl)
theorem dX4_gets_106 : decode cX4_gets 106 = .ok (.if_icmp .ne 8, 3) := dk_160 0 8 (dk_at dksX4_gets_4 15 rfl rfl)
theorem dX4_gets_109 : decode cX4_gets 109 = .ok (.ldc 65, 2) := dk_18 65 (dk_at dksX4_gets_4 18 rfl rfl)
theorem dX4_gets_111 : decode cX4_gets 111 = .ok (.goto 34, 3) := dk_167 0 34 (dk_at dksX4_gets_4 20 rfl rfl)
theorem dX4_gets_114 : decode cX4_gets 114 = .ok (.iload_n 2, 1) := dk_28 (dk_at dksX4_gets_4 23 rfl rfl)
theorem dX4_gets_115 : decode cX4_gets 115 = .ok (.iconst (-1), 1) := dk_2 (dk_at dksX4_gets_5 0 rfl rfl)
theorem dX4_gets_116 : decode cX4_gets 116 = .ok (.if_icmp .ne 10, 3) := dk_160 0 10 (dk_at dksX4_gets_5 1 rfl rfl)
theorem dX4_gets_119 : decode cX4_gets 119 = .ok (.aload_n 0, 1) := dk_42 (dk_at dksX4_gets_5 4 rfl rfl)
theorem dX4_gets_120 : decode cX4_gets 120 = .ok (.getfield 207, 3) := dk_180 0 207 (dk_at dksX4_gets_5 5 rfl rfl)
theorem dX4_gets_123 : decode cX4_gets 123 = .ok (.goto 22, 3) := dk_167 0 22 (dk_at dksX4_gets_5 8 rfl rfl)
theorem dX4_gets_126 : decode cX4_gets 126 = .ok (.iload_n 2, 1) := dk_28 (dk_at dksX4_gets_5 11 rfl rfl)
theorem dX4_gets_127 : decode cX4_gets 127 = .ok (.aload_n 0, 1) := dk_42 (dk_at dksX4_gets_5 12 rfl rfl)
theorem dX4_gets_128 : decode cX4_gets 128 = .ok (.getfield 207, 3) := dk_180 0 207 (dk_at dksX4_gets_5 13 rfl rfl)
theorem dX4_gets_131 : decode cX4_gets 131 = .ok (.if_icmp .ge 12, 3) := dk_162 0 12 (dk_at dksX4_gets_5 16 rfl rfl)
theorem dX4_gets_134 : decode cX4_gets 134 = .ok (.aload_n 0, 1) := dk_42 (dk_at dksX4_gets_5 19 rfl rfl)
theorem dX4_gets_135 : decode cX4_gets 135 = .ok (.getfield 59, 3) := dk_180 0 59 (dk_at dksX4_gets_5 20 rfl rfl)
theorem dX4_gets_138 : decode cX4_gets 138 = .ok (.iload_n 2, 1) := dk_28 (dk_at dksX4_gets_5 23 rfl rfl)
theorem dX4_gets_139 : decode cX4_gets 139 = .ok (.iaload, 1) := dk_46 (dk_at dksX4_gets_6 0 rfl rfl)
theorem dX4_gets_140 : decode cX4_gets 140 = .ok (.goto 5, 3) := dk_167 0 5 (dk_at dksX4_gets_6 1 rfl rfl)
theorem dX4_gets_143 : decode cX4_gets 143 = .ok (.ldc 65, 2) := dk_18 65 (dk_at dksX4_gets_6 4 rfl rfl)
theorem dX4_gets_145 : decode cX4_gets 145 = .ok (.ireturn, 1) := dk_172 (dk_at dksX4_gets_6 6 rfl rfl)
abbrev cX4_fits : ByteArray := prog_26_method_61_code
def yX4_fits : MethodName := ⟨RX4, "fits", "(IIIIII)I"⟩
def dkwX4_fits_5 : List UInt8 := [21, 5, 182, 0, 236, 172]
abbrev dktX4_fits_5 : List UInt8 := dkwX4_fits_5 ++ []
def dkwX4_fits_4 : List UInt8 := [182, 0, 236, 167, 0, 26, 42, 3, 4, 16, 9, 16, 40, 27, 104, 28, 96, 16, 40, 29, 104, 21, 4, 96]
abbrev dktX4_fits_4 : List UInt8 := dkwX4_fits_4 ++ dktX4_fits_5
def dkwX4_fits_3 : List UInt8 := [154, 0, 29, 42, 4, 3, 16, 9, 16, 40, 27, 104, 28, 96, 16, 40, 29, 104, 21, 4, 96, 21, 5]
abbrev dktX4_fits_3 : List UInt8 := dkwX4_fits_3 ++ dktX4_fits_4
def dkwX4_fits_2 : List UInt8 := [42, 27, 28, 29, 21, 4, 21, 5, 182, 0, 232, 54, 7, 21, 7, 153, 0, 6, 21, 7, 172, 21, 6]
abbrev dktX4_fits_2 : List UInt8 := dkwX4_fits_2 ++ dktX4_fits_3
def dkwX4_fits_1 : List UInt8 := [21, 5, 4, 16, 8, 184, 0, 71, 153, 0, 13, 21, 6, 3, 4, 184, 0, 71, 154, 0, 6, 18, 79, 172]
abbrev dktX4_fits_1 : List UInt8 := dkwX4_fits_1 ++ dktX4_fits_2
def dkwX4_fits_0 : List UInt8 := [42, 182, 0, 191, 154, 0, 6, 18, 180, 172, 27, 184, 0, 75, 153, 0, 31, 29, 184, 0, 75, 153, 0, 24]
abbrev dktX4_fits_0 : List UInt8 := dkwX4_fits_0 ++ dktX4_fits_1
theorem dksX4_fits_0 : cX4_fits.data.toList.drop 0 = dktX4_fits_0 := by decide +kernel
theorem dksX4_fits_1 : cX4_fits.data.toList.drop 24 = dktX4_fits_1 := dk_seg dksX4_fits_0 24 rfl rfl
theorem dksX4_fits_2 : cX4_fits.data.toList.drop 48 = dktX4_fits_2 := dk_seg dksX4_fits_1 24 rfl rfl
theorem dksX4_fits_3 : cX4_fits.data.toList.drop 71 = dktX4_fits_3 := dk_seg dksX4_fits_2 23 rfl rfl
theorem dksX4_fits_4 : cX4_fits.data.toList.drop 94 = dktX4_fits_4 := dk_seg dksX4_fits_3 23 rfl rfl
theorem dksX4_fits_5 : cX4_fits.data.toList.drop 118 = dktX4_fits_5 := dk_seg dksX4_fits_4 24 rfl rfl
theorem dX4_fits_0 : decode cX4_fits 0 = .ok (.aload_n 0, 1) := dk_42 (dk_at dksX4_fits_0 0 rfl rfl)
theorem dX4_fits_1 : decode cX4_fits 1 = .ok (.invokevirtual 191, 3) := dk_182 0 191 (dk_at dksX4_fits_0 1 rfl rfl)
theorem dX4_fits_4 : decode cX4_fits 4 = .ok (.ifCond .ne 6, 3) := dk_154 0 6 (dk_at dksX4_fits_0 4 rfl rfl)
theorem dX4_fits_7 : decode cX4_fits 7 = .ok (.ldc 180, 2) := dk_18 180 (dk_at dksX4_fits_0 7 rfl rfl)
theorem dX4_fits_9 : decode cX4_fits 9 = .ok (.ireturn, 1) := dk_172 (dk_at dksX4_fits_0 9 rfl rfl)
theorem dX4_fits_10 : decode cX4_fits 10 = .ok (.iload_n 1, 1) := dk_27 (dk_at dksX4_fits_0 10 rfl rfl)
theorem dX4_fits_11 : decode cX4_fits 11 = .ok (.invokestatic 75, 3) := dk_184 0 75 (dk_at dksX4_fits_0 11 rfl rfl)
theorem dX4_fits_14 : decode cX4_fits 14 = .ok (.ifCond .eq 31, 3) := dk_153 0 31 (dk_at dksX4_fits_0 14 rfl rfl)
theorem dX4_fits_17 : decode cX4_fits 17 = .ok (.iload_n 3, 1) := dk_29 (dk_at dksX4_fits_0 17 rfl rfl)
theorem dX4_fits_18 : decode cX4_fits 18 = .ok (.invokestatic 75, 3) := dk_184 0 75 (dk_at dksX4_fits_0 18 rfl rfl)
theorem dX4_fits_21 : decode cX4_fits 21 = .ok (.ifCond .eq 24, 3) := dk_153 0 24 (dk_at dksX4_fits_0 21 rfl rfl)
theorem dX4_fits_24 : decode cX4_fits 24 = .ok (.iload 5, 2) := dk_21 5 (dk_at dksX4_fits_1 0 rfl rfl)
theorem dX4_fits_26 : decode cX4_fits 26 = .ok (.iconst 1, 1) := dk_4 (dk_at dksX4_fits_1 2 rfl rfl)
theorem dX4_fits_27 : decode cX4_fits 27 = .ok (.bipush 8, 2) := dk_16 8 (dk_at dksX4_fits_1 3 rfl rfl)
theorem dX4_fits_29 : decode cX4_fits 29 = .ok (.invokestatic 71, 3) := dk_184 0 71 (dk_at dksX4_fits_1 5 rfl rfl)
theorem dX4_fits_32 : decode cX4_fits 32 = .ok (.ifCond .eq 13, 3) := dk_153 0 13 (dk_at dksX4_fits_1 8 rfl rfl)
theorem dX4_fits_35 : decode cX4_fits 35 = .ok (.iload 6, 2) := dk_21 6 (dk_at dksX4_fits_1 11 rfl rfl)
theorem dX4_fits_37 : decode cX4_fits 37 = .ok (.iconst 0, 1) := dk_3 (dk_at dksX4_fits_1 13 rfl rfl)
theorem dX4_fits_38 : decode cX4_fits 38 = .ok (.iconst 1, 1) := dk_4 (dk_at dksX4_fits_1 14 rfl rfl)
theorem dX4_fits_39 : decode cX4_fits 39 = .ok (.invokestatic 71, 3) := dk_184 0 71 (dk_at dksX4_fits_1 15 rfl rfl)
theorem dX4_fits_42 : decode cX4_fits 42 = .ok (.ifCond .ne 6, 3) := dk_154 0 6 (dk_at dksX4_fits_1 18 rfl rfl)
theorem dX4_fits_45 : decode cX4_fits 45 = .ok (.ldc 79, 2) := dk_18 79 (dk_at dksX4_fits_1 21 rfl rfl)
theorem dX4_fits_47 : decode cX4_fits 47 = .ok (.ireturn, 1) := dk_172 (dk_at dksX4_fits_1 23 rfl rfl)
theorem dX4_fits_48 : decode cX4_fits 48 = .ok (.aload_n 0, 1) := dk_42 (dk_at dksX4_fits_2 0 rfl rfl)
theorem dX4_fits_49 : decode cX4_fits 49 = .ok (.iload_n 1, 1) := dk_27 (dk_at dksX4_fits_2 1 rfl rfl)
theorem dX4_fits_50 : decode cX4_fits 50 = .ok (.iload_n 2, 1) := dk_28 (dk_at dksX4_fits_2 2 rfl rfl)
theorem dX4_fits_51 : decode cX4_fits 51 = .ok (.iload_n 3, 1) := dk_29 (dk_at dksX4_fits_2 3 rfl rfl)
theorem dX4_fits_52 : decode cX4_fits 52 = .ok (.iload 4, 2) := dk_21 4 (dk_at dksX4_fits_2 4 rfl rfl)
theorem dX4_fits_54 : decode cX4_fits 54 = .ok (.iload 5, 2) := dk_21 5 (dk_at dksX4_fits_2 6 rfl rfl)
theorem dX4_fits_56 : decode cX4_fits 56 = .ok (.invokevirtual 232, 3) := dk_182 0 232 (dk_at dksX4_fits_2 8 rfl rfl)
theorem dX4_fits_59 : decode cX4_fits 59 = .ok (.istore 7, 2) := dk_54 7 (dk_at dksX4_fits_2 11 rfl rfl)
theorem dX4_fits_61 : decode cX4_fits 61 = .ok (.iload 7, 2) := dk_21 7 (dk_at dksX4_fits_2 13 rfl rfl)
theorem dX4_fits_63 : decode cX4_fits 63 = .ok (.ifCond .eq 6, 3) := dk_153 0 6 (dk_at dksX4_fits_2 15 rfl rfl)
theorem dX4_fits_66 : decode cX4_fits 66 = .ok (.iload 7, 2) := dk_21 7 (dk_at dksX4_fits_2 18 rfl rfl)
theorem dX4_fits_68 : decode cX4_fits 68 = .ok (.ireturn, 1) := dk_172 (dk_at dksX4_fits_2 20 rfl rfl)
theorem dX4_fits_69 : decode cX4_fits 69 = .ok (.iload 6, 2) := dk_21 6 (dk_at dksX4_fits_2 21 rfl rfl)
theorem dX4_fits_71 : decode cX4_fits 71 = .ok (.ifCond .ne 29, 3) := dk_154 0 29 (dk_at dksX4_fits_3 0 rfl rfl)
theorem dX4_fits_74 : decode cX4_fits 74 = .ok (.aload_n 0, 1) := dk_42 (dk_at dksX4_fits_3 3 rfl rfl)
theorem dX4_fits_75 : decode cX4_fits 75 = .ok (.iconst 1, 1) := dk_4 (dk_at dksX4_fits_3 4 rfl rfl)
theorem dX4_fits_76 : decode cX4_fits 76 = .ok (.iconst 0, 1) := dk_3 (dk_at dksX4_fits_3 5 rfl rfl)
theorem dX4_fits_77 : decode cX4_fits 77 = .ok (.bipush 9, 2) := dk_16 9 (dk_at dksX4_fits_3 6 rfl rfl)
theorem dX4_fits_79 : decode cX4_fits 79 = .ok (.bipush 40, 2) := dk_16 40 (dk_at dksX4_fits_3 8 rfl rfl)
theorem dX4_fits_81 : decode cX4_fits 81 = .ok (.iload_n 1, 1) := dk_27 (dk_at dksX4_fits_3 10 rfl rfl)
theorem dX4_fits_82 : decode cX4_fits 82 = .ok (.imul, 1) := dk_104 (dk_at dksX4_fits_3 11 rfl rfl)
theorem dX4_fits_83 : decode cX4_fits 83 = .ok (.iload_n 2, 1) := dk_28 (dk_at dksX4_fits_3 12 rfl rfl)
theorem dX4_fits_84 : decode cX4_fits 84 = .ok (.iadd, 1) := dk_96 (dk_at dksX4_fits_3 13 rfl rfl)
theorem dX4_fits_85 : decode cX4_fits 85 = .ok (.bipush 40, 2) := dk_16 40 (dk_at dksX4_fits_3 14 rfl rfl)
theorem dX4_fits_87 : decode cX4_fits 87 = .ok (.iload_n 3, 1) := dk_29 (dk_at dksX4_fits_3 16 rfl rfl)
theorem dX4_fits_88 : decode cX4_fits 88 = .ok (.imul, 1) := dk_104 (dk_at dksX4_fits_3 17 rfl rfl)
theorem dX4_fits_89 : decode cX4_fits 89 = .ok (.iload 4, 2) := dk_21 4 (dk_at dksX4_fits_3 18 rfl rfl)
theorem dX4_fits_91 : decode cX4_fits 91 = .ok (.iadd, 1) := dk_96 (dk_at dksX4_fits_3 20 rfl rfl)
theorem dX4_fits_92 : decode cX4_fits 92 = .ok (.iload 5, 2) := dk_21 5 (dk_at dksX4_fits_3 21 rfl rfl)
theorem dX4_fits_94 : decode cX4_fits 94 = .ok (.invokevirtual 236, 3) := dk_182 0 236 (dk_at dksX4_fits_4 0 rfl rfl)
theorem dX4_fits_97 : decode cX4_fits 97 = .ok (.goto 26, 3) := dk_167 0 26 (dk_at dksX4_fits_4 3 rfl rfl)
theorem dX4_fits_100 : decode cX4_fits 100 = .ok (.aload_n 0, 1) := dk_42 (dk_at dksX4_fits_4 6 rfl rfl)
theorem dX4_fits_101 : decode cX4_fits 101 = .ok (.iconst 0, 1) := dk_3 (dk_at dksX4_fits_4 7 rfl rfl)
theorem dX4_fits_102 : decode cX4_fits 102 = .ok (.iconst 1, 1) := dk_4 (dk_at dksX4_fits_4 8 rfl rfl)
theorem dX4_fits_103 : decode cX4_fits 103 = .ok (.bipush 9, 2) := dk_16 9 (dk_at dksX4_fits_4 9 rfl rfl)
theorem dX4_fits_105 : decode cX4_fits 105 = .ok (.bipush 40, 2) := dk_16 40 (dk_at dksX4_fits_4 11 rfl rfl)
theorem dX4_fits_107 : decode cX4_fits 107 = .ok (.iload_n 1, 1) := dk_27 (dk_at dksX4_fits_4 13 rfl rfl)
theorem dX4_fits_108 : decode cX4_fits 108 = .ok (.imul, 1) := dk_104 (dk_at dksX4_fits_4 14 rfl rfl)
theorem dX4_fits_109 : decode cX4_fits 109 = .ok (.iload_n 2, 1) := dk_28 (dk_at dksX4_fits_4 15 rfl rfl)
theorem dX4_fits_110 : decode cX4_fits 110 = .ok (.iadd, 1) := dk_96 (dk_at dksX4_fits_4 16 rfl rfl)
theorem dX4_fits_111 : decode cX4_fits 111 = .ok (.bipush 40, 2) := dk_16 40 (dk_at dksX4_fits_4 17 rfl rfl)
theorem dX4_fits_113 : decode cX4_fits 113 = .ok (.iload_n 3, 1) := dk_29 (dk_at dksX4_fits_4 19 rfl rfl)
theorem dX4_fits_114 : decode cX4_fits 114 = .ok (.imul, 1) := dk_104 (dk_at dksX4_fits_4 20 rfl rfl)
theorem dX4_fits_115 : decode cX4_fits 115 = .ok (.iload 4, 2) := dk_21 4 (dk_at dksX4_fits_4 21 rfl rfl)
theorem dX4_fits_117 : decode cX4_fits 117 = .ok (.iadd, 1) := dk_96 (dk_at dksX4_fits_4 23 rfl rfl)
theorem dX4_fits_118 : decode cX4_fits 118 = .ok (.iload 5, 2) := dk_21 5 (dk_at dksX4_fits_5 0 rfl rfl)
theorem dX4_fits_120 : decode cX4_fits 120 = .ok (.invokevirtual 236, 3) := dk_182 0 236 (dk_at dksX4_fits_5 2 rfl rfl)
theorem dX4_fits_123 : decode cX4_fits 123 = .ok (.ireturn, 1) := dk_172 (dk_at dksX4_fits_5 5 rfl rfl)
abbrev cX4_bar : ByteArray := prog_26_method_59_code
def yX4_bar : MethodName := ⟨RX4, "bar", "(IIIII)I"⟩
def dkwX4_bar_2 : List UInt8 := [29, 21, 4, 21, 5, 182, 0, 94, 153, 0, 7, 3, 167, 0, 8, 42, 5, 182, 0, 80, 172]
abbrev dktX4_bar_2 : List UInt8 := dkwX4_bar_2 ++ []
def dkwX4_bar_1 : List UInt8 := [154, 0, 9, 42, 5, 182, 0, 80, 172, 42, 29, 182, 0, 87, 153, 0, 9, 42, 4, 182, 0, 80, 172, 42]
abbrev dktX4_bar_1 : List UInt8 := dkwX4_bar_1 ++ dktX4_bar_2
def dkwX4_bar_0 : List UInt8 := [42, 27, 182, 0, 87, 153, 0, 9, 42, 4, 182, 0, 80, 172, 42, 27, 28, 21, 5, 182, 0, 94]
abbrev dktX4_bar_0 : List UInt8 := dkwX4_bar_0 ++ dktX4_bar_1
theorem dksX4_bar_0 : cX4_bar.data.toList.drop 0 = dktX4_bar_0 := by decide +kernel
theorem dksX4_bar_1 : cX4_bar.data.toList.drop 22 = dktX4_bar_1 := dk_seg dksX4_bar_0 22 rfl rfl
theorem dksX4_bar_2 : cX4_bar.data.toList.drop 46 = dktX4_bar_2 := dk_seg dksX4_bar_1 24 rfl rfl
theorem dX4_bar_0 : decode cX4_bar 0 = .ok (.aload_n 0, 1) := dk_42 (dk_at dksX4_bar_0 0 rfl rfl)
theorem dX4_bar_1 : decode cX4_bar 1 = .ok (.iload_n 1, 1) := dk_27 (dk_at dksX4_bar_0 1 rfl rfl)
theorem dX4_bar_2 : decode cX4_bar 2 = .ok (.invokevirtual 87, 3) := dk_182 0 87 (dk_at dksX4_bar_0 2 rfl rfl)
theorem dX4_bar_5 : decode cX4_bar 5 = .ok (.ifCond .eq 9, 3) := dk_153 0 9 (dk_at dksX4_bar_0 5 rfl rfl)
theorem dX4_bar_8 : decode cX4_bar 8 = .ok (.aload_n 0, 1) := dk_42 (dk_at dksX4_bar_0 8 rfl rfl)
theorem dX4_bar_9 : decode cX4_bar 9 = .ok (.iconst 1, 1) := dk_4 (dk_at dksX4_bar_0 9 rfl rfl)
theorem dX4_bar_10 : decode cX4_bar 10 = .ok (.invokevirtual 80, 3) := dk_182 0 80 (dk_at dksX4_bar_0 10 rfl rfl)
theorem dX4_bar_13 : decode cX4_bar 13 = .ok (.ireturn, 1) := dk_172 (dk_at dksX4_bar_0 13 rfl rfl)
theorem dX4_bar_14 : decode cX4_bar 14 = .ok (.aload_n 0, 1) := dk_42 (dk_at dksX4_bar_0 14 rfl rfl)
theorem dX4_bar_15 : decode cX4_bar 15 = .ok (.iload_n 1, 1) := dk_27 (dk_at dksX4_bar_0 15 rfl rfl)
theorem dX4_bar_16 : decode cX4_bar 16 = .ok (.iload_n 2, 1) := dk_28 (dk_at dksX4_bar_0 16 rfl rfl)
theorem dX4_bar_17 : decode cX4_bar 17 = .ok (.iload 5, 2) := dk_21 5 (dk_at dksX4_bar_0 17 rfl rfl)
theorem dX4_bar_19 : decode cX4_bar 19 = .ok (.invokevirtual 94, 3) := dk_182 0 94 (dk_at dksX4_bar_0 19 rfl rfl)
theorem dX4_bar_22 : decode cX4_bar 22 = .ok (.ifCond .ne 9, 3) := dk_154 0 9 (dk_at dksX4_bar_1 0 rfl rfl)
theorem dX4_bar_25 : decode cX4_bar 25 = .ok (.aload_n 0, 1) := dk_42 (dk_at dksX4_bar_1 3 rfl rfl)
theorem dX4_bar_26 : decode cX4_bar 26 = .ok (.iconst 2, 1) := dk_5 (dk_at dksX4_bar_1 4 rfl rfl)
theorem dX4_bar_27 : decode cX4_bar 27 = .ok (.invokevirtual 80, 3) := dk_182 0 80 (dk_at dksX4_bar_1 5 rfl rfl)
theorem dX4_bar_30 : decode cX4_bar 30 = .ok (.ireturn, 1) := dk_172 (dk_at dksX4_bar_1 8 rfl rfl)
theorem dX4_bar_31 : decode cX4_bar 31 = .ok (.aload_n 0, 1) := dk_42 (dk_at dksX4_bar_1 9 rfl rfl)
theorem dX4_bar_32 : decode cX4_bar 32 = .ok (.iload_n 3, 1) := dk_29 (dk_at dksX4_bar_1 10 rfl rfl)
theorem dX4_bar_33 : decode cX4_bar 33 = .ok (.invokevirtual 87, 3) := dk_182 0 87 (dk_at dksX4_bar_1 11 rfl rfl)
theorem dX4_bar_36 : decode cX4_bar 36 = .ok (.ifCond .eq 9, 3) := dk_153 0 9 (dk_at dksX4_bar_1 14 rfl rfl)
theorem dX4_bar_39 : decode cX4_bar 39 = .ok (.aload_n 0, 1) := dk_42 (dk_at dksX4_bar_1 17 rfl rfl)
theorem dX4_bar_40 : decode cX4_bar 40 = .ok (.iconst 1, 1) := dk_4 (dk_at dksX4_bar_1 18 rfl rfl)
theorem dX4_bar_41 : decode cX4_bar 41 = .ok (.invokevirtual 80, 3) := dk_182 0 80 (dk_at dksX4_bar_1 19 rfl rfl)
theorem dX4_bar_44 : decode cX4_bar 44 = .ok (.ireturn, 1) := dk_172 (dk_at dksX4_bar_1 22 rfl rfl)
theorem dX4_bar_45 : decode cX4_bar 45 = .ok (.aload_n 0, 1) := dk_42 (dk_at dksX4_bar_1 23 rfl rfl)
theorem dX4_bar_46 : decode cX4_bar 46 = .ok (.iload_n 3, 1) := dk_29 (dk_at dksX4_bar_2 0 rfl rfl)
theorem dX4_bar_47 : decode cX4_bar 47 = .ok (.iload 4, 2) := dk_21 4 (dk_at dksX4_bar_2 1 rfl rfl)
theorem dX4_bar_49 : decode cX4_bar 49 = .ok (.iload 5, 2) := dk_21 5 (dk_at dksX4_bar_2 3 rfl rfl)
theorem dX4_bar_51 : decode cX4_bar 51 = .ok (.invokevirtual 94, 3) := dk_182 0 94 (dk_at dksX4_bar_2 5 rfl rfl)
theorem dX4_bar_54 : decode cX4_bar 54 = .ok (.ifCond .eq 7, 3) := dk_153 0 7 (dk_at dksX4_bar_2 8 rfl rfl)
theorem dX4_bar_57 : decode cX4_bar 57 = .ok (.iconst 0, 1) := dk_3 (dk_at dksX4_bar_2 11 rfl rfl)
theorem dX4_bar_58 : decode cX4_bar 58 = .ok (.goto 8, 3) := dk_167 0 8 (dk_at dksX4_bar_2 12 rfl rfl)
theorem dX4_bar_61 : decode cX4_bar 61 = .ok (.aload_n 0, 1) := dk_42 (dk_at dksX4_bar_2 15 rfl rfl)
theorem dX4_bar_62 : decode cX4_bar 62 = .ok (.iconst 2, 1) := dk_5 (dk_at dksX4_bar_2 16 rfl rfl)
theorem dX4_bar_63 : decode cX4_bar 63 = .ok (.invokevirtual 80, 3) := dk_182 0 80 (dk_at dksX4_bar_2 17 rfl rfl)
theorem dX4_bar_66 : decode cX4_bar 66 = .ok (.ireturn, 1) := dk_172 (dk_at dksX4_bar_2 20 rfl rfl)
abbrev cX4_all : ByteArray := prog_26_method_60_code
def yX4_all : MethodName := ⟨RX4, "all", "(IIIIII)I"⟩
def dkwX4_all_3 : List UInt8 := [182, 0, 84, 172]
abbrev dktX4_all_3 : List UInt8 := dkwX4_all_3 ++ []
def dkwX4_all_2 : List UInt8 := [153, 0, 10, 4, 21, 8, 120, 167, 0, 4, 3, 128, 54, 7, 132, 8, 1, 167, 255, 200, 42, 21, 7]
abbrev dktX4_all_2 : List UInt8 := dkwX4_all_2 ++ dktX4_all_3
def dkwX4_all_1 : List UInt8 := [184, 0, 156, 42, 180, 0, 31, 27, 21, 8, 79, 21, 7, 42, 21, 4, 21, 5, 21, 6, 182, 0, 229]
abbrev dktX4_all_1 : List UInt8 := dkwX4_all_1 ++ dktX4_all_2
def dkwX4_all_0 : List UInt8 := [3, 54, 7, 28, 54, 8, 21, 8, 29, 163, 0, 56, 42, 180, 0, 25, 3, 42, 180, 0, 31, 3]
abbrev dktX4_all_0 : List UInt8 := dkwX4_all_0 ++ dktX4_all_1
theorem dksX4_all_0 : cX4_all.data.toList.drop 0 = dktX4_all_0 := by decide +kernel
theorem dksX4_all_1 : cX4_all.data.toList.drop 22 = dktX4_all_1 := dk_seg dksX4_all_0 22 rfl rfl
theorem dksX4_all_2 : cX4_all.data.toList.drop 45 = dktX4_all_2 := dk_seg dksX4_all_1 23 rfl rfl
theorem dksX4_all_3 : cX4_all.data.toList.drop 68 = dktX4_all_3 := dk_seg dksX4_all_2 23 rfl rfl
theorem dX4_all_0 : decode cX4_all 0 = .ok (.iconst 0, 1) := dk_3 (dk_at dksX4_all_0 0 rfl rfl)
theorem dX4_all_1 : decode cX4_all 1 = .ok (.istore 7, 2) := dk_54 7 (dk_at dksX4_all_0 1 rfl rfl)
theorem dX4_all_3 : decode cX4_all 3 = .ok (.iload_n 2, 1) := dk_28 (dk_at dksX4_all_0 3 rfl rfl)
theorem dX4_all_4 : decode cX4_all 4 = .ok (.istore 8, 2) := dk_54 8 (dk_at dksX4_all_0 4 rfl rfl)
theorem dX4_all_6 : decode cX4_all 6 = .ok (.iload 8, 2) := dk_21 8 (dk_at dksX4_all_0 6 rfl rfl)
theorem dX4_all_8 : decode cX4_all 8 = .ok (.iload_n 3, 1) := dk_29 (dk_at dksX4_all_0 8 rfl rfl)
theorem dX4_all_9 : decode cX4_all 9 = .ok (.if_icmp .gt 56, 3) := dk_163 0 56 (dk_at dksX4_all_0 9 rfl rfl)
theorem dX4_all_12 : decode cX4_all 12 = .ok (.aload_n 0, 1) := dk_42 (dk_at dksX4_all_0 12 rfl rfl)
theorem dX4_all_13 : decode cX4_all 13 = .ok (.getfield 25, 3) := dk_180 0 25 (dk_at dksX4_all_0 13 rfl rfl)
theorem dX4_all_16 : decode cX4_all 16 = .ok (.iconst 0, 1) := dk_3 (dk_at dksX4_all_0 16 rfl rfl)
theorem dX4_all_17 : decode cX4_all 17 = .ok (.aload_n 0, 1) := dk_42 (dk_at dksX4_all_0 17 rfl rfl)
theorem dX4_all_18 : decode cX4_all 18 = .ok (.getfield 31, 3) := dk_180 0 31 (dk_at dksX4_all_0 18 rfl rfl)
theorem dX4_all_21 : decode cX4_all 21 = .ok (.iconst 0, 1) := dk_3 (dk_at dksX4_all_0 21 rfl rfl)
theorem dX4_all_22 : decode cX4_all 22 = .ok (.invokestatic 156, 3) := dk_184 0 156 (dk_at dksX4_all_1 0 rfl rfl)
theorem dX4_all_25 : decode cX4_all 25 = .ok (.aload_n 0, 1) := dk_42 (dk_at dksX4_all_1 3 rfl rfl)
theorem dX4_all_26 : decode cX4_all 26 = .ok (.getfield 31, 3) := dk_180 0 31 (dk_at dksX4_all_1 4 rfl rfl)
theorem dX4_all_29 : decode cX4_all 29 = .ok (.iload_n 1, 1) := dk_27 (dk_at dksX4_all_1 7 rfl rfl)
theorem dX4_all_30 : decode cX4_all 30 = .ok (.iload 8, 2) := dk_21 8 (dk_at dksX4_all_1 8 rfl rfl)
theorem dX4_all_32 : decode cX4_all 32 = .ok (.iastore, 1) := dk_79 (dk_at dksX4_all_1 10 rfl rfl)
theorem dX4_all_33 : decode cX4_all 33 = .ok (.iload 7, 2) := dk_21 7 (dk_at dksX4_all_1 11 rfl rfl)
theorem dX4_all_35 : decode cX4_all 35 = .ok (.aload_n 0, 1) := dk_42 (dk_at dksX4_all_1 13 rfl rfl)
theorem dX4_all_36 : decode cX4_all 36 = .ok (.iload 4, 2) := dk_21 4 (dk_at dksX4_all_1 14 rfl rfl)
theorem dX4_all_38 : decode cX4_all 38 = .ok (.iload 5, 2) := dk_21 5 (dk_at dksX4_all_1 16 rfl rfl)
theorem dX4_all_40 : decode cX4_all 40 = .ok (.iload 6, 2) := dk_21 6 (dk_at dksX4_all_1 18 rfl rfl)
theorem dX4_all_42 : decode cX4_all 42 = .ok (.invokevirtual 229, 3) := dk_182 0 229 (dk_at dksX4_all_1 20 rfl rfl)
theorem dX4_all_45 : decode cX4_all 45 = .ok (.ifCond .eq 10, 3) := dk_153 0 10 (dk_at dksX4_all_2 0 rfl rfl)
theorem dX4_all_48 : decode cX4_all 48 = .ok (.iconst 1, 1) := dk_4 (dk_at dksX4_all_2 3 rfl rfl)
theorem dX4_all_49 : decode cX4_all 49 = .ok (.iload 8, 2) := dk_21 8 (dk_at dksX4_all_2 4 rfl rfl)
theorem dX4_all_51 : decode cX4_all 51 = .ok (.ishl, 1) := dk_120 (dk_at dksX4_all_2 6 rfl rfl)
theorem dX4_all_52 : decode cX4_all 52 = .ok (.goto 4, 3) := dk_167 0 4 (dk_at dksX4_all_2 7 rfl rfl)
theorem dX4_all_55 : decode cX4_all 55 = .ok (.iconst 0, 1) := dk_3 (dk_at dksX4_all_2 10 rfl rfl)
theorem dX4_all_56 : decode cX4_all 56 = .ok (.ior, 1) := dk_128 (dk_at dksX4_all_2 11 rfl rfl)
theorem dX4_all_57 : decode cX4_all 57 = .ok (.istore 7, 2) := dk_54 7 (dk_at dksX4_all_2 12 rfl rfl)
theorem dX4_all_59 : decode cX4_all 59 = .ok (.iinc 8 1, 3) := dk_132 8 1 (dk_at dksX4_all_2 14 rfl rfl)
theorem dX4_all_62 : decode cX4_all 62 = .ok (.goto (-56), 3) := dk_167 255 200 (dk_at dksX4_all_2 17 rfl rfl)
theorem dX4_all_65 : decode cX4_all 65 = .ok (.aload_n 0, 1) := dk_42 (dk_at dksX4_all_2 20 rfl rfl)
theorem dX4_all_66 : decode cX4_all 66 = .ok (.iload 7, 2) := dk_21 7 (dk_at dksX4_all_2 21 rfl rfl)
theorem dX4_all_68 : decode cX4_all 68 = .ok (.invokevirtual 84, 3) := dk_182 0 84 (dk_at dksX4_all_3 0 rfl rfl)
theorem dX4_all_71 : decode cX4_all 71 = .ok (.ireturn, 1) := dk_172 (dk_at dksX4_all_3 3 rfl rfl)
abbrev cX4_goesSo : ByteArray := prog_26_method_58_code
def yX4_goesSo : MethodName := ⟨RX4, "goesSo", "(III)Z"⟩
def dkwX4_goesSo_5 : List UInt8 := [21, 4, 172]
abbrev dktX4_goesSo_5 : List UInt8 := dkwX4_goesSo_5 ++ []
def dkwX4_goesSo_4 : List UInt8 := [3, 54, 4, 21, 4, 153, 0, 12, 42, 180, 0, 31, 21, 6, 184, 0, 184, 132, 5, 1, 167, 255, 147]
abbrev dktX4_goesSo_4 : List UInt8 := dkwX4_goesSo_4 ++ dktX4_goesSo_5
def dkwX4_goesSo_3 : List UInt8 := [180, 0, 31, 6, 46, 184, 0, 170, 42, 180, 0, 16, 27, 21, 5, 96, 46, 160, 0, 7, 4, 167, 0, 4]
abbrev dktX4_goesSo_3 : List UInt8 := dkwX4_goesSo_3 ++ dktX4_goesSo_4
def dkwX4_goesSo_2 : List UInt8 := [180, 0, 31, 42, 180, 0, 31, 16, 26, 5, 21, 6, 104, 96, 4, 96, 46, 42, 180, 0, 31, 4, 46, 42]
abbrev dktX4_goesSo_2 : List UInt8 := dkwX4_goesSo_2 ++ dktX4_goesSo_3
def dkwX4_goesSo_1 : List UInt8 := [96, 46, 54, 6, 42, 180, 0, 31, 21, 6, 42, 180, 0, 31, 7, 46, 184, 0, 176, 153, 0, 52, 42]
abbrev dktX4_goesSo_1 : List UInt8 := dkwX4_goesSo_1 ++ dktX4_goesSo_2
def dkwX4_goesSo_0 : List UInt8 := [4, 54, 4, 3, 54, 5, 21, 5, 29, 162, 0, 109, 21, 4, 153, 0, 104, 42, 180, 0, 16, 28, 21, 5]
abbrev dktX4_goesSo_0 : List UInt8 := dkwX4_goesSo_0 ++ dktX4_goesSo_1
theorem dksX4_goesSo_0 : cX4_goesSo.data.toList.drop 0 = dktX4_goesSo_0 := by decide +kernel
theorem dksX4_goesSo_1 : cX4_goesSo.data.toList.drop 24 = dktX4_goesSo_1 := dk_seg dksX4_goesSo_0 24 rfl rfl
theorem dksX4_goesSo_2 : cX4_goesSo.data.toList.drop 47 = dktX4_goesSo_2 := dk_seg dksX4_goesSo_1 23 rfl rfl
theorem dksX4_goesSo_3 : cX4_goesSo.data.toList.drop 71 = dktX4_goesSo_3 := dk_seg dksX4_goesSo_2 24 rfl rfl
theorem dksX4_goesSo_4 : cX4_goesSo.data.toList.drop 95 = dktX4_goesSo_4 := dk_seg dksX4_goesSo_3 24 rfl rfl
theorem dksX4_goesSo_5 : cX4_goesSo.data.toList.drop 118 = dktX4_goesSo_5 := dk_seg dksX4_goesSo_4 23 rfl rfl
theorem dX4_goesSo_0 : decode cX4_goesSo 0 = .ok (.iconst 1, 1) := dk_4 (dk_at dksX4_goesSo_0 0 rfl rfl)
theorem dX4_goesSo_1 : decode cX4_goesSo 1 = .ok (.istore 4, 2) := dk_54 4 (dk_at dksX4_goesSo_0 1 rfl rfl)
theorem dX4_goesSo_3 : decode cX4_goesSo 3 = .ok (.iconst 0, 1) := dk_3 (dk_at dksX4_goesSo_0 3 rfl rfl)
theorem dX4_goesSo_4 : decode cX4_goesSo 4 = .ok (.istore 5, 2) := dk_54 5 (dk_at dksX4_goesSo_0 4 rfl rfl)
theorem dX4_goesSo_6 : decode cX4_goesSo 6 = .ok (.iload 5, 2) := dk_21 5 (dk_at dksX4_goesSo_0 6 rfl rfl)
theorem dX4_goesSo_8 : decode cX4_goesSo 8 = .ok (.iload_n 3, 1) := dk_29 (dk_at dksX4_goesSo_0 8 rfl rfl)
theorem dX4_goesSo_9 : decode cX4_goesSo 9 = .ok (.if_icmp .ge 109, 3) := dk_162 0 109 (dk_at dksX4_goesSo_0 9 rfl rfl)
theorem dX4_goesSo_12 : decode cX4_goesSo 12 = .ok (.iload 4, 2) := dk_21 4 (dk_at dksX4_goesSo_0 12 rfl rfl)
theorem dX4_goesSo_14 : decode cX4_goesSo 14 = .ok (.ifCond .eq 104, 3) := dk_153 0 104 (dk_at dksX4_goesSo_0 14 rfl rfl)
theorem dX4_goesSo_17 : decode cX4_goesSo 17 = .ok (.aload_n 0, 1) := dk_42 (dk_at dksX4_goesSo_0 17 rfl rfl)
theorem dX4_goesSo_18 : decode cX4_goesSo 18 = .ok (.getfield 16, 3) := dk_180 0 16 (dk_at dksX4_goesSo_0 18 rfl rfl)
theorem dX4_goesSo_21 : decode cX4_goesSo 21 = .ok (.iload_n 2, 1) := dk_28 (dk_at dksX4_goesSo_0 21 rfl rfl)
theorem dX4_goesSo_22 : decode cX4_goesSo 22 = .ok (.iload 5, 2) := dk_21 5 (dk_at dksX4_goesSo_0 22 rfl rfl)
theorem dX4_goesSo_24 : decode cX4_goesSo 24 = .ok (.iadd, 1) := dk_96 (dk_at dksX4_goesSo_1 0 rfl rfl)
theorem dX4_goesSo_25 : decode cX4_goesSo 25 = .ok (.iaload, 1) := dk_46 (dk_at dksX4_goesSo_1 1 rfl rfl)
theorem dX4_goesSo_26 : decode cX4_goesSo 26 = .ok (.istore 6, 2) := dk_54 6 (dk_at dksX4_goesSo_1 2 rfl rfl)
theorem dX4_goesSo_28 : decode cX4_goesSo 28 = .ok (.aload_n 0, 1) := dk_42 (dk_at dksX4_goesSo_1 4 rfl rfl)
theorem dX4_goesSo_29 : decode cX4_goesSo 29 = .ok (.getfield 31, 3) := dk_180 0 31 (dk_at dksX4_goesSo_1 5 rfl rfl)
theorem dX4_goesSo_32 : decode cX4_goesSo 32 = .ok (.iload 6, 2) := dk_21 6 (dk_at dksX4_goesSo_1 8 rfl rfl)
theorem dX4_goesSo_34 : decode cX4_goesSo 34 = .ok (.aload_n 0, 1) := dk_42 (dk_at dksX4_goesSo_1 10 rfl rfl)
theorem dX4_goesSo_35 : decode cX4_goesSo 35 = .ok (.getfield 31, 3) := dk_180 0 31 (dk_at dksX4_goesSo_1 11 rfl rfl)
theorem dX4_goesSo_38 : decode cX4_goesSo 38 = .ok (.iconst 4, 1) := dk_7 (dk_at dksX4_goesSo_1 14 rfl rfl)
theorem dX4_goesSo_39 : decode cX4_goesSo 39 = .ok (.iaload, 1) := dk_46 (dk_at dksX4_goesSo_1 15 rfl rfl)
theorem dX4_goesSo_40 : decode cX4_goesSo 40 = .ok (.invokestatic 176, 3) := dk_184 0 176 (dk_at dksX4_goesSo_1 16 rfl rfl)
theorem dX4_goesSo_43 : decode cX4_goesSo 43 = .ok (.ifCond .eq 52, 3) := dk_153 0 52 (dk_at dksX4_goesSo_1 19 rfl rfl)
theorem dX4_goesSo_46 : decode cX4_goesSo 46 = .ok (.aload_n 0, 1) := dk_42 (dk_at dksX4_goesSo_1 22 rfl rfl)
theorem dX4_goesSo_47 : decode cX4_goesSo 47 = .ok (.getfield 31, 3) := dk_180 0 31 (dk_at dksX4_goesSo_2 0 rfl rfl)
theorem dX4_goesSo_50 : decode cX4_goesSo 50 = .ok (.aload_n 0, 1) := dk_42 (dk_at dksX4_goesSo_2 3 rfl rfl)
theorem dX4_goesSo_51 : decode cX4_goesSo 51 = .ok (.getfield 31, 3) := dk_180 0 31 (dk_at dksX4_goesSo_2 4 rfl rfl)
theorem dX4_goesSo_54 : decode cX4_goesSo 54 = .ok (.bipush 26, 2) := dk_16 26 (dk_at dksX4_goesSo_2 7 rfl rfl)
theorem dX4_goesSo_56 : decode cX4_goesSo 56 = .ok (.iconst 2, 1) := dk_5 (dk_at dksX4_goesSo_2 9 rfl rfl)
theorem dX4_goesSo_57 : decode cX4_goesSo 57 = .ok (.iload 6, 2) := dk_21 6 (dk_at dksX4_goesSo_2 10 rfl rfl)
theorem dX4_goesSo_59 : decode cX4_goesSo 59 = .ok (.imul, 1) := dk_104 (dk_at dksX4_goesSo_2 12 rfl rfl)
theorem dX4_goesSo_60 : decode cX4_goesSo 60 = .ok (.iadd, 1) := dk_96 (dk_at dksX4_goesSo_2 13 rfl rfl)
theorem dX4_goesSo_61 : decode cX4_goesSo 61 = .ok (.iconst 1, 1) := dk_4 (dk_at dksX4_goesSo_2 14 rfl rfl)
theorem dX4_goesSo_62 : decode cX4_goesSo 62 = .ok (.iadd, 1) := dk_96 (dk_at dksX4_goesSo_2 15 rfl rfl)
theorem dX4_goesSo_63 : decode cX4_goesSo 63 = .ok (.iaload, 1) := dk_46 (dk_at dksX4_goesSo_2 16 rfl rfl)
theorem dX4_goesSo_64 : decode cX4_goesSo 64 = .ok (.aload_n 0, 1) := dk_42 (dk_at dksX4_goesSo_2 17 rfl rfl)
theorem dX4_goesSo_65 : decode cX4_goesSo 65 = .ok (.getfield 31, 3) := dk_180 0 31 (dk_at dksX4_goesSo_2 18 rfl rfl)
theorem dX4_goesSo_68 : decode cX4_goesSo 68 = .ok (.iconst 1, 1) := dk_4 (dk_at dksX4_goesSo_2 21 rfl rfl)
theorem dX4_goesSo_69 : decode cX4_goesSo 69 = .ok (.iaload, 1) := dk_46 (dk_at dksX4_goesSo_2 22 rfl rfl)
theorem dX4_goesSo_70 : decode cX4_goesSo 70 = .ok (.aload_n 0, 1) := dk_42 (dk_at dksX4_goesSo_2 23 rfl rfl)
theorem dX4_goesSo_71 : decode cX4_goesSo 71 = .ok (.getfield 31, 3) := dk_180 0 31 (dk_at dksX4_goesSo_3 0 rfl rfl)
theorem dX4_goesSo_74 : decode cX4_goesSo 74 = .ok (.iconst 3, 1) := dk_6 (dk_at dksX4_goesSo_3 3 rfl rfl)
theorem dX4_goesSo_75 : decode cX4_goesSo 75 = .ok (.iaload, 1) := dk_46 (dk_at dksX4_goesSo_3 4 rfl rfl)
theorem dX4_goesSo_76 : decode cX4_goesSo 76 = .ok (.invokestatic 170, 3) := dk_184 0 170 (dk_at dksX4_goesSo_3 5 rfl rfl)
theorem dX4_goesSo_79 : decode cX4_goesSo 79 = .ok (.aload_n 0, 1) := dk_42 (dk_at dksX4_goesSo_3 8 rfl rfl)
theorem dX4_goesSo_80 : decode cX4_goesSo 80 = .ok (.getfield 16, 3) := dk_180 0 16 (dk_at dksX4_goesSo_3 9 rfl rfl)
theorem dX4_goesSo_83 : decode cX4_goesSo 83 = .ok (.iload_n 1, 1) := dk_27 (dk_at dksX4_goesSo_3 12 rfl rfl)
theorem dX4_goesSo_84 : decode cX4_goesSo 84 = .ok (.iload 5, 2) := dk_21 5 (dk_at dksX4_goesSo_3 13 rfl rfl)
theorem dX4_goesSo_86 : decode cX4_goesSo 86 = .ok (.iadd, 1) := dk_96 (dk_at dksX4_goesSo_3 15 rfl rfl)
theorem dX4_goesSo_87 : decode cX4_goesSo 87 = .ok (.iaload, 1) := dk_46 (dk_at dksX4_goesSo_3 16 rfl rfl)
theorem dX4_goesSo_88 : decode cX4_goesSo 88 = .ok (.if_icmp .ne 7, 3) := dk_160 0 7 (dk_at dksX4_goesSo_3 17 rfl rfl)
theorem dX4_goesSo_91 : decode cX4_goesSo 91 = .ok (.iconst 1, 1) := dk_4 (dk_at dksX4_goesSo_3 20 rfl rfl)
theorem dX4_goesSo_92 : decode cX4_goesSo 92 = .ok (.goto 4, 3) := dk_167 0 4 (dk_at dksX4_goesSo_3 21 rfl rfl)
theorem dX4_goesSo_95 : decode cX4_goesSo 95 = .ok (.iconst 0, 1) := dk_3 (dk_at dksX4_goesSo_4 0 rfl rfl)
theorem dX4_goesSo_96 : decode cX4_goesSo 96 = .ok (.istore 4, 2) := dk_54 4 (dk_at dksX4_goesSo_4 1 rfl rfl)
theorem dX4_goesSo_98 : decode cX4_goesSo 98 = .ok (.iload 4, 2) := dk_21 4 (dk_at dksX4_goesSo_4 3 rfl rfl)
theorem dX4_goesSo_100 : decode cX4_goesSo 100 = .ok (.ifCond .eq 12, 3) := dk_153 0 12 (dk_at dksX4_goesSo_4 5 rfl rfl)
theorem dX4_goesSo_103 : decode cX4_goesSo 103 = .ok (.aload_n 0, 1) := dk_42 (dk_at dksX4_goesSo_4 8 rfl rfl)
theorem dX4_goesSo_104 : decode cX4_goesSo 104 = .ok (.getfield 31, 3) := dk_180 0 31 (dk_at dksX4_goesSo_4 9 rfl rfl)
theorem dX4_goesSo_107 : decode cX4_goesSo 107 = .ok (.iload 6, 2) := dk_21 6 (dk_at dksX4_goesSo_4 12 rfl rfl)
theorem dX4_goesSo_109 : decode cX4_goesSo 109 = .ok (.invokestatic 184, 3) := dk_184 0 184 (dk_at dksX4_goesSo_4 14 rfl rfl)
theorem dX4_goesSo_112 : decode cX4_goesSo 112 = .ok (.iinc 5 1, 3) := dk_132 5 1 (dk_at dksX4_goesSo_4 17 rfl rfl)
theorem dX4_goesSo_115 : decode cX4_goesSo 115 = .ok (.goto (-109), 3) := dk_167 255 147 (dk_at dksX4_goesSo_4 20 rfl rfl)
theorem dX4_goesSo_118 : decode cX4_goesSo 118 = .ok (.iload 4, 2) := dk_21 4 (dk_at dksX4_goesSo_5 0 rfl rfl)
theorem dX4_goesSo_120 : decode cX4_goesSo 120 = .ok (.ireturn, 1) := dk_172 (dk_at dksX4_goesSo_5 2 rfl rfl)
abbrev cX4_fitsOf : ByteArray := prog_26_method_62_code
def yX4_fitsOf : MethodName := ⟨RX4, "fitsOf", "(IIIIIII)I"⟩
def dkwX4_fitsOf_5 : List UInt8 := [28, 104, 29, 96, 16, 40, 21, 4, 104, 21, 5, 96, 21, 6, 182, 0, 236, 172]
abbrev dktX4_fitsOf_5 : List UInt8 := dkwX4_fitsOf_5 ++ []
def dkwX4_fitsOf_4 : List UInt8 := [21, 4, 104, 21, 5, 96, 21, 6, 182, 0, 236, 167, 0, 30, 42, 21, 9, 4, 96, 3, 16, 9, 16, 40]
abbrev dktX4_fitsOf_4 : List UInt8 := dkwX4_fitsOf_4 ++ dktX4_fitsOf_5
def dkwX4_fitsOf_3 : List UInt8 := [6, 27, 104, 96, 54, 9, 21, 7, 154, 0, 30, 42, 21, 9, 4, 8, 16, 40, 28, 104, 29, 96, 16, 40]
abbrev dktX4_fitsOf_3 : List UInt8 := dkwX4_fitsOf_3 ++ dktX4_fitsOf_4
def dkwX4_fitsOf_2 : List UInt8 := [42, 28, 29, 21, 4, 21, 5, 21, 6, 182, 0, 232, 54, 8, 21, 8, 153, 0, 6, 21, 8, 172, 16, 7]
abbrev dktX4_fitsOf_2 : List UInt8 := dkwX4_fitsOf_2 ++ dktX4_fitsOf_3
def dkwX4_fitsOf_1 : List UInt8 := [21, 6, 4, 16, 8, 184, 0, 71, 153, 0, 13, 21, 7, 3, 4, 184, 0, 71, 154, 0, 6, 18, 79, 172]
abbrev dktX4_fitsOf_1 : List UInt8 := dkwX4_fitsOf_1 ++ dktX4_fitsOf_2
def dkwX4_fitsOf_0 : List UInt8 := [42, 27, 182, 0, 188, 153, 0, 39, 28, 184, 0, 75, 153, 0, 32, 21, 4, 184, 0, 75, 153, 0, 24]
abbrev dktX4_fitsOf_0 : List UInt8 := dkwX4_fitsOf_0 ++ dktX4_fitsOf_1
theorem dksX4_fitsOf_0 : cX4_fitsOf.data.toList.drop 0 = dktX4_fitsOf_0 := by decide +kernel
theorem dksX4_fitsOf_1 : cX4_fitsOf.data.toList.drop 23 = dktX4_fitsOf_1 := dk_seg dksX4_fitsOf_0 23 rfl rfl
theorem dksX4_fitsOf_2 : cX4_fitsOf.data.toList.drop 47 = dktX4_fitsOf_2 := dk_seg dksX4_fitsOf_1 24 rfl rfl
theorem dksX4_fitsOf_3 : cX4_fitsOf.data.toList.drop 71 = dktX4_fitsOf_3 := dk_seg dksX4_fitsOf_2 24 rfl rfl
theorem dksX4_fitsOf_4 : cX4_fitsOf.data.toList.drop 95 = dktX4_fitsOf_4 := dk_seg dksX4_fitsOf_3 24 rfl rfl
theorem dksX4_fitsOf_5 : cX4_fitsOf.data.toList.drop 119 = dktX4_fitsOf_5 := dk_seg dksX4_fitsOf_4 24 rfl rfl
theorem dX4_fitsOf_0 : decode cX4_fitsOf 0 = .ok (.aload_n 0, 1) := dk_42 (dk_at dksX4_fitsOf_0 0 rfl rfl)
theorem dX4_fitsOf_1 : decode cX4_fitsOf 1 = .ok (.iload_n 1, 1) := dk_27 (dk_at dksX4_fitsOf_0 1 rfl rfl)
theorem dX4_fitsOf_2 : decode cX4_fitsOf 2 = .ok (.invokevirtual 188, 3) := dk_182 0 188 (dk_at dksX4_fitsOf_0 2 rfl rfl)
theorem dX4_fitsOf_5 : decode cX4_fitsOf 5 = .ok (.ifCond .eq 39, 3) := dk_153 0 39 (dk_at dksX4_fitsOf_0 5 rfl rfl)
theorem dX4_fitsOf_8 : decode cX4_fitsOf 8 = .ok (.iload_n 2, 1) := dk_28 (dk_at dksX4_fitsOf_0 8 rfl rfl)
theorem dX4_fitsOf_9 : decode cX4_fitsOf 9 = .ok (.invokestatic 75, 3) := dk_184 0 75 (dk_at dksX4_fitsOf_0 9 rfl rfl)
theorem dX4_fitsOf_12 : decode cX4_fitsOf 12 = .ok (.ifCond .eq 32, 3) := dk_153 0 32 (dk_at dksX4_fitsOf_0 12 rfl rfl)
theorem dX4_fitsOf_15 : decode cX4_fitsOf 15 = .ok (.iload 4, 2) := dk_21 4 (dk_at dksX4_fitsOf_0 15 rfl rfl)
theorem dX4_fitsOf_17 : decode cX4_fitsOf 17 = .ok (.invokestatic 75, 3) := dk_184 0 75 (dk_at dksX4_fitsOf_0 17 rfl rfl)
theorem dX4_fitsOf_20 : decode cX4_fitsOf 20 = .ok (.ifCond .eq 24, 3) := dk_153 0 24 (dk_at dksX4_fitsOf_0 20 rfl rfl)
theorem dX4_fitsOf_23 : decode cX4_fitsOf 23 = .ok (.iload 6, 2) := dk_21 6 (dk_at dksX4_fitsOf_1 0 rfl rfl)
theorem dX4_fitsOf_25 : decode cX4_fitsOf 25 = .ok (.iconst 1, 1) := dk_4 (dk_at dksX4_fitsOf_1 2 rfl rfl)
theorem dX4_fitsOf_26 : decode cX4_fitsOf 26 = .ok (.bipush 8, 2) := dk_16 8 (dk_at dksX4_fitsOf_1 3 rfl rfl)
theorem dX4_fitsOf_28 : decode cX4_fitsOf 28 = .ok (.invokestatic 71, 3) := dk_184 0 71 (dk_at dksX4_fitsOf_1 5 rfl rfl)
theorem dX4_fitsOf_31 : decode cX4_fitsOf 31 = .ok (.ifCond .eq 13, 3) := dk_153 0 13 (dk_at dksX4_fitsOf_1 8 rfl rfl)
theorem dX4_fitsOf_34 : decode cX4_fitsOf 34 = .ok (.iload 7, 2) := dk_21 7 (dk_at dksX4_fitsOf_1 11 rfl rfl)
theorem dX4_fitsOf_36 : decode cX4_fitsOf 36 = .ok (.iconst 0, 1) := dk_3 (dk_at dksX4_fitsOf_1 13 rfl rfl)
theorem dX4_fitsOf_37 : decode cX4_fitsOf 37 = .ok (.iconst 1, 1) := dk_4 (dk_at dksX4_fitsOf_1 14 rfl rfl)
theorem dX4_fitsOf_38 : decode cX4_fitsOf 38 = .ok (.invokestatic 71, 3) := dk_184 0 71 (dk_at dksX4_fitsOf_1 15 rfl rfl)
theorem dX4_fitsOf_41 : decode cX4_fitsOf 41 = .ok (.ifCond .ne 6, 3) := dk_154 0 6 (dk_at dksX4_fitsOf_1 18 rfl rfl)
theorem dX4_fitsOf_44 : decode cX4_fitsOf 44 = .ok (.ldc 79, 2) := dk_18 79 (dk_at dksX4_fitsOf_1 21 rfl rfl)
theorem dX4_fitsOf_46 : decode cX4_fitsOf 46 = .ok (.ireturn, 1) := dk_172 (dk_at dksX4_fitsOf_1 23 rfl rfl)
theorem dX4_fitsOf_47 : decode cX4_fitsOf 47 = .ok (.aload_n 0, 1) := dk_42 (dk_at dksX4_fitsOf_2 0 rfl rfl)
theorem dX4_fitsOf_48 : decode cX4_fitsOf 48 = .ok (.iload_n 2, 1) := dk_28 (dk_at dksX4_fitsOf_2 1 rfl rfl)
theorem dX4_fitsOf_49 : decode cX4_fitsOf 49 = .ok (.iload_n 3, 1) := dk_29 (dk_at dksX4_fitsOf_2 2 rfl rfl)
theorem dX4_fitsOf_50 : decode cX4_fitsOf 50 = .ok (.iload 4, 2) := dk_21 4 (dk_at dksX4_fitsOf_2 3 rfl rfl)
theorem dX4_fitsOf_52 : decode cX4_fitsOf 52 = .ok (.iload 5, 2) := dk_21 5 (dk_at dksX4_fitsOf_2 5 rfl rfl)
theorem dX4_fitsOf_54 : decode cX4_fitsOf 54 = .ok (.iload 6, 2) := dk_21 6 (dk_at dksX4_fitsOf_2 7 rfl rfl)
theorem dX4_fitsOf_56 : decode cX4_fitsOf 56 = .ok (.invokevirtual 232, 3) := dk_182 0 232 (dk_at dksX4_fitsOf_2 9 rfl rfl)
theorem dX4_fitsOf_59 : decode cX4_fitsOf 59 = .ok (.istore 8, 2) := dk_54 8 (dk_at dksX4_fitsOf_2 12 rfl rfl)
theorem dX4_fitsOf_61 : decode cX4_fitsOf 61 = .ok (.iload 8, 2) := dk_21 8 (dk_at dksX4_fitsOf_2 14 rfl rfl)
theorem dX4_fitsOf_63 : decode cX4_fitsOf 63 = .ok (.ifCond .eq 6, 3) := dk_153 0 6 (dk_at dksX4_fitsOf_2 16 rfl rfl)
theorem dX4_fitsOf_66 : decode cX4_fitsOf 66 = .ok (.iload 8, 2) := dk_21 8 (dk_at dksX4_fitsOf_2 19 rfl rfl)
theorem dX4_fitsOf_68 : decode cX4_fitsOf 68 = .ok (.ireturn, 1) := dk_172 (dk_at dksX4_fitsOf_2 21 rfl rfl)
theorem dX4_fitsOf_69 : decode cX4_fitsOf 69 = .ok (.bipush 7, 2) := dk_16 7 (dk_at dksX4_fitsOf_2 22 rfl rfl)
theorem dX4_fitsOf_71 : decode cX4_fitsOf 71 = .ok (.iconst 3, 1) := dk_6 (dk_at dksX4_fitsOf_3 0 rfl rfl)
theorem dX4_fitsOf_72 : decode cX4_fitsOf 72 = .ok (.iload_n 1, 1) := dk_27 (dk_at dksX4_fitsOf_3 1 rfl rfl)
theorem dX4_fitsOf_73 : decode cX4_fitsOf 73 = .ok (.imul, 1) := dk_104 (dk_at dksX4_fitsOf_3 2 rfl rfl)
theorem dX4_fitsOf_74 : decode cX4_fitsOf 74 = .ok (.iadd, 1) := dk_96 (dk_at dksX4_fitsOf_3 3 rfl rfl)
theorem dX4_fitsOf_75 : decode cX4_fitsOf 75 = .ok (.istore 9, 2) := dk_54 9 (dk_at dksX4_fitsOf_3 4 rfl rfl)
theorem dX4_fitsOf_77 : decode cX4_fitsOf 77 = .ok (.iload 7, 2) := dk_21 7 (dk_at dksX4_fitsOf_3 6 rfl rfl)
theorem dX4_fitsOf_79 : decode cX4_fitsOf 79 = .ok (.ifCond .ne 30, 3) := dk_154 0 30 (dk_at dksX4_fitsOf_3 8 rfl rfl)
theorem dX4_fitsOf_82 : decode cX4_fitsOf 82 = .ok (.aload_n 0, 1) := dk_42 (dk_at dksX4_fitsOf_3 11 rfl rfl)
theorem dX4_fitsOf_83 : decode cX4_fitsOf 83 = .ok (.iload 9, 2) := dk_21 9 (dk_at dksX4_fitsOf_3 12 rfl rfl)
theorem dX4_fitsOf_85 : decode cX4_fitsOf 85 = .ok (.iconst 1, 1) := dk_4 (dk_at dksX4_fitsOf_3 14 rfl rfl)
theorem dX4_fitsOf_86 : decode cX4_fitsOf 86 = .ok (.iconst 5, 1) := dk_8 (dk_at dksX4_fitsOf_3 15 rfl rfl)
theorem dX4_fitsOf_87 : decode cX4_fitsOf 87 = .ok (.bipush 40, 2) := dk_16 40 (dk_at dksX4_fitsOf_3 16 rfl rfl)
theorem dX4_fitsOf_89 : decode cX4_fitsOf 89 = .ok (.iload_n 2, 1) := dk_28 (dk_at dksX4_fitsOf_3 18 rfl rfl)
theorem dX4_fitsOf_90 : decode cX4_fitsOf 90 = .ok (.imul, 1) := dk_104 (dk_at dksX4_fitsOf_3 19 rfl rfl)
theorem dX4_fitsOf_91 : decode cX4_fitsOf 91 = .ok (.iload_n 3, 1) := dk_29 (dk_at dksX4_fitsOf_3 20 rfl rfl)
theorem dX4_fitsOf_92 : decode cX4_fitsOf 92 = .ok (.iadd, 1) := dk_96 (dk_at dksX4_fitsOf_3 21 rfl rfl)
theorem dX4_fitsOf_93 : decode cX4_fitsOf 93 = .ok (.bipush 40, 2) := dk_16 40 (dk_at dksX4_fitsOf_3 22 rfl rfl)
theorem dX4_fitsOf_95 : decode cX4_fitsOf 95 = .ok (.iload 4, 2) := dk_21 4 (dk_at dksX4_fitsOf_4 0 rfl rfl)
theorem dX4_fitsOf_97 : decode cX4_fitsOf 97 = .ok (.imul, 1) := dk_104 (dk_at dksX4_fitsOf_4 2 rfl rfl)
theorem dX4_fitsOf_98 : decode cX4_fitsOf 98 = .ok (.iload 5, 2) := dk_21 5 (dk_at dksX4_fitsOf_4 3 rfl rfl)
theorem dX4_fitsOf_100 : decode cX4_fitsOf 100 = .ok (.iadd, 1) := dk_96 (dk_at dksX4_fitsOf_4 5 rfl rfl)
theorem dX4_fitsOf_101 : decode cX4_fitsOf 101 = .ok (.iload 6, 2) := dk_21 6 (dk_at dksX4_fitsOf_4 6 rfl rfl)
theorem dX4_fitsOf_103 : decode cX4_fitsOf 103 = .ok (.invokevirtual 236, 3) := dk_182 0 236 (dk_at dksX4_fitsOf_4 8 rfl rfl)
theorem dX4_fitsOf_106 : decode cX4_fitsOf 106 = .ok (.goto 30, 3) := dk_167 0 30 (dk_at dksX4_fitsOf_4 11 rfl rfl)
theorem dX4_fitsOf_109 : decode cX4_fitsOf 109 = .ok (.aload_n 0, 1) := dk_42 (dk_at dksX4_fitsOf_4 14 rfl rfl)
theorem dX4_fitsOf_110 : decode cX4_fitsOf 110 = .ok (.iload 9, 2) := dk_21 9 (dk_at dksX4_fitsOf_4 15 rfl rfl)
theorem dX4_fitsOf_112 : decode cX4_fitsOf 112 = .ok (.iconst 1, 1) := dk_4 (dk_at dksX4_fitsOf_4 17 rfl rfl)
theorem dX4_fitsOf_113 : decode cX4_fitsOf 113 = .ok (.iadd, 1) := dk_96 (dk_at dksX4_fitsOf_4 18 rfl rfl)
theorem dX4_fitsOf_114 : decode cX4_fitsOf 114 = .ok (.iconst 0, 1) := dk_3 (dk_at dksX4_fitsOf_4 19 rfl rfl)
theorem dX4_fitsOf_115 : decode cX4_fitsOf 115 = .ok (.bipush 9, 2) := dk_16 9 (dk_at dksX4_fitsOf_4 20 rfl rfl)
theorem dX4_fitsOf_117 : decode cX4_fitsOf 117 = .ok (.bipush 40, 2) := dk_16 40 (dk_at dksX4_fitsOf_4 22 rfl rfl)
theorem dX4_fitsOf_119 : decode cX4_fitsOf 119 = .ok (.iload_n 2, 1) := dk_28 (dk_at dksX4_fitsOf_5 0 rfl rfl)
theorem dX4_fitsOf_120 : decode cX4_fitsOf 120 = .ok (.imul, 1) := dk_104 (dk_at dksX4_fitsOf_5 1 rfl rfl)
theorem dX4_fitsOf_121 : decode cX4_fitsOf 121 = .ok (.iload_n 3, 1) := dk_29 (dk_at dksX4_fitsOf_5 2 rfl rfl)
theorem dX4_fitsOf_122 : decode cX4_fitsOf 122 = .ok (.iadd, 1) := dk_96 (dk_at dksX4_fitsOf_5 3 rfl rfl)
theorem dX4_fitsOf_123 : decode cX4_fitsOf 123 = .ok (.bipush 40, 2) := dk_16 40 (dk_at dksX4_fitsOf_5 4 rfl rfl)
theorem dX4_fitsOf_125 : decode cX4_fitsOf 125 = .ok (.iload 4, 2) := dk_21 4 (dk_at dksX4_fitsOf_5 6 rfl rfl)
theorem dX4_fitsOf_127 : decode cX4_fitsOf 127 = .ok (.imul, 1) := dk_104 (dk_at dksX4_fitsOf_5 8 rfl rfl)
theorem dX4_fitsOf_128 : decode cX4_fitsOf 128 = .ok (.iload 5, 2) := dk_21 5 (dk_at dksX4_fitsOf_5 9 rfl rfl)
theorem dX4_fitsOf_130 : decode cX4_fitsOf 130 = .ok (.iadd, 1) := dk_96 (dk_at dksX4_fitsOf_5 11 rfl rfl)
theorem dX4_fitsOf_131 : decode cX4_fitsOf 131 = .ok (.iload 6, 2) := dk_21 6 (dk_at dksX4_fitsOf_5 12 rfl rfl)
theorem dX4_fitsOf_133 : decode cX4_fitsOf 133 = .ok (.invokevirtual 236, 3) := dk_182 0 236 (dk_at dksX4_fitsOf_5 14 rfl rfl)
theorem dX4_fitsOf_136 : decode cX4_fitsOf 136 = .ok (.ireturn, 1) := dk_172 (dk_at dksX4_fitsOf_5 17 rfl rfl)
abbrev cX4_share : ByteArray := prog_26_method_63_code
def yX4_share : MethodName := ⟨RX4, "share", "(IIII)I"⟩
def dkwX4_share_8 : List UInt8 := [54, 5, 42, 180, 0, 31, 21, 7, 184, 0, 184, 132, 6, 1, 167, 255, 146, 42, 21, 5, 182, 0, 84, 172]
abbrev dktX4_share_8 : List UInt8 := dkwX4_share_8 ++ []
def dkwX4_share_7 : List UInt8 := [104, 96, 4, 96, 46, 42, 180, 0, 31, 4, 46, 42, 180, 0, 31, 6, 46, 184, 0, 170, 5, 108, 96]
abbrev dktX4_share_7 : List UInt8 := dkwX4_share_7 ++ dktX4_share_8
def dkwX4_share_6 : List UInt8 := [21, 6, 21, 4, 162, 0, 7, 3, 167, 0, 38, 42, 180, 0, 31, 42, 180, 0, 31, 16, 26, 5, 21, 7]
abbrev dktX4_share_6 : List UInt8 := dkwX4_share_6 ++ dktX4_share_7
def dkwX4_share_5 : List UInt8 := [21, 7, 42, 180, 0, 31, 7, 46, 184, 0, 176, 154, 0, 10, 42, 18, 65, 182, 0, 84, 172, 21, 5]
abbrev dktX4_share_5 : List UInt8 := dkwX4_share_5 ++ dktX4_share_6
def dkwX4_share_4 : List UInt8 := [162, 0, 110, 42, 180, 0, 16, 16, 40, 27, 104, 28, 96, 21, 6, 96, 46, 54, 7, 42, 180, 0, 31]
abbrev dktX4_share_4 : List UInt8 := dkwX4_share_4 ++ dktX4_share_5
def dkwX4_share_3 : List UInt8 := [172, 42, 180, 0, 25, 3, 42, 180, 0, 31, 3, 184, 0, 156, 3, 54, 5, 3, 54, 6, 21, 6, 29]
abbrev dktX4_share_3 : List UInt8 := dkwX4_share_3 ++ dktX4_share_4
def dkwX4_share_2 : List UInt8 := [153, 0, 9, 42, 4, 182, 0, 80, 172, 42, 27, 28, 29, 182, 0, 94, 154, 0, 9, 42, 5, 182, 0, 80]
abbrev dktX4_share_2 : List UInt8 := dkwX4_share_2 ++ dktX4_share_3
def dkwX4_share_1 : List UInt8 := [153, 0, 15, 21, 4, 3, 29, 4, 100, 184, 0, 71, 154, 0, 6, 18, 79, 172, 42, 27, 182, 0, 87]
abbrev dktX4_share_1 : List UInt8 := dkwX4_share_1 ++ dktX4_share_2
def dkwX4_share_0 : List UInt8 := [42, 182, 0, 191, 154, 0, 6, 18, 180, 172, 27, 184, 0, 75, 153, 0, 25, 29, 4, 16, 8, 184, 0, 71]
abbrev dktX4_share_0 : List UInt8 := dkwX4_share_0 ++ dktX4_share_1
theorem dksX4_share_0 : cX4_share.data.toList.drop 0 = dktX4_share_0 := by decide +kernel
theorem dksX4_share_1 : cX4_share.data.toList.drop 24 = dktX4_share_1 := dk_seg dksX4_share_0 24 rfl rfl
theorem dksX4_share_2 : cX4_share.data.toList.drop 47 = dktX4_share_2 := dk_seg dksX4_share_1 23 rfl rfl
theorem dksX4_share_3 : cX4_share.data.toList.drop 71 = dktX4_share_3 := dk_seg dksX4_share_2 24 rfl rfl
theorem dksX4_share_4 : cX4_share.data.toList.drop 94 = dktX4_share_4 := dk_seg dksX4_share_3 23 rfl rfl
theorem dksX4_share_5 : cX4_share.data.toList.drop 117 = dktX4_share_5 := dk_seg dksX4_share_4 23 rfl rfl
theorem dksX4_share_6 : cX4_share.data.toList.drop 140 = dktX4_share_6 := dk_seg dksX4_share_5 23 rfl rfl
theorem dksX4_share_7 : cX4_share.data.toList.drop 164 = dktX4_share_7 := dk_seg dksX4_share_6 24 rfl rfl
theorem dksX4_share_8 : cX4_share.data.toList.drop 187 = dktX4_share_8 := dk_seg dksX4_share_7 23 rfl rfl
theorem dX4_share_0 : decode cX4_share 0 = .ok (.aload_n 0, 1) := dk_42 (dk_at dksX4_share_0 0 rfl rfl)
theorem dX4_share_1 : decode cX4_share 1 = .ok (.invokevirtual 191, 3) := dk_182 0 191 (dk_at dksX4_share_0 1 rfl rfl)
theorem dX4_share_4 : decode cX4_share 4 = .ok (.ifCond .ne 6, 3) := dk_154 0 6 (dk_at dksX4_share_0 4 rfl rfl)
theorem dX4_share_7 : decode cX4_share 7 = .ok (.ldc 180, 2) := dk_18 180 (dk_at dksX4_share_0 7 rfl rfl)
theorem dX4_share_9 : decode cX4_share 9 = .ok (.ireturn, 1) := dk_172 (dk_at dksX4_share_0 9 rfl rfl)
theorem dX4_share_10 : decode cX4_share 10 = .ok (.iload_n 1, 1) := dk_27 (dk_at dksX4_share_0 10 rfl rfl)
theorem dX4_share_11 : decode cX4_share 11 = .ok (.invokestatic 75, 3) := dk_184 0 75 (dk_at dksX4_share_0 11 rfl rfl)
theorem dX4_share_14 : decode cX4_share 14 = .ok (.ifCond .eq 25, 3) := dk_153 0 25 (dk_at dksX4_share_0 14 rfl rfl)
theorem dX4_share_17 : decode cX4_share 17 = .ok (.iload_n 3, 1) := dk_29 (dk_at dksX4_share_0 17 rfl rfl)
theorem dX4_share_18 : decode cX4_share 18 = .ok (.iconst 1, 1) := dk_4 (dk_at dksX4_share_0 18 rfl rfl)
theorem dX4_share_19 : decode cX4_share 19 = .ok (.bipush 8, 2) := dk_16 8 (dk_at dksX4_share_0 19 rfl rfl)
theorem dX4_share_21 : decode cX4_share 21 = .ok (.invokestatic 71, 3) := dk_184 0 71 (dk_at dksX4_share_0 21 rfl rfl)
theorem dX4_share_24 : decode cX4_share 24 = .ok (.ifCond .eq 15, 3) := dk_153 0 15 (dk_at dksX4_share_1 0 rfl rfl)
theorem dX4_share_27 : decode cX4_share 27 = .ok (.iload 4, 2) := dk_21 4 (dk_at dksX4_share_1 3 rfl rfl)
theorem dX4_share_29 : decode cX4_share 29 = .ok (.iconst 0, 1) := dk_3 (dk_at dksX4_share_1 5 rfl rfl)
theorem dX4_share_30 : decode cX4_share 30 = .ok (.iload_n 3, 1) := dk_29 (dk_at dksX4_share_1 6 rfl rfl)
theorem dX4_share_31 : decode cX4_share 31 = .ok (.iconst 1, 1) := dk_4 (dk_at dksX4_share_1 7 rfl rfl)
theorem dX4_share_32 : decode cX4_share 32 = .ok (.isub, 1) := dk_100 (dk_at dksX4_share_1 8 rfl rfl)
theorem dX4_share_33 : decode cX4_share 33 = .ok (.invokestatic 71, 3) := dk_184 0 71 (dk_at dksX4_share_1 9 rfl rfl)
theorem dX4_share_36 : decode cX4_share 36 = .ok (.ifCond .ne 6, 3) := dk_154 0 6 (dk_at dksX4_share_1 12 rfl rfl)
theorem dX4_share_39 : decode cX4_share 39 = .ok (.ldc 79, 2) := dk_18 79 (dk_at dksX4_share_1 15 rfl rfl)
theorem dX4_share_41 : decode cX4_share 41 = .ok (.ireturn, 1) := dk_172 (dk_at dksX4_share_1 17 rfl rfl)
theorem dX4_share_42 : decode cX4_share 42 = .ok (.aload_n 0, 1) := dk_42 (dk_at dksX4_share_1 18 rfl rfl)
theorem dX4_share_43 : decode cX4_share 43 = .ok (.iload_n 1, 1) := dk_27 (dk_at dksX4_share_1 19 rfl rfl)
theorem dX4_share_44 : decode cX4_share 44 = .ok (.invokevirtual 87, 3) := dk_182 0 87 (dk_at dksX4_share_1 20 rfl rfl)
theorem dX4_share_47 : decode cX4_share 47 = .ok (.ifCond .eq 9, 3) := dk_153 0 9 (dk_at dksX4_share_2 0 rfl rfl)
theorem dX4_share_50 : decode cX4_share 50 = .ok (.aload_n 0, 1) := dk_42 (dk_at dksX4_share_2 3 rfl rfl)
theorem dX4_share_51 : decode cX4_share 51 = .ok (.iconst 1, 1) := dk_4 (dk_at dksX4_share_2 4 rfl rfl)
theorem dX4_share_52 : decode cX4_share 52 = .ok (.invokevirtual 80, 3) := dk_182 0 80 (dk_at dksX4_share_2 5 rfl rfl)
theorem dX4_share_55 : decode cX4_share 55 = .ok (.ireturn, 1) := dk_172 (dk_at dksX4_share_2 8 rfl rfl)
theorem dX4_share_56 : decode cX4_share 56 = .ok (.aload_n 0, 1) := dk_42 (dk_at dksX4_share_2 9 rfl rfl)
theorem dX4_share_57 : decode cX4_share 57 = .ok (.iload_n 1, 1) := dk_27 (dk_at dksX4_share_2 10 rfl rfl)
theorem dX4_share_58 : decode cX4_share 58 = .ok (.iload_n 2, 1) := dk_28 (dk_at dksX4_share_2 11 rfl rfl)
theorem dX4_share_59 : decode cX4_share 59 = .ok (.iload_n 3, 1) := dk_29 (dk_at dksX4_share_2 12 rfl rfl)
theorem dX4_share_60 : decode cX4_share 60 = .ok (.invokevirtual 94, 3) := dk_182 0 94 (dk_at dksX4_share_2 13 rfl rfl)
theorem dX4_share_63 : decode cX4_share 63 = .ok (.ifCond .ne 9, 3) := dk_154 0 9 (dk_at dksX4_share_2 16 rfl rfl)
theorem dX4_share_66 : decode cX4_share 66 = .ok (.aload_n 0, 1) := dk_42 (dk_at dksX4_share_2 19 rfl rfl)
theorem dX4_share_67 : decode cX4_share 67 = .ok (.iconst 2, 1) := dk_5 (dk_at dksX4_share_2 20 rfl rfl)
theorem dX4_share_68 : decode cX4_share 68 = .ok (.invokevirtual 80, 3) := dk_182 0 80 (dk_at dksX4_share_2 21 rfl rfl)
theorem dX4_share_71 : decode cX4_share 71 = .ok (.ireturn, 1) := dk_172 (dk_at dksX4_share_3 0 rfl rfl)
theorem dX4_share_72 : decode cX4_share 72 = .ok (.aload_n 0, 1) := dk_42 (dk_at dksX4_share_3 1 rfl rfl)
theorem dX4_share_73 : decode cX4_share 73 = .ok (.getfield 25, 3) := dk_180 0 25 (dk_at dksX4_share_3 2 rfl rfl)
theorem dX4_share_76 : decode cX4_share 76 = .ok (.iconst 0, 1) := dk_3 (dk_at dksX4_share_3 5 rfl rfl)
theorem dX4_share_77 : decode cX4_share 77 = .ok (.aload_n 0, 1) := dk_42 (dk_at dksX4_share_3 6 rfl rfl)
theorem dX4_share_78 : decode cX4_share 78 = .ok (.getfield 31, 3) := dk_180 0 31 (dk_at dksX4_share_3 7 rfl rfl)
theorem dX4_share_81 : decode cX4_share 81 = .ok (.iconst 0, 1) := dk_3 (dk_at dksX4_share_3 10 rfl rfl)
theorem dX4_share_82 : decode cX4_share 82 = .ok (.invokestatic 156, 3) := dk_184 0 156 (dk_at dksX4_share_3 11 rfl rfl)
theorem dX4_share_85 : decode cX4_share 85 = .ok (.iconst 0, 1) := dk_3 (dk_at dksX4_share_3 14 rfl rfl)
theorem dX4_share_86 : decode cX4_share 86 = .ok (.istore 5, 2) := dk_54 5 (dk_at dksX4_share_3 15 rfl rfl)
theorem dX4_share_88 : decode cX4_share 88 = .ok (.iconst 0, 1) := dk_3 (dk_at dksX4_share_3 17 rfl rfl)
theorem dX4_share_89 : decode cX4_share 89 = .ok (.istore 6, 2) := dk_54 6 (dk_at dksX4_share_3 18 rfl rfl)
theorem dX4_share_91 : decode cX4_share 91 = .ok (.iload 6, 2) := dk_21 6 (dk_at dksX4_share_3 20 rfl rfl)
theorem dX4_share_93 : decode cX4_share 93 = .ok (.iload_n 3, 1) := dk_29 (dk_at dksX4_share_3 22 rfl rfl)
theorem dX4_share_94 : decode cX4_share 94 = .ok (.if_icmp .ge 110, 3) := dk_162 0 110 (dk_at dksX4_share_4 0 rfl rfl)
theorem dX4_share_97 : decode cX4_share 97 = .ok (.aload_n 0, 1) := dk_42 (dk_at dksX4_share_4 3 rfl rfl)
theorem dX4_share_98 : decode cX4_share 98 = .ok (.getfield 16, 3) := dk_180 0 16 (dk_at dksX4_share_4 4 rfl rfl)
theorem dX4_share_101 : decode cX4_share 101 = .ok (.bipush 40, 2) := dk_16 40 (dk_at dksX4_share_4 7 rfl rfl)
theorem dX4_share_103 : decode cX4_share 103 = .ok (.iload_n 1, 1) := dk_27 (dk_at dksX4_share_4 9 rfl rfl)
theorem dX4_share_104 : decode cX4_share 104 = .ok (.imul, 1) := dk_104 (dk_at dksX4_share_4 10 rfl rfl)
theorem dX4_share_105 : decode cX4_share 105 = .ok (.iload_n 2, 1) := dk_28 (dk_at dksX4_share_4 11 rfl rfl)
theorem dX4_share_106 : decode cX4_share 106 = .ok (.iadd, 1) := dk_96 (dk_at dksX4_share_4 12 rfl rfl)
theorem dX4_share_107 : decode cX4_share 107 = .ok (.iload 6, 2) := dk_21 6 (dk_at dksX4_share_4 13 rfl rfl)
theorem dX4_share_109 : decode cX4_share 109 = .ok (.iadd, 1) := dk_96 (dk_at dksX4_share_4 15 rfl rfl)
theorem dX4_share_110 : decode cX4_share 110 = .ok (.iaload, 1) := dk_46 (dk_at dksX4_share_4 16 rfl rfl)
theorem dX4_share_111 : decode cX4_share 111 = .ok (.istore 7, 2) := dk_54 7 (dk_at dksX4_share_4 17 rfl rfl)
theorem dX4_share_113 : decode cX4_share 113 = .ok (.aload_n 0, 1) := dk_42 (dk_at dksX4_share_4 19 rfl rfl)
theorem dX4_share_114 : decode cX4_share 114 = .ok (.getfield 31, 3) := dk_180 0 31 (dk_at dksX4_share_4 20 rfl rfl)
theorem dX4_share_117 : decode cX4_share 117 = .ok (.iload 7, 2) := dk_21 7 (dk_at dksX4_share_5 0 rfl rfl)
theorem dX4_share_119 : decode cX4_share 119 = .ok (.aload_n 0, 1) := dk_42 (dk_at dksX4_share_5 2 rfl rfl)
theorem dX4_share_120 : decode cX4_share 120 = .ok (.getfield 31, 3) := dk_180 0 31 (dk_at dksX4_share_5 3 rfl rfl)
theorem dX4_share_123 : decode cX4_share 123 = .ok (.iconst 4, 1) := dk_7 (dk_at dksX4_share_5 6 rfl rfl)
theorem dX4_share_124 : decode cX4_share 124 = .ok (.iaload, 1) := dk_46 (dk_at dksX4_share_5 7 rfl rfl)
theorem dX4_share_125 : decode cX4_share 125 = .ok (.invokestatic 176, 3) := dk_184 0 176 (dk_at dksX4_share_5 8 rfl rfl)
theorem dX4_share_128 : decode cX4_share 128 = .ok (.ifCond .ne 10, 3) := dk_154 0 10 (dk_at dksX4_share_5 11 rfl rfl)
theorem dX4_share_131 : decode cX4_share 131 = .ok (.aload_n 0, 1) := dk_42 (dk_at dksX4_share_5 14 rfl rfl)
theorem dX4_share_132 : decode cX4_share 132 = .ok (.ldc 65, 2) := dk_18 65 (dk_at dksX4_share_5 15 rfl rfl)
theorem dX4_share_134 : decode cX4_share 134 = .ok (.invokevirtual 84, 3) := dk_182 0 84 (dk_at dksX4_share_5 17 rfl rfl)
theorem dX4_share_137 : decode cX4_share 137 = .ok (.ireturn, 1) := dk_172 (dk_at dksX4_share_5 20 rfl rfl)
theorem dX4_share_138 : decode cX4_share 138 = .ok (.iload 5, 2) := dk_21 5 (dk_at dksX4_share_5 21 rfl rfl)
theorem dX4_share_140 : decode cX4_share 140 = .ok (.iload 6, 2) := dk_21 6 (dk_at dksX4_share_6 0 rfl rfl)
theorem dX4_share_142 : decode cX4_share 142 = .ok (.iload 4, 2) := dk_21 4 (dk_at dksX4_share_6 2 rfl rfl)
theorem dX4_share_144 : decode cX4_share 144 = .ok (.if_icmp .ge 7, 3) := dk_162 0 7 (dk_at dksX4_share_6 4 rfl rfl)
theorem dX4_share_147 : decode cX4_share 147 = .ok (.iconst 0, 1) := dk_3 (dk_at dksX4_share_6 7 rfl rfl)
theorem dX4_share_148 : decode cX4_share 148 = .ok (.goto 38, 3) := dk_167 0 38 (dk_at dksX4_share_6 8 rfl rfl)
theorem dX4_share_151 : decode cX4_share 151 = .ok (.aload_n 0, 1) := dk_42 (dk_at dksX4_share_6 11 rfl rfl)
theorem dX4_share_152 : decode cX4_share 152 = .ok (.getfield 31, 3) := dk_180 0 31 (dk_at dksX4_share_6 12 rfl rfl)
theorem dX4_share_155 : decode cX4_share 155 = .ok (.aload_n 0, 1) := dk_42 (dk_at dksX4_share_6 15 rfl rfl)
theorem dX4_share_156 : decode cX4_share 156 = .ok (.getfield 31, 3) := dk_180 0 31 (dk_at dksX4_share_6 16 rfl rfl)
theorem dX4_share_159 : decode cX4_share 159 = .ok (.bipush 26, 2) := dk_16 26 (dk_at dksX4_share_6 19 rfl rfl)
theorem dX4_share_161 : decode cX4_share 161 = .ok (.iconst 2, 1) := dk_5 (dk_at dksX4_share_6 21 rfl rfl)
theorem dX4_share_162 : decode cX4_share 162 = .ok (.iload 7, 2) := dk_21 7 (dk_at dksX4_share_6 22 rfl rfl)
theorem dX4_share_164 : decode cX4_share 164 = .ok (.imul, 1) := dk_104 (dk_at dksX4_share_7 0 rfl rfl)
theorem dX4_share_165 : decode cX4_share 165 = .ok (.iadd, 1) := dk_96 (dk_at dksX4_share_7 1 rfl rfl)
theorem dX4_share_166 : decode cX4_share 166 = .ok (.iconst 1, 1) := dk_4 (dk_at dksX4_share_7 2 rfl rfl)
theorem dX4_share_167 : decode cX4_share 167 = .ok (.iadd, 1) := dk_96 (dk_at dksX4_share_7 3 rfl rfl)
theorem dX4_share_168 : decode cX4_share 168 = .ok (.iaload, 1) := dk_46 (dk_at dksX4_share_7 4 rfl rfl)
theorem dX4_share_169 : decode cX4_share 169 = .ok (.aload_n 0, 1) := dk_42 (dk_at dksX4_share_7 5 rfl rfl)
theorem dX4_share_170 : decode cX4_share 170 = .ok (.getfield 31, 3) := dk_180 0 31 (dk_at dksX4_share_7 6 rfl rfl)
theorem dX4_share_173 : decode cX4_share 173 = .ok (.iconst 1, 1) := dk_4 (dk_at dksX4_share_7 9 rfl rfl)
theorem dX4_share_174 : decode cX4_share 174 = .ok (.iaload, 1) := dk_46 (dk_at dksX4_share_7 10 rfl rfl)
theorem dX4_share_175 : decode cX4_share 175 = .ok (.aload_n 0, 1) := dk_42 (dk_at dksX4_share_7 11 rfl rfl)
theorem dX4_share_176 : decode cX4_share 176 = .ok (.getfield 31, 3) := dk_180 0 31 (dk_at dksX4_share_7 12 rfl rfl)
theorem dX4_share_179 : decode cX4_share 179 = .ok (.iconst 3, 1) := dk_6 (dk_at dksX4_share_7 15 rfl rfl)
theorem dX4_share_180 : decode cX4_share 180 = .ok (.iaload, 1) := dk_46 (dk_at dksX4_share_7 16 rfl rfl)
theorem dX4_share_181 : decode cX4_share 181 = .ok (.invokestatic 170, 3) := dk_184 0 170 (dk_at dksX4_share_7 17 rfl rfl)
theorem dX4_share_184 : decode cX4_share 184 = .ok (.iconst 2, 1) := dk_5 (dk_at dksX4_share_7 20 rfl rfl)
theorem dX4_share_185 : decode cX4_share 185 = .ok (.idiv, 1) := dk_108 (dk_at dksX4_share_7 21 rfl rfl)
theorem dX4_share_186 : decode cX4_share 186 = .ok (.iadd, 1) := dk_96 (dk_at dksX4_share_7 22 rfl rfl)
theorem dX4_share_187 : decode cX4_share 187 = .ok (.istore 5, 2) := dk_54 5 (dk_at dksX4_share_8 0 rfl rfl)
theorem dX4_share_189 : decode cX4_share 189 = .ok (.aload_n 0, 1) := dk_42 (dk_at dksX4_share_8 2 rfl rfl)
theorem dX4_share_190 : decode cX4_share 190 = .ok (.getfield 31, 3) := dk_180 0 31 (dk_at dksX4_share_8 3 rfl rfl)
theorem dX4_share_193 : decode cX4_share 193 = .ok (.iload 7, 2) := dk_21 7 (dk_at dksX4_share_8 6 rfl rfl)
theorem dX4_share_195 : decode cX4_share 195 = .ok (.invokestatic 184, 3) := dk_184 0 184 (dk_at dksX4_share_8 8 rfl rfl)
theorem dX4_share_198 : decode cX4_share 198 = .ok (.iinc 6 1, 3) := dk_132 6 1 (dk_at dksX4_share_8 11 rfl rfl)
theorem dX4_share_201 : decode cX4_share 201 = .ok (.goto (-110), 3) := dk_167 255 146 (dk_at dksX4_share_8 14 rfl rfl)
theorem dX4_share_204 : decode cX4_share 204 = .ok (.aload_n 0, 1) := dk_42 (dk_at dksX4_share_8 17 rfl rfl)
theorem dX4_share_205 : decode cX4_share 205 = .ok (.iload 5, 2) := dk_21 5 (dk_at dksX4_share_8 18 rfl rfl)
theorem dX4_share_207 : decode cX4_share 207 = .ok (.invokevirtual 84, 3) := dk_182 0 84 (dk_at dksX4_share_8 20 rfl rfl)
theorem dX4_share_210 : decode cX4_share 210 = .ok (.ireturn, 1) := dk_172 (dk_at dksX4_share_8 23 rfl rfl)
abbrev cX4_shut : ByteArray := prog_26_method_64_code
def yX4_shut : MethodName := ⟨RX4, "shut", "(IIII)I"⟩
def dkwX4_shut_12 : List UInt8 := [21, 7, 108, 172]
abbrev dktX4_shut_12 : List UInt8 := dkwX4_shut_12 ++ []
def dkwX4_shut_11 : List UInt8 := [21, 8, 54, 7, 21, 9, 54, 8, 167, 255, 236, 21, 4, 154, 0, 8, 21, 5, 167, 0, 5, 21, 6]
abbrev dktX4_shut_11 : List UInt8 := dkwX4_shut_11 ++ dktX4_shut_12
def dkwX4_shut_10 : List UInt8 := [167, 255, 119, 21, 5, 54, 7, 21, 6, 54, 8, 21, 8, 153, 0, 21, 21, 7, 21, 8, 112, 54, 9]
abbrev dktX4_shut_10 : List UInt8 := dkwX4_shut_10 ++ dktX4_shut_11
def dkwX4_shut_9 : List UInt8 := [159, 0, 16, 42, 180, 0, 204, 28, 163, 0, 8, 21, 8, 167, 0, 4, 3, 96, 54, 5, 132, 7, 1]
abbrev dktX4_shut_9 : List UInt8 := dkwX4_shut_9 ++ dktX4_shut_10
def dkwX4_shut_8 : List UInt8 := [167, 255, 200, 21, 8, 158, 0, 38, 42, 27, 21, 7, 182, 0, 222, 21, 5, 42, 180, 0, 204, 18, 65]
abbrev dktX4_shut_8 : List UInt8 := dkwX4_shut_8 ++ dktX4_shut_9
def dkwX4_shut_7 : List UInt8 := [21, 7, 21, 9, 184, 0, 167, 153, 0, 10, 16, 10, 29, 100, 167, 0, 4, 29, 104, 54, 8, 132, 9, 1]
abbrev dktX4_shut_7 : List UInt8 := dkwX4_shut_7 ++ dktX4_shut_8
def dkwX4_shut_6 : List UInt8 := [162, 0, 50, 21, 8, 42, 180, 0, 25, 8, 46, 21, 9, 184, 0, 167, 154, 0, 7, 4, 167, 0, 21]
abbrev dktX4_shut_6 : List UInt8 := dkwX4_shut_6 ++ dktX4_shut_7
def dkwX4_shut_5 : List UInt8 := [126, 154, 0, 7, 4, 167, 0, 4, 3, 54, 8, 3, 54, 9, 21, 9, 42, 180, 0, 25, 16, 25, 46]
abbrev dktX4_shut_5 : List UInt8 := dkwX4_shut_5 ++ dktX4_shut_6
def dkwX4_shut_4 : List UInt8 := [3, 54, 7, 21, 7, 42, 180, 0, 25, 8, 46, 163, 0, 132, 21, 7, 42, 180, 0, 25, 8, 46, 2, 130]
abbrev dktX4_shut_4 : List UInt8 := dkwX4_shut_4 ++ dktX4_shut_5
def dkwX4_shut_3 : List UInt8 := [46, 21, 7, 184, 0, 167, 153, 0, 8, 16, 10, 167, 0, 4, 4, 104, 54, 6, 132, 7, 1, 167, 255, 216]
abbrev dktX4_shut_3 : List UInt8 := dkwX4_shut_3 ++ dktX4_shut_4
def dkwX4_shut_2 : List UInt8 := [54, 6, 3, 54, 7, 21, 7, 42, 180, 0, 25, 16, 25, 46, 162, 0, 34, 21, 6, 42, 180, 0, 25, 8]
abbrev dktX4_shut_2 : List UInt8 := dkwX4_shut_2 ++ dktX4_shut_3
def dkwX4_shut_1 : List UInt8 := [184, 0, 71, 153, 0, 13, 21, 4, 3, 4, 184, 0, 71, 154, 0, 6, 18, 79, 172, 3, 54, 5, 4]
abbrev dktX4_shut_1 : List UInt8 := dkwX4_shut_1 ++ dktX4_shut_2
def dkwX4_shut_0 : List UInt8 := [42, 27, 182, 0, 188, 153, 0, 34, 28, 3, 17, 3, 231, 184, 0, 71, 153, 0, 23, 29, 3, 16, 10]
abbrev dktX4_shut_0 : List UInt8 := dkwX4_shut_0 ++ dktX4_shut_1
theorem dksX4_shut_0 : cX4_shut.data.toList.drop 0 = dktX4_shut_0 := by decide +kernel
theorem dksX4_shut_1 : cX4_shut.data.toList.drop 23 = dktX4_shut_1 := dk_seg dksX4_shut_0 23 rfl rfl
theorem dksX4_shut_2 : cX4_shut.data.toList.drop 46 = dktX4_shut_2 := dk_seg dksX4_shut_1 23 rfl rfl
theorem dksX4_shut_3 : cX4_shut.data.toList.drop 70 = dktX4_shut_3 := dk_seg dksX4_shut_2 24 rfl rfl
theorem dksX4_shut_4 : cX4_shut.data.toList.drop 94 = dktX4_shut_4 := dk_seg dksX4_shut_3 24 rfl rfl
theorem dksX4_shut_5 : cX4_shut.data.toList.drop 118 = dktX4_shut_5 := dk_seg dksX4_shut_4 24 rfl rfl
theorem dksX4_shut_6 : cX4_shut.data.toList.drop 141 = dktX4_shut_6 := dk_seg dksX4_shut_5 23 rfl rfl
theorem dksX4_shut_7 : cX4_shut.data.toList.drop 164 = dktX4_shut_7 := dk_seg dksX4_shut_6 23 rfl rfl
theorem dksX4_shut_8 : cX4_shut.data.toList.drop 188 = dktX4_shut_8 := dk_seg dksX4_shut_7 24 rfl rfl
theorem dksX4_shut_9 : cX4_shut.data.toList.drop 211 = dktX4_shut_9 := dk_seg dksX4_shut_8 23 rfl rfl
theorem dksX4_shut_10 : cX4_shut.data.toList.drop 234 = dktX4_shut_10 := dk_seg dksX4_shut_9 23 rfl rfl
theorem dksX4_shut_11 : cX4_shut.data.toList.drop 257 = dktX4_shut_11 := dk_seg dksX4_shut_10 23 rfl rfl
theorem dksX4_shut_12 : cX4_shut.data.toList.drop 280 = dktX4_shut_12 := dk_seg dksX4_shut_11 23 rfl rfl
theorem dX4_shut_0 : decode cX4_shut 0 = .ok (.aload_n 0, 1) := dk_42 (dk_at dksX4_shut_0 0 rfl rfl)
theorem dX4_shut_1 : decode cX4_shut 1 = .ok (.iload_n 1, 1) := dk_27 (dk_at dksX4_shut_0 1 rfl rfl)
theorem dX4_shut_2 : decode cX4_shut 2 = .ok (.invokevirtual 188, 3) := dk_182 0 188 (dk_at dksX4_shut_0 2 rfl rfl)
theorem dX4_shut_5 : decode cX4_shut 5 = .ok (.ifCond .eq 34, 3) := dk_153 0 34 (dk_at dksX4_shut_0 5 rfl rfl)
theorem dX4_shut_8 : decode cX4_shut 8 = .ok (.iload_n 2, 1) := dk_28 (dk_at dksX4_shut_0 8 rfl rfl)
theorem dX4_shut_9 : decode cX4_shut 9 = .ok (.iconst 0, 1) := dk_3 (dk_at dksX4_shut_0 9 rfl rfl)
theorem dX4_shut_10 : decode cX4_shut 10 = .ok (.sipush 999, 3) := dk_17 3 231 (dk_at dksX4_shut_0 10 rfl rfl)
theorem dX4_shut_13 : decode cX4_shut 13 = .ok (.invokestatic 71, 3) := dk_184 0 71 (dk_at dksX4_shut_0 13 rfl rfl)
theorem dX4_shut_16 : decode cX4_shut 16 = .ok (.ifCond .eq 23, 3) := dk_153 0 23 (dk_at dksX4_shut_0 16 rfl rfl)
theorem dX4_shut_19 : decode cX4_shut 19 = .ok (.iload_n 3, 1) := dk_29 (dk_at dksX4_shut_0 19 rfl rfl)
theorem dX4_shut_20 : decode cX4_shut 20 = .ok (.iconst 0, 1) := dk_3 (dk_at dksX4_shut_0 20 rfl rfl)
theorem dX4_shut_21 : decode cX4_shut 21 = .ok (.bipush 10, 2) := dk_16 10 (dk_at dksX4_shut_0 21 rfl rfl)
theorem dX4_shut_23 : decode cX4_shut 23 = .ok (.invokestatic 71, 3) := dk_184 0 71 (dk_at dksX4_shut_1 0 rfl rfl)
theorem dX4_shut_26 : decode cX4_shut 26 = .ok (.ifCond .eq 13, 3) := dk_153 0 13 (dk_at dksX4_shut_1 3 rfl rfl)
theorem dX4_shut_29 : decode cX4_shut 29 = .ok (.iload 4, 2) := dk_21 4 (dk_at dksX4_shut_1 6 rfl rfl)
theorem dX4_shut_31 : decode cX4_shut 31 = .ok (.iconst 0, 1) := dk_3 (dk_at dksX4_shut_1 8 rfl rfl)
theorem dX4_shut_32 : decode cX4_shut 32 = .ok (.iconst 1, 1) := dk_4 (dk_at dksX4_shut_1 9 rfl rfl)
theorem dX4_shut_33 : decode cX4_shut 33 = .ok (.invokestatic 71, 3) := dk_184 0 71 (dk_at dksX4_shut_1 10 rfl rfl)
theorem dX4_shut_36 : decode cX4_shut 36 = .ok (.ifCond .ne 6, 3) := dk_154 0 6 (dk_at dksX4_shut_1 13 rfl rfl)
theorem dX4_shut_39 : decode cX4_shut 39 = .ok (.ldc 79, 2) := dk_18 79 (dk_at dksX4_shut_1 16 rfl rfl)
theorem dX4_shut_41 : decode cX4_shut 41 = .ok (.ireturn, 1) := dk_172 (dk_at dksX4_shut_1 18 rfl rfl)
theorem dX4_shut_42 : decode cX4_shut 42 = .ok (.iconst 0, 1) := dk_3 (dk_at dksX4_shut_1 19 rfl rfl)
theorem dX4_shut_43 : decode cX4_shut 43 = .ok (.istore 5, 2) := dk_54 5 (dk_at dksX4_shut_1 20 rfl rfl)
theorem dX4_shut_45 : decode cX4_shut 45 = .ok (.iconst 1, 1) := dk_4 (dk_at dksX4_shut_1 22 rfl rfl)
theorem dX4_shut_46 : decode cX4_shut 46 = .ok (.istore 6, 2) := dk_54 6 (dk_at dksX4_shut_2 0 rfl rfl)
theorem dX4_shut_48 : decode cX4_shut 48 = .ok (.iconst 0, 1) := dk_3 (dk_at dksX4_shut_2 2 rfl rfl)
theorem dX4_shut_49 : decode cX4_shut 49 = .ok (.istore 7, 2) := dk_54 7 (dk_at dksX4_shut_2 3 rfl rfl)
theorem dX4_shut_51 : decode cX4_shut 51 = .ok (.iload 7, 2) := dk_21 7 (dk_at dksX4_shut_2 5 rfl rfl)
theorem dX4_shut_53 : decode cX4_shut 53 = .ok (.aload_n 0, 1) := dk_42 (dk_at dksX4_shut_2 7 rfl rfl)
theorem dX4_shut_54 : decode cX4_shut 54 = .ok (.getfield 25, 3) := dk_180 0 25 (dk_at dksX4_shut_2 8 rfl rfl)
theorem dX4_shut_57 : decode cX4_shut 57 = .ok (.bipush 25, 2) := dk_16 25 (dk_at dksX4_shut_2 11 rfl rfl)
theorem dX4_shut_59 : decode cX4_shut 59 = .ok (.iaload, 1) := dk_46 (dk_at dksX4_shut_2 13 rfl rfl)
theorem dX4_shut_60 : decode cX4_shut 60 = .ok (.if_icmp .ge 34, 3) := dk_162 0 34 (dk_at dksX4_shut_2 14 rfl rfl)
theorem dX4_shut_63 : decode cX4_shut 63 = .ok (.iload 6, 2) := dk_21 6 (dk_at dksX4_shut_2 17 rfl rfl)
theorem dX4_shut_65 : decode cX4_shut 65 = .ok (.aload_n 0, 1) := dk_42 (dk_at dksX4_shut_2 19 rfl rfl)
theorem dX4_shut_66 : decode cX4_shut 66 = .ok (.getfield 25, 3) := dk_180 0 25 (dk_at dksX4_shut_2 20 rfl rfl)
theorem dX4_shut_69 : decode cX4_shut 69 = .ok (.iconst 5, 1) := dk_8 (dk_at dksX4_shut_2 23 rfl rfl)
theorem dX4_shut_70 : decode cX4_shut 70 = .ok (.iaload, 1) := dk_46 (dk_at dksX4_shut_3 0 rfl rfl)
theorem dX4_shut_71 : decode cX4_shut 71 = .ok (.iload 7, 2) := dk_21 7 (dk_at dksX4_shut_3 1 rfl rfl)
theorem dX4_shut_73 : decode cX4_shut 73 = .ok (.invokestatic 167, 3) := dk_184 0 167 (dk_at dksX4_shut_3 3 rfl rfl)
theorem dX4_shut_76 : decode cX4_shut 76 = .ok (.ifCond .eq 8, 3) := dk_153 0 8 (dk_at dksX4_shut_3 6 rfl rfl)
theorem dX4_shut_79 : decode cX4_shut 79 = .ok (.bipush 10, 2) := dk_16 10 (dk_at dksX4_shut_3 9 rfl rfl)
theorem dX4_shut_81 : decode cX4_shut 81 = .ok (.goto 4, 3) := dk_167 0 4 (dk_at dksX4_shut_3 11 rfl rfl)
theorem dX4_shut_84 : decode cX4_shut 84 = .ok (.iconst 1, 1) := dk_4 (dk_at dksX4_shut_3 14 rfl rfl)
theorem dX4_shut_85 : decode cX4_shut 85 = .ok (.imul, 1) := dk_104 (dk_at dksX4_shut_3 15 rfl rfl)
theorem dX4_shut_86 : decode cX4_shut 86 = .ok (.istore 6, 2) := dk_54 6 (dk_at dksX4_shut_3 16 rfl rfl)
theorem dX4_shut_88 : decode cX4_shut 88 = .ok (.iinc 7 1, 3) := dk_132 7 1 (dk_at dksX4_shut_3 18 rfl rfl)
theorem dX4_shut_91 : decode cX4_shut 91 = .ok (.goto (-40), 3) := dk_167 255 216 (dk_at dksX4_shut_3 21 rfl rfl)
theorem dX4_shut_94 : decode cX4_shut 94 = .ok (.iconst 0, 1) := dk_3 (dk_at dksX4_shut_4 0 rfl rfl)
theorem dX4_shut_95 : decode cX4_shut 95 = .ok (.istore 7, 2) := dk_54 7 (dk_at dksX4_shut_4 1 rfl rfl)
theorem dX4_shut_97 : decode cX4_shut 97 = .ok (.iload 7, 2) := dk_21 7 (dk_at dksX4_shut_4 3 rfl rfl)
theorem dX4_shut_99 : decode cX4_shut 99 = .ok (.aload_n 0, 1) := dk_42 (dk_at dksX4_shut_4 5 rfl rfl)
theorem dX4_shut_100 : decode cX4_shut 100 = .ok (.getfield 25, 3) := dk_180 0 25 (dk_at dksX4_shut_4 6 rfl rfl)
theorem dX4_shut_103 : decode cX4_shut 103 = .ok (.iconst 5, 1) := dk_8 (dk_at dksX4_shut_4 9 rfl rfl)
theorem dX4_shut_104 : decode cX4_shut 104 = .ok (.iaload, 1) := dk_46 (dk_at dksX4_shut_4 10 rfl rfl)
theorem dX4_shut_105 : decode cX4_shut 105 = .ok (.if_icmp .gt 132, 3) := dk_163 0 132 (dk_at dksX4_shut_4 11 rfl rfl)
theorem dX4_shut_108 : decode cX4_shut 108 = .ok (.iload 7, 2) := dk_21 7 (dk_at dksX4_shut_4 14 rfl rfl)
theorem dX4_shut_110 : decode cX4_shut 110 = .ok (.aload_n 0, 1) := dk_42 (dk_at dksX4_shut_4 16 rfl rfl)
theorem dX4_shut_111 : decode cX4_shut 111 = .ok (.getfield 25, 3) := dk_180 0 25 (dk_at dksX4_shut_4 17 rfl rfl)
theorem dX4_shut_114 : decode cX4_shut 114 = .ok (.iconst 5, 1) := dk_8 (dk_at dksX4_shut_4 20 rfl rfl)
theorem dX4_shut_115 : decode cX4_shut 115 = .ok (.iaload, 1) := dk_46 (dk_at dksX4_shut_4 21 rfl rfl)
theorem dX4_shut_116 : decode cX4_shut 116 = .ok (.iconst (-1), 1) := dk_2 (dk_at dksX4_shut_4 22 rfl rfl)
theorem dX4_shut_117 : decode cX4_shut 117 = .ok (.ixor, 1) := dk_130 (dk_at dksX4_shut_4 23 rfl rfl)
theorem dX4_shut_118 : decode cX4_shut 118 = .ok (.iand, 1) := dk_126 (dk_at dksX4_shut_5 0 rfl rfl)
theorem dX4_shut_119 : decode cX4_shut 119 = .ok (.ifCond .ne 7, 3) := dk_154 0 7 (dk_at dksX4_shut_5 1 rfl rfl)
theorem dX4_shut_122 : decode cX4_shut 122 = .ok (.iconst 1, 1) := dk_4 (dk_at dksX4_shut_5 4 rfl rfl)
theorem dX4_shut_123 : decode cX4_shut 123 = .ok (.goto 4, 3) := dk_167 0 4 (dk_at dksX4_shut_5 5 rfl rfl)
theorem dX4_shut_126 : decode cX4_shut 126 = .ok (.iconst 0, 1) := dk_3 (dk_at dksX4_shut_5 8 rfl rfl)
theorem dX4_shut_127 : decode cX4_shut 127 = .ok (.istore 8, 2) := dk_54 8 (dk_at dksX4_shut_5 9 rfl rfl)
theorem dX4_shut_129 : decode cX4_shut 129 = .ok (.iconst 0, 1) := dk_3 (dk_at dksX4_shut_5 11 rfl rfl)
theorem dX4_shut_130 : decode cX4_shut 130 = .ok (.istore 9, 2) := dk_54 9 (dk_at dksX4_shut_5 12 rfl rfl)
theorem dX4_shut_132 : decode cX4_shut 132 = .ok (.iload 9, 2) := dk_21 9 (dk_at dksX4_shut_5 14 rfl rfl)
theorem dX4_shut_134 : decode cX4_shut 134 = .ok (.aload_n 0, 1) := dk_42 (dk_at dksX4_shut_5 16 rfl rfl)
theorem dX4_shut_135 : decode cX4_shut 135 = .ok (.getfield 25, 3) := dk_180 0 25 (dk_at dksX4_shut_5 17 rfl rfl)
theorem dX4_shut_138 : decode cX4_shut 138 = .ok (.bipush 25, 2) := dk_16 25 (dk_at dksX4_shut_5 20 rfl rfl)
theorem dX4_shut_140 : decode cX4_shut 140 = .ok (.iaload, 1) := dk_46 (dk_at dksX4_shut_5 22 rfl rfl)
theorem dX4_shut_141 : decode cX4_shut 141 = .ok (.if_icmp .ge 50, 3) := dk_162 0 50 (dk_at dksX4_shut_6 0 rfl rfl)
theorem dX4_shut_144 : decode cX4_shut 144 = .ok (.iload 8, 2) := dk_21 8 (dk_at dksX4_shut_6 3 rfl rfl)
theorem dX4_shut_146 : decode cX4_shut 146 = .ok (.aload_n 0, 1) := dk_42 (dk_at dksX4_shut_6 5 rfl rfl)
theorem dX4_shut_147 : decode cX4_shut 147 = .ok (.getfield 25, 3) := dk_180 0 25 (dk_at dksX4_shut_6 6 rfl rfl)
theorem dX4_shut_150 : decode cX4_shut 150 = .ok (.iconst 5, 1) := dk_8 (dk_at dksX4_shut_6 9 rfl rfl)
theorem dX4_shut_151 : decode cX4_shut 151 = .ok (.iaload, 1) := dk_46 (dk_at dksX4_shut_6 10 rfl rfl)
theorem dX4_shut_152 : decode cX4_shut 152 = .ok (.iload 9, 2) := dk_21 9 (dk_at dksX4_shut_6 11 rfl rfl)
theorem dX4_shut_154 : decode cX4_shut 154 = .ok (.invokestatic 167, 3) := dk_184 0 167 (dk_at dksX4_shut_6 13 rfl rfl)
theorem dX4_shut_157 : decode cX4_shut 157 = .ok (.ifCond .ne 7, 3) := dk_154 0 7 (dk_at dksX4_shut_6 16 rfl rfl)
theorem dX4_shut_160 : decode cX4_shut 160 = .ok (.iconst 1, 1) := dk_4 (dk_at dksX4_shut_6 19 rfl rfl)
theorem dX4_shut_161 : decode cX4_shut 161 = .ok (.goto 21, 3) := dk_167 0 21 (dk_at dksX4_shut_6 20 rfl rfl)
theorem dX4_shut_164 : decode cX4_shut 164 = .ok (.iload 7, 2) := dk_21 7 (dk_at dksX4_shut_7 0 rfl rfl)
theorem dX4_shut_166 : decode cX4_shut 166 = .ok (.iload 9, 2) := dk_21 9 (dk_at dksX4_shut_7 2 rfl rfl)
theorem dX4_shut_168 : decode cX4_shut 168 = .ok (.invokestatic 167, 3) := dk_184 0 167 (dk_at dksX4_shut_7 4 rfl rfl)
theorem dX4_shut_171 : decode cX4_shut 171 = .ok (.ifCond .eq 10, 3) := dk_153 0 10 (dk_at dksX4_shut_7 7 rfl rfl)
theorem dX4_shut_174 : decode cX4_shut 174 = .ok (.bipush 10, 2) := dk_16 10 (dk_at dksX4_shut_7 10 rfl rfl)
theorem dX4_shut_176 : decode cX4_shut 176 = .ok (.iload_n 3, 1) := dk_29 (dk_at dksX4_shut_7 12 rfl rfl)
theorem dX4_shut_177 : decode cX4_shut 177 = .ok (.isub, 1) := dk_100 (dk_at dksX4_shut_7 13 rfl rfl)
theorem dX4_shut_178 : decode cX4_shut 178 = .ok (.goto 4, 3) := dk_167 0 4 (dk_at dksX4_shut_7 14 rfl rfl)
theorem dX4_shut_181 : decode cX4_shut 181 = .ok (.iload_n 3, 1) := dk_29 (dk_at dksX4_shut_7 17 rfl rfl)
theorem dX4_shut_182 : decode cX4_shut 182 = .ok (.imul, 1) := dk_104 (dk_at dksX4_shut_7 18 rfl rfl)
theorem dX4_shut_183 : decode cX4_shut 183 = .ok (.istore 8, 2) := dk_54 8 (dk_at dksX4_shut_7 19 rfl rfl)
theorem dX4_shut_185 : decode cX4_shut 185 = .ok (.iinc 9 1, 3) := dk_132 9 1 (dk_at dksX4_shut_7 21 rfl rfl)
theorem dX4_shut_188 : decode cX4_shut 188 = .ok (.goto (-56), 3) := dk_167 255 200 (dk_at dksX4_shut_8 0 rfl rfl)
theorem dX4_shut_191 : decode cX4_shut 191 = .ok (.iload 8, 2) := dk_21 8 (dk_at dksX4_shut_8 3 rfl rfl)
theorem dX4_shut_193 : decode cX4_shut 193 = .ok (.ifCond .le 38, 3) := dk_158 0 38 (dk_at dksX4_shut_8 5 rfl rfl)
theorem dX4_shut_196 : decode cX4_shut 196 = .ok (.aload_n 0, 1) := dk_42 (dk_at dksX4_shut_8 8 rfl rfl)
theorem dX4_shut_197 : decode cX4_shut 197 = .ok (.iload_n 1, 1) := dk_27 (dk_at dksX4_shut_8 9 rfl rfl)
theorem dX4_shut_198 : decode cX4_shut 198 = .ok (.iload 7, 2) := dk_21 7 (dk_at dksX4_shut_8 10 rfl rfl)
theorem dX4_shut_200 : decode cX4_shut 200 = .ok (.invokevirtual 222, 3) := dk_182 0 222 (dk_at dksX4_shut_8 12 rfl rfl)
theorem dX4_shut_203 : decode cX4_shut 203 = .ok (.iload 5, 2) := dk_21 5 (dk_at dksX4_shut_8 15 rfl rfl)
theorem dX4_shut_205 : decode cX4_shut 205 = .ok (.aload_n 0, 1) := dk_42 (dk_at dksX4_shut_8 17 rfl rfl)
theorem dX4_shut_206 : decode cX4_shut 206 = .ok (.getfield 204, 3) := dk_180 0 204 (dk_at dksX4_shut_8 18 rfl rfl)
theorem dX4_shut_209 : decode cX4_shut 209 = .ok (.ldc 65, 2) := dk_18 65 (dk_at dksX4_shut_8 21 rfl rfl)
theorem dX4_shut_211 : decode cX4_shut 211 = .ok (.if_icmp .eq 16, 3) := dk_159 0 16 (dk_at dksX4_shut_9 0 rfl rfl)
theorem dX4_shut_214 : decode cX4_shut 214 = .ok (.aload_n 0, 1) := dk_42 (dk_at dksX4_shut_9 3 rfl rfl)
theorem dX4_shut_215 : decode cX4_shut 215 = .ok (.getfield 204, 3) := dk_180 0 204 (dk_at dksX4_shut_9 4 rfl rfl)
theorem dX4_shut_218 : decode cX4_shut 218 = .ok (.iload_n 2, 1) := dk_28 (dk_at dksX4_shut_9 7 rfl rfl)
theorem dX4_shut_219 : decode cX4_shut 219 = .ok (.if_icmp .gt 8, 3) := dk_163 0 8 (dk_at dksX4_shut_9 8 rfl rfl)
theorem dX4_shut_222 : decode cX4_shut 222 = .ok (.iload 8, 2) := dk_21 8 (dk_at dksX4_shut_9 11 rfl rfl)
theorem dX4_shut_224 : decode cX4_shut 224 = .ok (.goto 4, 3) := dk_167 0 4 (dk_at dksX4_shut_9 13 rfl rfl)
theorem dX4_shut_227 : decode cX4_shut 227 = .ok (.iconst 0, 1) := dk_3 (dk_at dksX4_shut_9 16 rfl rfl)
theorem dX4_shut_228 : decode cX4_shut 228 = .ok (.iadd, 1) := dk_96 (dk_at dksX4_shut_9 17 rfl rfl)
theorem dX4_shut_229 : decode cX4_shut 229 = .ok (.istore 5, 2) := dk_54 5 (dk_at dksX4_shut_9 18 rfl rfl)
theorem dX4_shut_231 : decode cX4_shut 231 = .ok (.iinc 7 1, 3) := dk_132 7 1 (dk_at dksX4_shut_9 20 rfl rfl)
theorem dX4_shut_234 : decode cX4_shut 234 = .ok (.goto (-137), 3) := dk_167 255 119 (dk_at dksX4_shut_10 0 rfl rfl)
theorem dX4_shut_237 : decode cX4_shut 237 = .ok (.iload 5, 2) := dk_21 5 (dk_at dksX4_shut_10 3 rfl rfl)
theorem dX4_shut_239 : decode cX4_shut 239 = .ok (.istore 7, 2) := dk_54 7 (dk_at dksX4_shut_10 5 rfl rfl)
theorem dX4_shut_241 : decode cX4_shut 241 = .ok (.iload 6, 2) := dk_21 6 (dk_at dksX4_shut_10 7 rfl rfl)
theorem dX4_shut_243 : decode cX4_shut 243 = .ok (.istore 8, 2) := dk_54 8 (dk_at dksX4_shut_10 9 rfl rfl)
theorem dX4_shut_245 : decode cX4_shut 245 = .ok (.iload 8, 2) := dk_21 8 (dk_at dksX4_shut_10 11 rfl rfl)
theorem dX4_shut_247 : decode cX4_shut 247 = .ok (.ifCond .eq 21, 3) := dk_153 0 21 (dk_at dksX4_shut_10 13 rfl rfl)
theorem dX4_shut_250 : decode cX4_shut 250 = .ok (.iload 7, 2) := dk_21 7 (dk_at dksX4_shut_10 16 rfl rfl)
theorem dX4_shut_252 : decode cX4_shut 252 = .ok (.iload 8, 2) := dk_21 8 (dk_at dksX4_shut_10 18 rfl rfl)
theorem dX4_shut_254 : decode cX4_shut 254 = .ok (.irem, 1) := dk_112 (dk_at dksX4_shut_10 20 rfl rfl)
theorem dX4_shut_255 : decode cX4_shut 255 = .ok (.istore 9, 2) := dk_54 9 (dk_at dksX4_shut_10 21 rfl rfl)
theorem dX4_shut_257 : decode cX4_shut 257 = .ok (.iload 8, 2) := dk_21 8 (dk_at dksX4_shut_11 0 rfl rfl)
theorem dX4_shut_259 : decode cX4_shut 259 = .ok (.istore 7, 2) := dk_54 7 (dk_at dksX4_shut_11 2 rfl rfl)
theorem dX4_shut_261 : decode cX4_shut 261 = .ok (.iload 9, 2) := dk_21 9 (dk_at dksX4_shut_11 4 rfl rfl)
theorem dX4_shut_263 : decode cX4_shut 263 = .ok (.istore 8, 2) := dk_54 8 (dk_at dksX4_shut_11 6 rfl rfl)
theorem dX4_shut_265 : decode cX4_shut 265 = .ok (.goto (-20), 3) := dk_167 255 236 (dk_at dksX4_shut_11 8 rfl rfl)
theorem dX4_shut_268 : decode cX4_shut 268 = .ok (.iload 4, 2) := dk_21 4 (dk_at dksX4_shut_11 11 rfl rfl)
theorem dX4_shut_270 : decode cX4_shut 270 = .ok (.ifCond .ne 8, 3) := dk_154 0 8 (dk_at dksX4_shut_11 13 rfl rfl)
theorem dX4_shut_273 : decode cX4_shut 273 = .ok (.iload 5, 2) := dk_21 5 (dk_at dksX4_shut_11 16 rfl rfl)
theorem dX4_shut_275 : decode cX4_shut 275 = .ok (.goto 5, 3) := dk_167 0 5 (dk_at dksX4_shut_11 18 rfl rfl)
theorem dX4_shut_278 : decode cX4_shut 278 = .ok (.iload 6, 2) := dk_21 6 (dk_at dksX4_shut_11 21 rfl rfl)
theorem dX4_shut_280 : decode cX4_shut 280 = .ok (.iload 7, 2) := dk_21 7 (dk_at dksX4_shut_12 0 rfl rfl)
theorem dX4_shut_282 : decode cX4_shut 282 = .ok (.idiv, 1) := dk_108 (dk_at dksX4_shut_12 2 rfl rfl)
theorem dX4_shut_283 : decode cX4_shut 283 = .ok (.ireturn, 1) := dk_172 (dk_at dksX4_shut_12 3 rfl rfl)
abbrev cX4_drawn : ByteArray := prog_26_method_66_code
def yX4_drawn : MethodName := ⟨RX4, "drawn", "(III)I"⟩
def dkwX4_drawn_6 : List UInt8 := [167, 255, 179, 29, 154, 0, 12, 42, 180, 0, 31, 5, 46, 167, 0, 9, 42, 180, 0, 31, 7, 46, 172]
abbrev dktX4_drawn_6 : List UInt8 := dkwX4_drawn_6 ++ []
def dkwX4_drawn_5 : List UInt8 := [182, 0, 245, 184, 0, 184, 167, 0, 13, 42, 180, 0, 31, 6, 92, 46, 4, 96, 79, 132, 6, 1]
abbrev dktX4_drawn_5 : List UInt8 := dkwX4_drawn_5 ++ dktX4_drawn_6
def dkwX4_drawn_4 : List UInt8 := [132, 7, 1, 167, 255, 242, 21, 7, 158, 0, 24, 42, 180, 0, 31, 42, 22, 4, 21, 7, 133, 113, 136]
abbrev dktX4_drawn_4 : List UInt8 := dkwX4_drawn_4 ++ dktX4_drawn_5
def dkwX4_drawn_3 : List UInt8 := [20, 0, 241, 105, 20, 0, 243, 113, 55, 4, 3, 54, 7, 42, 21, 7, 182, 0, 245, 18, 65, 159, 0, 9]
abbrev dktX4_drawn_3 : List UInt8 := dkwX4_drawn_3 ++ dktX4_drawn_4
def dkwX4_drawn_2 : List UInt8 := [180, 0, 31, 3, 184, 0, 156, 28, 133, 55, 4, 3, 54, 6, 21, 6, 27, 162, 0, 77, 22, 4]
abbrev dktX4_drawn_2 : List UInt8 := dkwX4_drawn_2 ++ dktX4_drawn_3
def dkwX4_drawn_1 : List UInt8 := [184, 0, 71, 153, 0, 12, 29, 3, 4, 184, 0, 71, 154, 0, 6, 18, 79, 172, 42, 180, 0, 25, 3, 42]
abbrev dktX4_drawn_1 : List UInt8 := dkwX4_drawn_1 ++ dktX4_drawn_2
def dkwX4_drawn_0 : List UInt8 := [42, 182, 0, 191, 154, 0, 6, 18, 180, 172, 27, 3, 16, 60, 184, 0, 71, 153, 0, 22, 28, 4, 18, 240]
abbrev dktX4_drawn_0 : List UInt8 := dkwX4_drawn_0 ++ dktX4_drawn_1
theorem dksX4_drawn_0 : cX4_drawn.data.toList.drop 0 = dktX4_drawn_0 := by decide +kernel
theorem dksX4_drawn_1 : cX4_drawn.data.toList.drop 24 = dktX4_drawn_1 := dk_seg dksX4_drawn_0 24 rfl rfl
theorem dksX4_drawn_2 : cX4_drawn.data.toList.drop 48 = dktX4_drawn_2 := dk_seg dksX4_drawn_1 24 rfl rfl
theorem dksX4_drawn_3 : cX4_drawn.data.toList.drop 70 = dktX4_drawn_3 := dk_seg dksX4_drawn_2 22 rfl rfl
theorem dksX4_drawn_4 : cX4_drawn.data.toList.drop 94 = dktX4_drawn_4 := dk_seg dksX4_drawn_3 24 rfl rfl
theorem dksX4_drawn_5 : cX4_drawn.data.toList.drop 117 = dktX4_drawn_5 := dk_seg dksX4_drawn_4 23 rfl rfl
theorem dksX4_drawn_6 : cX4_drawn.data.toList.drop 139 = dktX4_drawn_6 := dk_seg dksX4_drawn_5 22 rfl rfl
theorem dX4_drawn_0 : decode cX4_drawn 0 = .ok (.aload_n 0, 1) := dk_42 (dk_at dksX4_drawn_0 0 rfl rfl)
theorem dX4_drawn_1 : decode cX4_drawn 1 = .ok (.invokevirtual 191, 3) := dk_182 0 191 (dk_at dksX4_drawn_0 1 rfl rfl)
theorem dX4_drawn_4 : decode cX4_drawn 4 = .ok (.ifCond .ne 6, 3) := dk_154 0 6 (dk_at dksX4_drawn_0 4 rfl rfl)
theorem dX4_drawn_7 : decode cX4_drawn 7 = .ok (.ldc 180, 2) := dk_18 180 (dk_at dksX4_drawn_0 7 rfl rfl)
theorem dX4_drawn_9 : decode cX4_drawn 9 = .ok (.ireturn, 1) := dk_172 (dk_at dksX4_drawn_0 9 rfl rfl)
theorem dX4_drawn_10 : decode cX4_drawn 10 = .ok (.iload_n 1, 1) := dk_27 (dk_at dksX4_drawn_0 10 rfl rfl)
theorem dX4_drawn_11 : decode cX4_drawn 11 = .ok (.iconst 0, 1) := dk_3 (dk_at dksX4_drawn_0 11 rfl rfl)
theorem dX4_drawn_12 : decode cX4_drawn 12 = .ok (.bipush 60, 2) := dk_16 60 (dk_at dksX4_drawn_0 12 rfl rfl)
theorem dX4_drawn_14 : decode cX4_drawn 14 = .ok (.invokestatic 71, 3) := dk_184 0 71 (dk_at dksX4_drawn_0 14 rfl rfl)
theorem dX4_drawn_17 : decode cX4_drawn 17 = .ok (.ifCond .eq 22, 3) := dk_153 0 22 (dk_at dksX4_drawn_0 17 rfl rfl)
theorem dX4_drawn_20 : decode cX4_drawn 20 = .ok (.iload_n 2, 1) := dk_28 (dk_at dksX4_drawn_0 20 rfl rfl)
theorem dX4_drawn_21 : decode cX4_drawn 21 = .ok (.iconst 1, 1) := dk_4 (dk_at dksX4_drawn_0 21 rfl rfl)
theorem dX4_drawn_22 : decode cX4_drawn 22 = .ok (.ldc 240, 2) := dk_18 240 (dk_at dksX4_drawn_0 22 rfl rfl)
theorem dX4_drawn_24 : decode cX4_drawn 24 = .ok (.invokestatic 71, 3) := dk_184 0 71 (dk_at dksX4_drawn_1 0 rfl rfl)
theorem dX4_drawn_27 : decode cX4_drawn 27 = .ok (.ifCond .eq 12, 3) := dk_153 0 12 (dk_at dksX4_drawn_1 3 rfl rfl)
theorem dX4_drawn_30 : decode cX4_drawn 30 = .ok (.iload_n 3, 1) := dk_29 (dk_at dksX4_drawn_1 6 rfl rfl)
theorem dX4_drawn_31 : decode cX4_drawn 31 = .ok (.iconst 0, 1) := dk_3 (dk_at dksX4_drawn_1 7 rfl rfl)
theorem dX4_drawn_32 : decode cX4_drawn 32 = .ok (.iconst 1, 1) := dk_4 (dk_at dksX4_drawn_1 8 rfl rfl)
theorem dX4_drawn_33 : decode cX4_drawn 33 = .ok (.invokestatic 71, 3) := dk_184 0 71 (dk_at dksX4_drawn_1 9 rfl rfl)
theorem dX4_drawn_36 : decode cX4_drawn 36 = .ok (.ifCond .ne 6, 3) := dk_154 0 6 (dk_at dksX4_drawn_1 12 rfl rfl)
theorem dX4_drawn_39 : decode cX4_drawn 39 = .ok (.ldc 79, 2) := dk_18 79 (dk_at dksX4_drawn_1 15 rfl rfl)
theorem dX4_drawn_41 : decode cX4_drawn 41 = .ok (.ireturn, 1) := dk_172 (dk_at dksX4_drawn_1 17 rfl rfl)
theorem dX4_drawn_42 : decode cX4_drawn 42 = .ok (.aload_n 0, 1) := dk_42 (dk_at dksX4_drawn_1 18 rfl rfl)
theorem dX4_drawn_43 : decode cX4_drawn 43 = .ok (.getfield 25, 3) := dk_180 0 25 (dk_at dksX4_drawn_1 19 rfl rfl)
theorem dX4_drawn_46 : decode cX4_drawn 46 = .ok (.iconst 0, 1) := dk_3 (dk_at dksX4_drawn_1 22 rfl rfl)
theorem dX4_drawn_47 : decode cX4_drawn 47 = .ok (.aload_n 0, 1) := dk_42 (dk_at dksX4_drawn_1 23 rfl rfl)
theorem dX4_drawn_48 : decode cX4_drawn 48 = .ok (.getfield 31, 3) := dk_180 0 31 (dk_at dksX4_drawn_2 0 rfl rfl)
theorem dX4_drawn_51 : decode cX4_drawn 51 = .ok (.iconst 0, 1) := dk_3 (dk_at dksX4_drawn_2 3 rfl rfl)
theorem dX4_drawn_52 : decode cX4_drawn 52 = .ok (.invokestatic 156, 3) := dk_184 0 156 (dk_at dksX4_drawn_2 4 rfl rfl)
theorem dX4_drawn_55 : decode cX4_drawn 55 = .ok (.iload_n 2, 1) := dk_28 (dk_at dksX4_drawn_2 7 rfl rfl)
theorem dX4_drawn_56 : decode cX4_drawn 56 = .ok (.i2l, 1) := dk_133 (dk_at dksX4_drawn_2 8 rfl rfl)
theorem dX4_drawn_57 : decode cX4_drawn 57 = .ok (.lstore 4, 2) := dk_55 4 (dk_at dksX4_drawn_2 9 rfl rfl)
theorem dX4_drawn_59 : decode cX4_drawn 59 = .ok (.iconst 0, 1) := dk_3 (dk_at dksX4_drawn_2 11 rfl rfl)
theorem dX4_drawn_60 : decode cX4_drawn 60 = .ok (.istore 6, 2) := dk_54 6 (dk_at dksX4_drawn_2 12 rfl rfl)
theorem dX4_drawn_62 : decode cX4_drawn 62 = .ok (.iload 6, 2) := dk_21 6 (dk_at dksX4_drawn_2 14 rfl rfl)
theorem dX4_drawn_64 : decode cX4_drawn 64 = .ok (.iload_n 1, 1) := dk_27 (dk_at dksX4_drawn_2 16 rfl rfl)
theorem dX4_drawn_65 : decode cX4_drawn 65 = .ok (.if_icmp .ge 77, 3) := dk_162 0 77 (dk_at dksX4_drawn_2 17 rfl rfl)
theorem dX4_drawn_68 : decode cX4_drawn 68 = .ok (.lload 4, 2) := dk_22 4 (dk_at dksX4_drawn_2 20 rfl rfl)
theorem dX4_drawn_70 : decode cX4_drawn 70 = .ok (.ldc2_w 241, 3) := dk_20 0 241 (dk_at dksX4_drawn_3 0 rfl rfl)
theorem dX4_drawn_73 : decode cX4_drawn 73 = .ok (.lmul, 1) := dk_105 (dk_at dksX4_drawn_3 3 rfl rfl)
theorem dX4_drawn_74 : decode cX4_drawn 74 = .ok (.ldc2_w 243, 3) := dk_20 0 243 (dk_at dksX4_drawn_3 4 rfl rfl)
theorem dX4_drawn_77 : decode cX4_drawn 77 = .ok (.lrem, 1) := dk_113 (dk_at dksX4_drawn_3 7 rfl rfl)
theorem dX4_drawn_78 : decode cX4_drawn 78 = .ok (.lstore 4, 2) := dk_55 4 (dk_at dksX4_drawn_3 8 rfl rfl)
theorem dX4_drawn_80 : decode cX4_drawn 80 = .ok (.iconst 0, 1) := dk_3 (dk_at dksX4_drawn_3 10 rfl rfl)
theorem dX4_drawn_81 : decode cX4_drawn 81 = .ok (.istore 7, 2) := dk_54 7 (dk_at dksX4_drawn_3 11 rfl rfl)
theorem dX4_drawn_83 : decode cX4_drawn 83 = .ok (.aload_n 0, 1) := dk_42 (dk_at dksX4_drawn_3 13 rfl rfl)
theorem dX4_drawn_84 : decode cX4_drawn 84 = .ok (.iload 7, 2) := dk_21 7 (dk_at dksX4_drawn_3 14 rfl rfl)
theorem dX4_drawn_86 : decode cX4_drawn 86 = .ok (.invokevirtual 245, 3) := dk_182 0 245 (dk_at dksX4_drawn_3 16 rfl rfl)
theorem dX4_drawn_89 : decode cX4_drawn 89 = .ok (.ldc 65, 2) := dk_18 65 (dk_at dksX4_drawn_3 19 rfl rfl)
theorem dX4_drawn_91 : decode cX4_drawn 91 = .ok (.if_icmp .eq 9, 3) := dk_159 0 9 (dk_at dksX4_drawn_3 21 rfl rfl)
theorem dX4_drawn_94 : decode cX4_drawn 94 = .ok (.iinc 7 1, 3) := dk_132 7 1 (dk_at dksX4_drawn_4 0 rfl rfl)
theorem dX4_drawn_97 : decode cX4_drawn 97 = .ok (.goto (-14), 3) := dk_167 255 242 (dk_at dksX4_drawn_4 3 rfl rfl)
theorem dX4_drawn_100 : decode cX4_drawn 100 = .ok (.iload 7, 2) := dk_21 7 (dk_at dksX4_drawn_4 6 rfl rfl)
theorem dX4_drawn_102 : decode cX4_drawn 102 = .ok (.ifCond .le 24, 3) := dk_158 0 24 (dk_at dksX4_drawn_4 8 rfl rfl)
theorem dX4_drawn_105 : decode cX4_drawn 105 = .ok (.aload_n 0, 1) := dk_42 (dk_at dksX4_drawn_4 11 rfl rfl)
theorem dX4_drawn_106 : decode cX4_drawn 106 = .ok (.getfield 31, 3) := dk_180 0 31 (dk_at dksX4_drawn_4 12 rfl rfl)
theorem dX4_drawn_109 : decode cX4_drawn 109 = .ok (.aload_n 0, 1) := dk_42 (dk_at dksX4_drawn_4 15 rfl rfl)
theorem dX4_drawn_110 : decode cX4_drawn 110 = .ok (.lload 4, 2) := dk_22 4 (dk_at dksX4_drawn_4 16 rfl rfl)
theorem dX4_drawn_112 : decode cX4_drawn 112 = .ok (.iload 7, 2) := dk_21 7 (dk_at dksX4_drawn_4 18 rfl rfl)
theorem dX4_drawn_114 : decode cX4_drawn 114 = .ok (.i2l, 1) := dk_133 (dk_at dksX4_drawn_4 20 rfl rfl)
theorem dX4_drawn_115 : decode cX4_drawn 115 = .ok (.lrem, 1) := dk_113 (dk_at dksX4_drawn_4 21 rfl rfl)
theorem dX4_drawn_116 : decode cX4_drawn 116 = .ok (.l2i, 1) := dk_136 (dk_at dksX4_drawn_4 22 rfl rfl)
theorem dX4_drawn_117 : decode cX4_drawn 117 = .ok (.invokevirtual 245, 3) := dk_182 0 245 (dk_at dksX4_drawn_5 0 rfl rfl)
theorem dX4_drawn_120 : decode cX4_drawn 120 = .ok (.invokestatic 184, 3) := dk_184 0 184 (dk_at dksX4_drawn_5 3 rfl rfl)
theorem dX4_drawn_123 : decode cX4_drawn 123 = .ok (.goto 13, 3) := dk_167 0 13 (dk_at dksX4_drawn_5 6 rfl rfl)
theorem dX4_drawn_126 : decode cX4_drawn 126 = .ok (.aload_n 0, 1) := dk_42 (dk_at dksX4_drawn_5 9 rfl rfl)
theorem dX4_drawn_127 : decode cX4_drawn 127 = .ok (.getfield 31, 3) := dk_180 0 31 (dk_at dksX4_drawn_5 10 rfl rfl)
theorem dX4_drawn_130 : decode cX4_drawn 130 = .ok (.iconst 3, 1) := dk_6 (dk_at dksX4_drawn_5 13 rfl rfl)
theorem dX4_drawn_131 : decode cX4_drawn 131 = .ok (.dup2, 1) := dk_92 (dk_at dksX4_drawn_5 14 rfl rfl)
theorem dX4_drawn_132 : decode cX4_drawn 132 = .ok (.iaload, 1) := dk_46 (dk_at dksX4_drawn_5 15 rfl rfl)
theorem dX4_drawn_133 : decode cX4_drawn 133 = .ok (.iconst 1, 1) := dk_4 (dk_at dksX4_drawn_5 16 rfl rfl)
theorem dX4_drawn_134 : decode cX4_drawn 134 = .ok (.iadd, 1) := dk_96 (dk_at dksX4_drawn_5 17 rfl rfl)
theorem dX4_drawn_135 : decode cX4_drawn 135 = .ok (.iastore, 1) := dk_79 (dk_at dksX4_drawn_5 18 rfl rfl)
theorem dX4_drawn_136 : decode cX4_drawn 136 = .ok (.iinc 6 1, 3) := dk_132 6 1 (dk_at dksX4_drawn_5 19 rfl rfl)
theorem dX4_drawn_139 : decode cX4_drawn 139 = .ok (.goto (-77), 3) := dk_167 255 179 (dk_at dksX4_drawn_6 0 rfl rfl)
theorem dX4_drawn_142 : decode cX4_drawn 142 = .ok (.iload_n 3, 1) := dk_29 (dk_at dksX4_drawn_6 3 rfl rfl)
theorem dX4_drawn_143 : decode cX4_drawn 143 = .ok (.ifCond .ne 12, 3) := dk_154 0 12 (dk_at dksX4_drawn_6 4 rfl rfl)
theorem dX4_drawn_146 : decode cX4_drawn 146 = .ok (.aload_n 0, 1) := dk_42 (dk_at dksX4_drawn_6 7 rfl rfl)
theorem dX4_drawn_147 : decode cX4_drawn 147 = .ok (.getfield 31, 3) := dk_180 0 31 (dk_at dksX4_drawn_6 8 rfl rfl)
theorem dX4_drawn_150 : decode cX4_drawn 150 = .ok (.iconst 2, 1) := dk_5 (dk_at dksX4_drawn_6 11 rfl rfl)
theorem dX4_drawn_151 : decode cX4_drawn 151 = .ok (.iaload, 1) := dk_46 (dk_at dksX4_drawn_6 12 rfl rfl)
theorem dX4_drawn_152 : decode cX4_drawn 152 = .ok (.goto 9, 3) := dk_167 0 9 (dk_at dksX4_drawn_6 13 rfl rfl)
theorem dX4_drawn_155 : decode cX4_drawn 155 = .ok (.aload_n 0, 1) := dk_42 (dk_at dksX4_drawn_6 16 rfl rfl)
theorem dX4_drawn_156 : decode cX4_drawn 156 = .ok (.getfield 31, 3) := dk_180 0 31 (dk_at dksX4_drawn_6 17 rfl rfl)
theorem dX4_drawn_159 : decode cX4_drawn 159 = .ok (.iconst 4, 1) := dk_7 (dk_at dksX4_drawn_6 20 rfl rfl)
theorem dX4_drawn_160 : decode cX4_drawn 160 = .ok (.iaload, 1) := dk_46 (dk_at dksX4_drawn_6 21 rfl rfl)
theorem dX4_drawn_161 : decode cX4_drawn 161 = .ok (.ireturn, 1) := dk_172 (dk_at dksX4_drawn_6 22 rfl rfl)
abbrev cX4_streetAfter : ByteArray := prog_26_method_65_code
def yX4_streetAfter : MethodName := ⟨RX4, "streetAfter", "(I)I"⟩
def dkwX4_streetAfter_2 : List UInt8 := [18, 65, 172]
abbrev dktX4_streetAfter_2 : List UInt8 := dkwX4_streetAfter_2 ++ []
def dkwX4_streetAfter_1 : List UInt8 := [7, 46, 184, 0, 176, 153, 0, 12, 28, 154, 0, 5, 29, 172, 132, 2, 255, 132, 3, 1, 167, 255, 216]
abbrev dktX4_streetAfter_1 : List UInt8 := dkwX4_streetAfter_1 ++ dktX4_streetAfter_2
def dkwX4_streetAfter_0 : List UInt8 := [27, 61, 3, 62, 29, 42, 180, 0, 31, 16, 25, 46, 162, 0, 35, 42, 180, 0, 31, 29, 42, 180, 0, 31]
abbrev dktX4_streetAfter_0 : List UInt8 := dkwX4_streetAfter_0 ++ dktX4_streetAfter_1
theorem dksX4_streetAfter_0 : cX4_streetAfter.data.toList.drop 0 = dktX4_streetAfter_0 := by decide +kernel
theorem dksX4_streetAfter_1 : cX4_streetAfter.data.toList.drop 24 = dktX4_streetAfter_1 := dk_seg dksX4_streetAfter_0 24 rfl rfl
theorem dksX4_streetAfter_2 : cX4_streetAfter.data.toList.drop 47 = dktX4_streetAfter_2 := dk_seg dksX4_streetAfter_1 23 rfl rfl
theorem dX4_streetAfter_0 : decode cX4_streetAfter 0 = .ok (.iload_n 1, 1) := dk_27 (dk_at dksX4_streetAfter_0 0 rfl rfl)
theorem dX4_streetAfter_1 : decode cX4_streetAfter 1 = .ok (.istore_n 2, 1) := dk_61 (dk_at dksX4_streetAfter_0 1 rfl rfl)
theorem dX4_streetAfter_2 : decode cX4_streetAfter 2 = .ok (.iconst 0, 1) := dk_3 (dk_at dksX4_streetAfter_0 2 rfl rfl)
theorem dX4_streetAfter_3 : decode cX4_streetAfter 3 = .ok (.istore_n 3, 1) := dk_62 (dk_at dksX4_streetAfter_0 3 rfl rfl)
theorem dX4_streetAfter_4 : decode cX4_streetAfter 4 = .ok (.iload_n 3, 1) := dk_29 (dk_at dksX4_streetAfter_0 4 rfl rfl)
theorem dX4_streetAfter_5 : decode cX4_streetAfter 5 = .ok (.aload_n 0, 1) := dk_42 (dk_at dksX4_streetAfter_0 5 rfl rfl)
theorem dX4_streetAfter_6 : decode cX4_streetAfter 6 = .ok (.getfield 31, 3) := dk_180 0 31 (dk_at dksX4_streetAfter_0 6 rfl rfl)
theorem dX4_streetAfter_9 : decode cX4_streetAfter 9 = .ok (.bipush 25, 2) := dk_16 25 (dk_at dksX4_streetAfter_0 9 rfl rfl)
theorem dX4_streetAfter_11 : decode cX4_streetAfter 11 = .ok (.iaload, 1) := dk_46 (dk_at dksX4_streetAfter_0 11 rfl rfl)
theorem dX4_streetAfter_12 : decode cX4_streetAfter 12 = .ok (.if_icmp .ge 35, 3) := dk_162 0 35 (dk_at dksX4_streetAfter_0 12 rfl rfl)
theorem dX4_streetAfter_15 : decode cX4_streetAfter 15 = .ok (.aload_n 0, 1) := dk_42 (dk_at dksX4_streetAfter_0 15 rfl rfl)
theorem dX4_streetAfter_16 : decode cX4_streetAfter 16 = .ok (.getfield 31, 3) := dk_180 0 31 (dk_at dksX4_streetAfter_0 16 rfl rfl)
theorem dX4_streetAfter_19 : decode cX4_streetAfter 19 = .ok (.iload_n 3, 1) := dk_29 (dk_at dksX4_streetAfter_0 19 rfl rfl)
theorem dX4_streetAfter_20 : decode cX4_streetAfter 20 = .ok (.aload_n 0, 1) := dk_42 (dk_at dksX4_streetAfter_0 20 rfl rfl)
theorem dX4_streetAfter_21 : decode cX4_streetAfter 21 = .ok (.getfield 31, 3) := dk_180 0 31 (dk_at dksX4_streetAfter_0 21 rfl rfl)
theorem dX4_streetAfter_24 : decode cX4_streetAfter 24 = .ok (.iconst 4, 1) := dk_7 (dk_at dksX4_streetAfter_1 0 rfl rfl)
theorem dX4_streetAfter_25 : decode cX4_streetAfter 25 = .ok (.iaload, 1) := dk_46 (dk_at dksX4_streetAfter_1 1 rfl rfl)
theorem dX4_streetAfter_26 : decode cX4_streetAfter 26 = .ok (.invokestatic 176, 3) := dk_184 0 176 (dk_at dksX4_streetAfter_1 2 rfl rfl)
theorem dX4_streetAfter_29 : decode cX4_streetAfter 29 = .ok (.ifCond .eq 12, 3) := dk_153 0 12 (dk_at dksX4_streetAfter_1 5 rfl rfl)
theorem dX4_streetAfter_32 : decode cX4_streetAfter 32 = .ok (.iload_n 2, 1) := dk_28 (dk_at dksX4_streetAfter_1 8 rfl rfl)
theorem dX4_streetAfter_33 : decode cX4_streetAfter 33 = .ok (.ifCond .ne 5, 3) := dk_154 0 5 (dk_at dksX4_streetAfter_1 9 rfl rfl)
theorem dX4_streetAfter_36 : decode cX4_streetAfter 36 = .ok (.iload_n 3, 1) := dk_29 (dk_at dksX4_streetAfter_1 12 rfl rfl)
theorem dX4_streetAfter_37 : decode cX4_streetAfter 37 = .ok (.ireturn, 1) := dk_172 (dk_at dksX4_streetAfter_1 13 rfl rfl)
theorem dX4_streetAfter_38 : decode cX4_streetAfter 38 = .ok (.iinc 2 (-1), 3) := dk_132 2 255 (dk_at dksX4_streetAfter_1 14 rfl rfl)
theorem dX4_streetAfter_41 : decode cX4_streetAfter 41 = .ok (.iinc 3 1, 3) := dk_132 3 1 (dk_at dksX4_streetAfter_1 17 rfl rfl)
theorem dX4_streetAfter_44 : decode cX4_streetAfter 44 = .ok (.goto (-40), 3) := dk_167 255 216 (dk_at dksX4_streetAfter_1 20 rfl rfl)
theorem dX4_streetAfter_47 : decode cX4_streetAfter 47 = .ok (.ldc 65, 2) := dk_18 65 (dk_at dksX4_streetAfter_2 0 rfl rfl)
theorem dX4_streetAfter_49 : decode cX4_streetAfter 49 = .ok (.ireturn, 1) := dk_172 (dk_at dksX4_streetAfter_2 2 rfl rfl)
abbrev cX4_image : ByteArray := prog_26_method_67_code
def yX4_image : MethodName := ⟨RX4, "image", "(I)I"⟩
def dkwX4_image_1 : List UInt8 := [180, 0, 25, 3, 42, 180, 0, 37, 16, 42, 27, 104, 184, 0, 156, 42, 180, 0, 40, 27, 4, 84, 4, 172]
abbrev dktX4_image_1 : List UInt8 := dkwX4_image_1 ++ []
def dkwX4_image_0 : List UInt8 := [27, 3, 4, 184, 0, 71, 154, 0, 6, 18, 79, 172, 42, 182, 0, 191, 154, 0, 6, 18, 180, 172, 42]
abbrev dktX4_image_0 : List UInt8 := dkwX4_image_0 ++ dktX4_image_1
theorem dksX4_image_0 : cX4_image.data.toList.drop 0 = dktX4_image_0 := by decide +kernel
theorem dksX4_image_1 : cX4_image.data.toList.drop 23 = dktX4_image_1 := dk_seg dksX4_image_0 23 rfl rfl
theorem dX4_image_0 : decode cX4_image 0 = .ok (.iload_n 1, 1) := dk_27 (dk_at dksX4_image_0 0 rfl rfl)
theorem dX4_image_1 : decode cX4_image 1 = .ok (.iconst 0, 1) := dk_3 (dk_at dksX4_image_0 1 rfl rfl)
theorem dX4_image_2 : decode cX4_image 2 = .ok (.iconst 1, 1) := dk_4 (dk_at dksX4_image_0 2 rfl rfl)
theorem dX4_image_3 : decode cX4_image 3 = .ok (.invokestatic 71, 3) := dk_184 0 71 (dk_at dksX4_image_0 3 rfl rfl)
theorem dX4_image_6 : decode cX4_image 6 = .ok (.ifCond .ne 6, 3) := dk_154 0 6 (dk_at dksX4_image_0 6 rfl rfl)
theorem dX4_image_9 : decode cX4_image 9 = .ok (.ldc 79, 2) := dk_18 79 (dk_at dksX4_image_0 9 rfl rfl)
theorem dX4_image_11 : decode cX4_image 11 = .ok (.ireturn, 1) := dk_172 (dk_at dksX4_image_0 11 rfl rfl)
theorem dX4_image_12 : decode cX4_image 12 = .ok (.aload_n 0, 1) := dk_42 (dk_at dksX4_image_0 12 rfl rfl)
theorem dX4_image_13 : decode cX4_image 13 = .ok (.invokevirtual 191, 3) := dk_182 0 191 (dk_at dksX4_image_0 13 rfl rfl)
theorem dX4_image_16 : decode cX4_image 16 = .ok (.ifCond .ne 6, 3) := dk_154 0 6 (dk_at dksX4_image_0 16 rfl rfl)
theorem dX4_image_19 : decode cX4_image 19 = .ok (.ldc 180, 2) := dk_18 180 (dk_at dksX4_image_0 19 rfl rfl)
theorem dX4_image_21 : decode cX4_image 21 = .ok (.ireturn, 1) := dk_172 (dk_at dksX4_image_0 21 rfl rfl)
theorem dX4_image_22 : decode cX4_image 22 = .ok (.aload_n 0, 1) := dk_42 (dk_at dksX4_image_0 22 rfl rfl)
theorem dX4_image_23 : decode cX4_image 23 = .ok (.getfield 25, 3) := dk_180 0 25 (dk_at dksX4_image_1 0 rfl rfl)
theorem dX4_image_26 : decode cX4_image 26 = .ok (.iconst 0, 1) := dk_3 (dk_at dksX4_image_1 3 rfl rfl)
theorem dX4_image_27 : decode cX4_image 27 = .ok (.aload_n 0, 1) := dk_42 (dk_at dksX4_image_1 4 rfl rfl)
theorem dX4_image_28 : decode cX4_image 28 = .ok (.getfield 37, 3) := dk_180 0 37 (dk_at dksX4_image_1 5 rfl rfl)
theorem dX4_image_31 : decode cX4_image 31 = .ok (.bipush 42, 2) := dk_16 42 (dk_at dksX4_image_1 8 rfl rfl)
theorem dX4_image_33 : decode cX4_image 33 = .ok (.iload_n 1, 1) := dk_27 (dk_at dksX4_image_1 10 rfl rfl)
theorem dX4_image_34 : decode cX4_image 34 = .ok (.imul, 1) := dk_104 (dk_at dksX4_image_1 11 rfl rfl)
theorem dX4_image_35 : decode cX4_image 35 = .ok (.invokestatic 156, 3) := dk_184 0 156 (dk_at dksX4_image_1 12 rfl rfl)
theorem dX4_image_38 : decode cX4_image 38 = .ok (.aload_n 0, 1) := dk_42 (dk_at dksX4_image_1 15 rfl rfl)
theorem dX4_image_39 : decode cX4_image 39 = .ok (.getfield 40, 3) := dk_180 0 40 (dk_at dksX4_image_1 16 rfl rfl)
theorem dX4_image_42 : decode cX4_image 42 = .ok (.iload_n 1, 1) := dk_27 (dk_at dksX4_image_1 19 rfl rfl)
theorem dX4_image_43 : decode cX4_image 43 = .ok (.iconst 1, 1) := dk_4 (dk_at dksX4_image_1 20 rfl rfl)
theorem dX4_image_44 : decode cX4_image 44 = .ok (.bastore, 1) := dk_84 (dk_at dksX4_image_1 21 rfl rfl)
theorem dX4_image_45 : decode cX4_image 45 = .ok (.iconst 1, 1) := dk_4 (dk_at dksX4_image_1 22 rfl rfl)
theorem dX4_image_46 : decode cX4_image 46 = .ok (.ireturn, 1) := dk_172 (dk_at dksX4_image_1 23 rfl rfl)
abbrev cX4_restore : ByteArray := prog_26_method_68_code
def yX4_restore : MethodName := ⟨RX4, "restore", "(I)I"⟩
def dkwX4_restore_1 : List UInt8 := [42, 180, 0, 37, 16, 42, 27, 104, 42, 180, 0, 25, 3, 184, 0, 156, 42, 3, 181, 0, 160, 4, 172]
abbrev dktX4_restore_1 : List UInt8 := dkwX4_restore_1 ++ []
def dkwX4_restore_0 : List UInt8 := [27, 3, 4, 184, 0, 71, 154, 0, 6, 18, 79, 172, 42, 180, 0, 40, 27, 51, 154, 0, 6, 18, 180, 172]
abbrev dktX4_restore_0 : List UInt8 := dkwX4_restore_0 ++ dktX4_restore_1
theorem dksX4_restore_0 : cX4_restore.data.toList.drop 0 = dktX4_restore_0 := by decide +kernel
theorem dksX4_restore_1 : cX4_restore.data.toList.drop 24 = dktX4_restore_1 := dk_seg dksX4_restore_0 24 rfl rfl
theorem dX4_restore_0 : decode cX4_restore 0 = .ok (.iload_n 1, 1) := dk_27 (dk_at dksX4_restore_0 0 rfl rfl)
theorem dX4_restore_1 : decode cX4_restore 1 = .ok (.iconst 0, 1) := dk_3 (dk_at dksX4_restore_0 1 rfl rfl)
theorem dX4_restore_2 : decode cX4_restore 2 = .ok (.iconst 1, 1) := dk_4 (dk_at dksX4_restore_0 2 rfl rfl)
theorem dX4_restore_3 : decode cX4_restore 3 = .ok (.invokestatic 71, 3) := dk_184 0 71 (dk_at dksX4_restore_0 3 rfl rfl)
theorem dX4_restore_6 : decode cX4_restore 6 = .ok (.ifCond .ne 6, 3) := dk_154 0 6 (dk_at dksX4_restore_0 6 rfl rfl)
theorem dX4_restore_9 : decode cX4_restore 9 = .ok (.ldc 79, 2) := dk_18 79 (dk_at dksX4_restore_0 9 rfl rfl)
theorem dX4_restore_11 : decode cX4_restore 11 = .ok (.ireturn, 1) := dk_172 (dk_at dksX4_restore_0 11 rfl rfl)
theorem dX4_restore_12 : decode cX4_restore 12 = .ok (.aload_n 0, 1) := dk_42 (dk_at dksX4_restore_0 12 rfl rfl)
theorem dX4_restore_13 : decode cX4_restore 13 = .ok (.getfield 40, 3) := dk_180 0 40 (dk_at dksX4_restore_0 13 rfl rfl)
theorem dX4_restore_16 : decode cX4_restore 16 = .ok (.iload_n 1, 1) := dk_27 (dk_at dksX4_restore_0 16 rfl rfl)
theorem dX4_restore_17 : decode cX4_restore 17 = .ok (.baload, 1) := dk_51 (dk_at dksX4_restore_0 17 rfl rfl)
theorem dX4_restore_18 : decode cX4_restore 18 = .ok (.ifCond .ne 6, 3) := dk_154 0 6 (dk_at dksX4_restore_0 18 rfl rfl)
theorem dX4_restore_21 : decode cX4_restore 21 = .ok (.ldc 180, 2) := dk_18 180 (dk_at dksX4_restore_0 21 rfl rfl)
theorem dX4_restore_23 : decode cX4_restore 23 = .ok (.ireturn, 1) := dk_172 (dk_at dksX4_restore_0 23 rfl rfl)
theorem dX4_restore_24 : decode cX4_restore 24 = .ok (.aload_n 0, 1) := dk_42 (dk_at dksX4_restore_1 0 rfl rfl)
theorem dX4_restore_25 : decode cX4_restore 25 = .ok (.getfield 37, 3) := dk_180 0 37 (dk_at dksX4_restore_1 1 rfl rfl)
theorem dX4_restore_28 : decode cX4_restore 28 = .ok (.bipush 42, 2) := dk_16 42 (dk_at dksX4_restore_1 4 rfl rfl)
theorem dX4_restore_30 : decode cX4_restore 30 = .ok (.iload_n 1, 1) := dk_27 (dk_at dksX4_restore_1 6 rfl rfl)
theorem dX4_restore_31 : decode cX4_restore 31 = .ok (.imul, 1) := dk_104 (dk_at dksX4_restore_1 7 rfl rfl)
theorem dX4_restore_32 : decode cX4_restore 32 = .ok (.aload_n 0, 1) := dk_42 (dk_at dksX4_restore_1 8 rfl rfl)
theorem dX4_restore_33 : decode cX4_restore 33 = .ok (.getfield 25, 3) := dk_180 0 25 (dk_at dksX4_restore_1 9 rfl rfl)
theorem dX4_restore_36 : decode cX4_restore 36 = .ok (.iconst 0, 1) := dk_3 (dk_at dksX4_restore_1 12 rfl rfl)
theorem dX4_restore_37 : decode cX4_restore 37 = .ok (.invokestatic 156, 3) := dk_184 0 156 (dk_at dksX4_restore_1 13 rfl rfl)
theorem dX4_restore_40 : decode cX4_restore 40 = .ok (.aload_n 0, 1) := dk_42 (dk_at dksX4_restore_1 16 rfl rfl)
theorem dX4_restore_41 : decode cX4_restore 41 = .ok (.iconst 0, 1) := dk_3 (dk_at dksX4_restore_1 17 rfl rfl)
theorem dX4_restore_42 : decode cX4_restore 42 = .ok (.putfield 160, 3) := dk_181 0 160 (dk_at dksX4_restore_1 18 rfl rfl)
theorem dX4_restore_45 : decode cX4_restore 45 = .ok (.iconst 1, 1) := dk_4 (dk_at dksX4_restore_1 21 rfl rfl)
theorem dX4_restore_46 : decode cX4_restore 46 = .ok (.ireturn, 1) := dk_172 (dk_at dksX4_restore_1 22 rfl rfl)
abbrev cX4_kind : ByteArray := prog_26_method_70_code
def yX4_kind : MethodName := ⟨RX4, "kind", "(I)I"⟩
def dkwX4_kind_0 : List UInt8 := [42, 27, 182, 0, 188, 153, 0, 11, 42, 27, 182, 0, 248, 167, 0, 5, 18, 79, 172]
abbrev dktX4_kind_0 : List UInt8 := dkwX4_kind_0 ++ []
theorem dksX4_kind_0 : cX4_kind.data.toList.drop 0 = dktX4_kind_0 := by decide +kernel
theorem dX4_kind_0 : decode cX4_kind 0 = .ok (.aload_n 0, 1) := dk_42 (dk_at dksX4_kind_0 0 rfl rfl)
theorem dX4_kind_1 : decode cX4_kind 1 = .ok (.iload_n 1, 1) := dk_27 (dk_at dksX4_kind_0 1 rfl rfl)
theorem dX4_kind_2 : decode cX4_kind 2 = .ok (.invokevirtual 188, 3) := dk_182 0 188 (dk_at dksX4_kind_0 2 rfl rfl)
theorem dX4_kind_5 : decode cX4_kind 5 = .ok (.ifCond .eq 11, 3) := dk_153 0 11 (dk_at dksX4_kind_0 5 rfl rfl)
theorem dX4_kind_8 : decode cX4_kind 8 = .ok (.aload_n 0, 1) := dk_42 (dk_at dksX4_kind_0 8 rfl rfl)
theorem dX4_kind_9 : decode cX4_kind 9 = .ok (.iload_n 1, 1) := dk_27 (dk_at dksX4_kind_0 9 rfl rfl)
theorem dX4_kind_10 : decode cX4_kind 10 = .ok (.invokevirtual 248, 3) := dk_182 0 248 (dk_at dksX4_kind_0 10 rfl rfl)
theorem dX4_kind_13 : decode cX4_kind 13 = .ok (.goto 5, 3) := dk_167 0 5 (dk_at dksX4_kind_0 13 rfl rfl)
theorem dX4_kind_16 : decode cX4_kind 16 = .ok (.ldc 79, 2) := dk_18 79 (dk_at dksX4_kind_0 16 rfl rfl)
theorem dX4_kind_18 : decode cX4_kind 18 = .ok (.ireturn, 1) := dk_172 (dk_at dksX4_kind_0 18 rfl rfl)
abbrev cX4_kindIn : ByteArray := prog_26_method_69_code
def yX4_kindIn : MethodName := ⟨RX4, "kindIn", "(I)I"⟩
def dkwX4_kindIn_0 : List UInt8 := [42, 180, 0, 25, 16, 7, 6, 27, 104, 96, 46, 172]
abbrev dktX4_kindIn_0 : List UInt8 := dkwX4_kindIn_0 ++ []
theorem dksX4_kindIn_0 : cX4_kindIn.data.toList.drop 0 = dktX4_kindIn_0 := by decide +kernel
theorem dX4_kindIn_0 : decode cX4_kindIn 0 = .ok (.aload_n 0, 1) := dk_42 (dk_at dksX4_kindIn_0 0 rfl rfl)
theorem dX4_kindIn_1 : decode cX4_kindIn 1 = .ok (.getfield 25, 3) := dk_180 0 25 (dk_at dksX4_kindIn_0 1 rfl rfl)
theorem dX4_kindIn_4 : decode cX4_kindIn 4 = .ok (.bipush 7, 2) := dk_16 7 (dk_at dksX4_kindIn_0 4 rfl rfl)
theorem dX4_kindIn_6 : decode cX4_kindIn 6 = .ok (.iconst 3, 1) := dk_6 (dk_at dksX4_kindIn_0 6 rfl rfl)
theorem dX4_kindIn_7 : decode cX4_kindIn 7 = .ok (.iload_n 1, 1) := dk_27 (dk_at dksX4_kindIn_0 7 rfl rfl)
theorem dX4_kindIn_8 : decode cX4_kindIn 8 = .ok (.imul, 1) := dk_104 (dk_at dksX4_kindIn_0 8 rfl rfl)
theorem dX4_kindIn_9 : decode cX4_kindIn 9 = .ok (.iadd, 1) := dk_96 (dk_at dksX4_kindIn_0 9 rfl rfl)
theorem dX4_kindIn_10 : decode cX4_kindIn 10 = .ok (.iaload, 1) := dk_46 (dk_at dksX4_kindIn_0 10 rfl rfl)
theorem dX4_kindIn_11 : decode cX4_kindIn 11 = .ok (.ireturn, 1) := dk_172 (dk_at dksX4_kindIn_0 11 rfl rfl)
abbrev cX4_as : ByteArray := prog_26_method_71_code
def yX4_as : MethodName := ⟨RX4, "as", "(II)I"⟩
def dkwX4_as_3 : List UInt8 := [182, 0, 84, 167, 0, 8, 42, 6, 182, 0, 80, 172]
abbrev dktX4_as_3 : List UInt8 := dkwX4_as_3 ++ []
def dkwX4_as_2 : List UInt8 := [7, 160, 0, 12, 29, 8, 160, 0, 7, 4, 167, 0, 4, 3, 54, 4, 21, 4, 153, 0, 11, 42, 27]
abbrev dktX4_as_2 : List UInt8 := dkwX4_as_2 ++ dktX4_as_3
def dkwX4_as_1 : List UInt8 := [182, 0, 248, 62, 28, 153, 0, 28, 28, 29, 159, 0, 23, 28, 4, 160, 0, 8, 29, 7, 161, 0, 13, 28]
abbrev dktX4_as_1 : List UInt8 := dkwX4_as_1 ++ dktX4_as_2
def dkwX4_as_0 : List UInt8 := [42, 27, 182, 0, 188, 153, 0, 12, 28, 3, 8, 184, 0, 71, 154, 0, 6, 18, 79, 172, 42, 27]
abbrev dktX4_as_0 : List UInt8 := dkwX4_as_0 ++ dktX4_as_1
theorem dksX4_as_0 : cX4_as.data.toList.drop 0 = dktX4_as_0 := by decide +kernel
theorem dksX4_as_1 : cX4_as.data.toList.drop 22 = dktX4_as_1 := dk_seg dksX4_as_0 22 rfl rfl
theorem dksX4_as_2 : cX4_as.data.toList.drop 46 = dktX4_as_2 := dk_seg dksX4_as_1 24 rfl rfl
theorem dksX4_as_3 : cX4_as.data.toList.drop 69 = dktX4_as_3 := dk_seg dksX4_as_2 23 rfl rfl
theorem dX4_as_0 : decode cX4_as 0 = .ok (.aload_n 0, 1) := dk_42 (dk_at dksX4_as_0 0 rfl rfl)
theorem dX4_as_1 : decode cX4_as 1 = .ok (.iload_n 1, 1) := dk_27 (dk_at dksX4_as_0 1 rfl rfl)
theorem dX4_as_2 : decode cX4_as 2 = .ok (.invokevirtual 188, 3) := dk_182 0 188 (dk_at dksX4_as_0 2 rfl rfl)
theorem dX4_as_5 : decode cX4_as 5 = .ok (.ifCond .eq 12, 3) := dk_153 0 12 (dk_at dksX4_as_0 5 rfl rfl)
theorem dX4_as_8 : decode cX4_as 8 = .ok (.iload_n 2, 1) := dk_28 (dk_at dksX4_as_0 8 rfl rfl)
theorem dX4_as_9 : decode cX4_as 9 = .ok (.iconst 0, 1) := dk_3 (dk_at dksX4_as_0 9 rfl rfl)
theorem dX4_as_10 : decode cX4_as 10 = .ok (.iconst 5, 1) := dk_8 (dk_at dksX4_as_0 10 rfl rfl)
theorem dX4_as_11 : decode cX4_as 11 = .ok (.invokestatic 71, 3) := dk_184 0 71 (dk_at dksX4_as_0 11 rfl rfl)
theorem dX4_as_14 : decode cX4_as 14 = .ok (.ifCond .ne 6, 3) := dk_154 0 6 (dk_at dksX4_as_0 14 rfl rfl)
theorem dX4_as_17 : decode cX4_as 17 = .ok (.ldc 79, 2) := dk_18 79 (dk_at dksX4_as_0 17 rfl rfl)
theorem dX4_as_19 : decode cX4_as 19 = .ok (.ireturn, 1) := dk_172 (dk_at dksX4_as_0 19 rfl rfl)
theorem dX4_as_20 : decode cX4_as 20 = .ok (.aload_n 0, 1) := dk_42 (dk_at dksX4_as_0 20 rfl rfl)
theorem dX4_as_21 : decode cX4_as 21 = .ok (.iload_n 1, 1) := dk_27 (dk_at dksX4_as_0 21 rfl rfl)
theorem dX4_as_22 : decode cX4_as 22 = .ok (.invokevirtual 248, 3) := dk_182 0 248 (dk_at dksX4_as_1 0 rfl rfl)
theorem dX4_as_25 : decode cX4_as 25 = .ok (.istore_n 3, 1) := dk_62 (dk_at dksX4_as_1 3 rfl rfl)
theorem dX4_as_26 : decode cX4_as 26 = .ok (.iload_n 2, 1) := dk_28 (dk_at dksX4_as_1 4 rfl rfl)
theorem dX4_as_27 : decode cX4_as 27 = .ok (.ifCond .eq 28, 3) := dk_153 0 28 (dk_at dksX4_as_1 5 rfl rfl)
theorem dX4_as_30 : decode cX4_as 30 = .ok (.iload_n 2, 1) := dk_28 (dk_at dksX4_as_1 8 rfl rfl)
theorem dX4_as_31 : decode cX4_as 31 = .ok (.iload_n 3, 1) := dk_29 (dk_at dksX4_as_1 9 rfl rfl)
theorem dX4_as_32 : decode cX4_as 32 = .ok (.if_icmp .eq 23, 3) := dk_159 0 23 (dk_at dksX4_as_1 10 rfl rfl)
theorem dX4_as_35 : decode cX4_as 35 = .ok (.iload_n 2, 1) := dk_28 (dk_at dksX4_as_1 13 rfl rfl)
theorem dX4_as_36 : decode cX4_as 36 = .ok (.iconst 1, 1) := dk_4 (dk_at dksX4_as_1 14 rfl rfl)
theorem dX4_as_37 : decode cX4_as 37 = .ok (.if_icmp .ne 8, 3) := dk_160 0 8 (dk_at dksX4_as_1 15 rfl rfl)
theorem dX4_as_40 : decode cX4_as 40 = .ok (.iload_n 3, 1) := dk_29 (dk_at dksX4_as_1 18 rfl rfl)
theorem dX4_as_41 : decode cX4_as 41 = .ok (.iconst 4, 1) := dk_7 (dk_at dksX4_as_1 19 rfl rfl)
theorem dX4_as_42 : decode cX4_as 42 = .ok (.if_icmp .lt 13, 3) := dk_161 0 13 (dk_at dksX4_as_1 20 rfl rfl)
theorem dX4_as_45 : decode cX4_as 45 = .ok (.iload_n 2, 1) := dk_28 (dk_at dksX4_as_1 23 rfl rfl)
theorem dX4_as_46 : decode cX4_as 46 = .ok (.iconst 4, 1) := dk_7 (dk_at dksX4_as_2 0 rfl rfl)
theorem dX4_as_47 : decode cX4_as 47 = .ok (.if_icmp .ne 12, 3) := dk_160 0 12 (dk_at dksX4_as_2 1 rfl rfl)
theorem dX4_as_50 : decode cX4_as 50 = .ok (.iload_n 3, 1) := dk_29 (dk_at dksX4_as_2 4 rfl rfl)
theorem dX4_as_51 : decode cX4_as 51 = .ok (.iconst 5, 1) := dk_8 (dk_at dksX4_as_2 5 rfl rfl)
theorem dX4_as_52 : decode cX4_as 52 = .ok (.if_icmp .ne 7, 3) := dk_160 0 7 (dk_at dksX4_as_2 6 rfl rfl)
theorem dX4_as_55 : decode cX4_as 55 = .ok (.iconst 1, 1) := dk_4 (dk_at dksX4_as_2 9 rfl rfl)
theorem dX4_as_56 : decode cX4_as 56 = .ok (.goto 4, 3) := dk_167 0 4 (dk_at dksX4_as_2 10 rfl rfl)
theorem dX4_as_59 : decode cX4_as 59 = .ok (.iconst 0, 1) := dk_3 (dk_at dksX4_as_2 13 rfl rfl)
theorem dX4_as_60 : decode cX4_as 60 = .ok (.istore 4, 2) := dk_54 4 (dk_at dksX4_as_2 14 rfl rfl)
theorem dX4_as_62 : decode cX4_as 62 = .ok (.iload 4, 2) := dk_21 4 (dk_at dksX4_as_2 16 rfl rfl)
theorem dX4_as_64 : decode cX4_as 64 = .ok (.ifCond .eq 11, 3) := dk_153 0 11 (dk_at dksX4_as_2 18 rfl rfl)
theorem dX4_as_67 : decode cX4_as 67 = .ok (.aload_n 0, 1) := dk_42 (dk_at dksX4_as_2 21 rfl rfl)
theorem dX4_as_68 : decode cX4_as 68 = .ok (.iload_n 1, 1) := dk_27 (dk_at dksX4_as_2 22 rfl rfl)
theorem dX4_as_69 : decode cX4_as 69 = .ok (.invokevirtual 84, 3) := dk_182 0 84 (dk_at dksX4_as_3 0 rfl rfl)
theorem dX4_as_72 : decode cX4_as 72 = .ok (.goto 8, 3) := dk_167 0 8 (dk_at dksX4_as_3 3 rfl rfl)
theorem dX4_as_75 : decode cX4_as 75 = .ok (.aload_n 0, 1) := dk_42 (dk_at dksX4_as_3 6 rfl rfl)
theorem dX4_as_76 : decode cX4_as 76 = .ok (.iconst 3, 1) := dk_6 (dk_at dksX4_as_3 7 rfl rfl)
theorem dX4_as_77 : decode cX4_as 77 = .ok (.invokevirtual 80, 3) := dk_182 0 80 (dk_at dksX4_as_3 8 rfl rfl)
theorem dX4_as_80 : decode cX4_as 80 = .ok (.ireturn, 1) := dk_172 (dk_at dksX4_as_3 11 rfl rfl)
abbrev cX4_ask : ByteArray := prog_26_method_77_code
def yX4_ask : MethodName := ⟨RX4, "ask", "(II)I"⟩
def dkwX4_ask_3 : List UInt8 := [182, 1, 10, 167, 0, 8, 42, 27, 182, 1, 1, 172]
abbrev dktX4_ask_3 : List UInt8 := dkwX4_ask_3 ++ []
def dkwX4_ask_2 : List UInt8 := [153, 0, 11, 42, 27, 182, 1, 4, 167, 0, 8, 42, 27, 182, 1, 7, 172, 29, 153, 0, 11, 42, 27]
abbrev dktX4_ask_2 : List UInt8 := dkwX4_ask_2 ++ dktX4_ask_3
def dkwX4_ask_1 : List UInt8 := [181, 0, 251, 42, 27, 182, 0, 248, 7, 161, 0, 7, 4, 167, 0, 4, 3, 62, 28, 154, 0, 21, 29]
abbrev dktX4_ask_1 : List UInt8 := dkwX4_ask_1 ++ dktX4_ask_2
def dkwX4_ask_0 : List UInt8 := [42, 27, 182, 0, 188, 153, 0, 12, 28, 3, 4, 184, 0, 71, 154, 0, 6, 18, 79, 172, 42, 3]
abbrev dktX4_ask_0 : List UInt8 := dkwX4_ask_0 ++ dktX4_ask_1
theorem dksX4_ask_0 : cX4_ask.data.toList.drop 0 = dktX4_ask_0 := by decide +kernel
theorem dksX4_ask_1 : cX4_ask.data.toList.drop 22 = dktX4_ask_1 := dk_seg dksX4_ask_0 22 rfl rfl
theorem dksX4_ask_2 : cX4_ask.data.toList.drop 45 = dktX4_ask_2 := dk_seg dksX4_ask_1 23 rfl rfl
theorem dksX4_ask_3 : cX4_ask.data.toList.drop 68 = dktX4_ask_3 := dk_seg dksX4_ask_2 23 rfl rfl
theorem dX4_ask_0 : decode cX4_ask 0 = .ok (.aload_n 0, 1) := dk_42 (dk_at dksX4_ask_0 0 rfl rfl)
theorem dX4_ask_1 : decode cX4_ask 1 = .ok (.iload_n 1, 1) := dk_27 (dk_at dksX4_ask_0 1 rfl rfl)
theorem dX4_ask_2 : decode cX4_ask 2 = .ok (.invokevirtual 188, 3) := dk_182 0 188 (dk_at dksX4_ask_0 2 rfl rfl)
theorem dX4_ask_5 : decode cX4_ask 5 = .ok (.ifCond .eq 12, 3) := dk_153 0 12 (dk_at dksX4_ask_0 5 rfl rfl)
theorem dX4_ask_8 : decode cX4_ask 8 = .ok (.iload_n 2, 1) := dk_28 (dk_at dksX4_ask_0 8 rfl rfl)
theorem dX4_ask_9 : decode cX4_ask 9 = .ok (.iconst 0, 1) := dk_3 (dk_at dksX4_ask_0 9 rfl rfl)
theorem dX4_ask_10 : decode cX4_ask 10 = .ok (.iconst 1, 1) := dk_4 (dk_at dksX4_ask_0 10 rfl rfl)
theorem dX4_ask_11 : decode cX4_ask 11 = .ok (.invokestatic 71, 3) := dk_184 0 71 (dk_at dksX4_ask_0 11 rfl rfl)
theorem dX4_ask_14 : decode cX4_ask 14 = .ok (.ifCond .ne 6, 3) := dk_154 0 6 (dk_at dksX4_ask_0 14 rfl rfl)
theorem dX4_ask_17 : decode cX4_ask 17 = .ok (.ldc 79, 2) := dk_18 79 (dk_at dksX4_ask_0 17 rfl rfl)
theorem dX4_ask_19 : decode cX4_ask 19 = .ok (.ireturn, 1) := dk_172 (dk_at dksX4_ask_0 19 rfl rfl)
theorem dX4_ask_20 : decode cX4_ask 20 = .ok (.aload_n 0, 1) := dk_42 (dk_at dksX4_ask_0 20 rfl rfl)
theorem dX4_ask_21 : decode cX4_ask 21 = .ok (.iconst 0, 1) := dk_3 (dk_at dksX4_ask_0 21 rfl rfl)
theorem dX4_ask_22 : decode cX4_ask 22 = .ok (.putfield 251, 3) := dk_181 0 251 (dk_at dksX4_ask_1 0 rfl rfl)
theorem dX4_ask_25 : decode cX4_ask 25 = .ok (.aload_n 0, 1) := dk_42 (dk_at dksX4_ask_1 3 rfl rfl)
theorem dX4_ask_26 : decode cX4_ask 26 = .ok (.iload_n 1, 1) := dk_27 (dk_at dksX4_ask_1 4 rfl rfl)
theorem dX4_ask_27 : decode cX4_ask 27 = .ok (.invokevirtual 248, 3) := dk_182 0 248 (dk_at dksX4_ask_1 5 rfl rfl)
theorem dX4_ask_30 : decode cX4_ask 30 = .ok (.iconst 4, 1) := dk_7 (dk_at dksX4_ask_1 8 rfl rfl)
theorem dX4_ask_31 : decode cX4_ask 31 = .ok (.if_icmp .lt 7, 3) := dk_161 0 7 (dk_at dksX4_ask_1 9 rfl rfl)
theorem dX4_ask_34 : decode cX4_ask 34 = .ok (.iconst 1, 1) := dk_4 (dk_at dksX4_ask_1 12 rfl rfl)
theorem dX4_ask_35 : decode cX4_ask 35 = .ok (.goto 4, 3) := dk_167 0 4 (dk_at dksX4_ask_1 13 rfl rfl)
theorem dX4_ask_38 : decode cX4_ask 38 = .ok (.iconst 0, 1) := dk_3 (dk_at dksX4_ask_1 16 rfl rfl)
theorem dX4_ask_39 : decode cX4_ask 39 = .ok (.istore_n 3, 1) := dk_62 (dk_at dksX4_ask_1 17 rfl rfl)
theorem dX4_ask_40 : decode cX4_ask 40 = .ok (.iload_n 2, 1) := dk_28 (dk_at dksX4_ask_1 18 rfl rfl)
theorem dX4_ask_41 : decode cX4_ask 41 = .ok (.ifCond .ne 21, 3) := dk_154 0 21 (dk_at dksX4_ask_1 19 rfl rfl)
theorem dX4_ask_44 : decode cX4_ask 44 = .ok (.iload_n 3, 1) := dk_29 (dk_at dksX4_ask_1 22 rfl rfl)
theorem dX4_ask_45 : decode cX4_ask 45 = .ok (.ifCond .eq 11, 3) := dk_153 0 11 (dk_at dksX4_ask_2 0 rfl rfl)
theorem dX4_ask_48 : decode cX4_ask 48 = .ok (.aload_n 0, 1) := dk_42 (dk_at dksX4_ask_2 3 rfl rfl)
theorem dX4_ask_49 : decode cX4_ask 49 = .ok (.iload_n 1, 1) := dk_27 (dk_at dksX4_ask_2 4 rfl rfl)
theorem dX4_ask_50 : decode cX4_ask 50 = .ok (.invokevirtual 260, 3) := dk_182 1 4 (dk_at dksX4_ask_2 5 rfl rfl)
theorem dX4_ask_53 : decode cX4_ask 53 = .ok (.goto 8, 3) := dk_167 0 8 (dk_at dksX4_ask_2 8 rfl rfl)
theorem dX4_ask_56 : decode cX4_ask 56 = .ok (.aload_n 0, 1) := dk_42 (dk_at dksX4_ask_2 11 rfl rfl)
theorem dX4_ask_57 : decode cX4_ask 57 = .ok (.iload_n 1, 1) := dk_27 (dk_at dksX4_ask_2 12 rfl rfl)
theorem dX4_ask_58 : decode cX4_ask 58 = .ok (.invokevirtual 263, 3) := dk_182 1 7 (dk_at dksX4_ask_2 13 rfl rfl)
theorem dX4_ask_61 : decode cX4_ask 61 = .ok (.ireturn, 1) := dk_172 (dk_at dksX4_ask_2 16 rfl rfl)
theorem dX4_ask_62 : decode cX4_ask 62 = .ok (.iload_n 3, 1) := dk_29 (dk_at dksX4_ask_2 17 rfl rfl)
theorem dX4_ask_63 : decode cX4_ask 63 = .ok (.ifCond .eq 11, 3) := dk_153 0 11 (dk_at dksX4_ask_2 18 rfl rfl)
theorem dX4_ask_66 : decode cX4_ask 66 = .ok (.aload_n 0, 1) := dk_42 (dk_at dksX4_ask_2 21 rfl rfl)
theorem dX4_ask_67 : decode cX4_ask 67 = .ok (.iload_n 1, 1) := dk_27 (dk_at dksX4_ask_2 22 rfl rfl)
theorem dX4_ask_68 : decode cX4_ask 68 = .ok (.invokevirtual 266, 3) := dk_182 1 10 (dk_at dksX4_ask_3 0 rfl rfl)
theorem dX4_ask_71 : decode cX4_ask 71 = .ok (.goto 8, 3) := dk_167 0 8 (dk_at dksX4_ask_3 3 rfl rfl)
theorem dX4_ask_74 : decode cX4_ask 74 = .ok (.aload_n 0, 1) := dk_42 (dk_at dksX4_ask_3 6 rfl rfl)
theorem dX4_ask_75 : decode cX4_ask 75 = .ok (.iload_n 1, 1) := dk_27 (dk_at dksX4_ask_3 7 rfl rfl)
theorem dX4_ask_76 : decode cX4_ask 76 = .ok (.invokevirtual 257, 3) := dk_182 1 1 (dk_at dksX4_ask_3 8 rfl rfl)
theorem dX4_ask_79 : decode cX4_ask 79 = .ok (.ireturn, 1) := dk_172 (dk_at dksX4_ask_3 11 rfl rfl)
abbrev cX4_griefSize : ByteArray := prog_26_method_74_code
def yX4_griefSize : MethodName := ⟨RX4, "griefSize", "(I)I"⟩
def dkwX4_griefSize_2 : List UInt8 := [96, 5, 96, 46, 16, 100, 100, 62, 28, 153, 0, 9, 5, 29, 104, 167, 0, 4, 29, 172]
abbrev dktX4_griefSize_2 : List UInt8 := dkwX4_griefSize_2 ++ []
def dkwX4_griefSize_1 : List UInt8 := [182, 0, 254, 42, 16, 13, 182, 0, 254, 42, 16, 10, 182, 0, 254, 42, 180, 0, 25, 16, 7, 6, 27, 104]
abbrev dktX4_griefSize_1 : List UInt8 := dkwX4_griefSize_1 ++ dktX4_griefSize_2
def dkwX4_griefSize_0 : List UInt8 := [42, 27, 182, 0, 248, 8, 160, 0, 7, 4, 167, 0, 4, 3, 61, 28, 153, 0, 9, 42, 16, 14]
abbrev dktX4_griefSize_0 : List UInt8 := dkwX4_griefSize_0 ++ dktX4_griefSize_1
theorem dksX4_griefSize_0 : cX4_griefSize.data.toList.drop 0 = dktX4_griefSize_0 := by decide +kernel
theorem dksX4_griefSize_1 : cX4_griefSize.data.toList.drop 22 = dktX4_griefSize_1 := dk_seg dksX4_griefSize_0 22 rfl rfl
theorem dksX4_griefSize_2 : cX4_griefSize.data.toList.drop 46 = dktX4_griefSize_2 := dk_seg dksX4_griefSize_1 24 rfl rfl
theorem dX4_griefSize_0 : decode cX4_griefSize 0 = .ok (.aload_n 0, 1) := dk_42 (dk_at dksX4_griefSize_0 0 rfl rfl)
theorem dX4_griefSize_1 : decode cX4_griefSize 1 = .ok (.iload_n 1, 1) := dk_27 (dk_at dksX4_griefSize_0 1 rfl rfl)
theorem dX4_griefSize_2 : decode cX4_griefSize 2 = .ok (.invokevirtual 248, 3) := dk_182 0 248 (dk_at dksX4_griefSize_0 2 rfl rfl)
theorem dX4_griefSize_5 : decode cX4_griefSize 5 = .ok (.iconst 5, 1) := dk_8 (dk_at dksX4_griefSize_0 5 rfl rfl)
theorem dX4_griefSize_6 : decode cX4_griefSize 6 = .ok (.if_icmp .ne 7, 3) := dk_160 0 7 (dk_at dksX4_griefSize_0 6 rfl rfl)
theorem dX4_griefSize_9 : decode cX4_griefSize 9 = .ok (.iconst 1, 1) := dk_4 (dk_at dksX4_griefSize_0 9 rfl rfl)
theorem dX4_griefSize_10 : decode cX4_griefSize 10 = .ok (.goto 4, 3) := dk_167 0 4 (dk_at dksX4_griefSize_0 10 rfl rfl)
theorem dX4_griefSize_13 : decode cX4_griefSize 13 = .ok (.iconst 0, 1) := dk_3 (dk_at dksX4_griefSize_0 13 rfl rfl)
theorem dX4_griefSize_14 : decode cX4_griefSize 14 = .ok (.istore_n 2, 1) := dk_61 (dk_at dksX4_griefSize_0 14 rfl rfl)
theorem dX4_griefSize_15 : decode cX4_griefSize 15 = .ok (.iload_n 2, 1) := dk_28 (dk_at dksX4_griefSize_0 15 rfl rfl)
theorem dX4_griefSize_16 : decode cX4_griefSize 16 = .ok (.ifCond .eq 9, 3) := dk_153 0 9 (dk_at dksX4_griefSize_0 16 rfl rfl)
theorem dX4_griefSize_19 : decode cX4_griefSize 19 = .ok (.aload_n 0, 1) := dk_42 (dk_at dksX4_griefSize_0 19 rfl rfl)
theorem dX4_griefSize_20 : decode cX4_griefSize 20 = .ok (.bipush 14, 2) := dk_16 14 (dk_at dksX4_griefSize_0 20 rfl rfl)
theorem dX4_griefSize_22 : decode cX4_griefSize 22 = .ok (.invokevirtual 254, 3) := dk_182 0 254 (dk_at dksX4_griefSize_1 0 rfl rfl)
theorem dX4_griefSize_25 : decode cX4_griefSize 25 = .ok (.aload_n 0, 1) := dk_42 (dk_at dksX4_griefSize_1 3 rfl rfl)
theorem dX4_griefSize_26 : decode cX4_griefSize 26 = .ok (.bipush 13, 2) := dk_16 13 (dk_at dksX4_griefSize_1 4 rfl rfl)
theorem dX4_griefSize_28 : decode cX4_griefSize 28 = .ok (.invokevirtual 254, 3) := dk_182 0 254 (dk_at dksX4_griefSize_1 6 rfl rfl)
theorem dX4_griefSize_31 : decode cX4_griefSize 31 = .ok (.aload_n 0, 1) := dk_42 (dk_at dksX4_griefSize_1 9 rfl rfl)
theorem dX4_griefSize_32 : decode cX4_griefSize 32 = .ok (.bipush 10, 2) := dk_16 10 (dk_at dksX4_griefSize_1 10 rfl rfl)
theorem dX4_griefSize_34 : decode cX4_griefSize 34 = .ok (.invokevirtual 254, 3) := dk_182 0 254 (dk_at dksX4_griefSize_1 12 rfl rfl)
theorem dX4_griefSize_37 : decode cX4_griefSize 37 = .ok (.aload_n 0, 1) := dk_42 (dk_at dksX4_griefSize_1 15 rfl rfl)
theorem dX4_griefSize_38 : decode cX4_griefSize 38 = .ok (.getfield 25, 3) := dk_180 0 25 (dk_at dksX4_griefSize_1 16 rfl rfl)
theorem dX4_griefSize_41 : decode cX4_griefSize 41 = .ok (.bipush 7, 2) := dk_16 7 (dk_at dksX4_griefSize_1 19 rfl rfl)
theorem dX4_griefSize_43 : decode cX4_griefSize 43 = .ok (.iconst 3, 1) := dk_6 (dk_at dksX4_griefSize_1 21 rfl rfl)
theorem dX4_griefSize_44 : decode cX4_griefSize 44 = .ok (.iload_n 1, 1) := dk_27 (dk_at dksX4_griefSize_1 22 rfl rfl)
theorem dX4_griefSize_45 : decode cX4_griefSize 45 = .ok (.imul, 1) := dk_104 (dk_at dksX4_griefSize_1 23 rfl rfl)
theorem dX4_griefSize_46 : decode cX4_griefSize 46 = .ok (.iadd, 1) := dk_96 (dk_at dksX4_griefSize_2 0 rfl rfl)
theorem dX4_griefSize_47 : decode cX4_griefSize 47 = .ok (.iconst 2, 1) := dk_5 (dk_at dksX4_griefSize_2 1 rfl rfl)
theorem dX4_griefSize_48 : decode cX4_griefSize 48 = .ok (.iadd, 1) := dk_96 (dk_at dksX4_griefSize_2 2 rfl rfl)
theorem dX4_griefSize_49 : decode cX4_griefSize 49 = .ok (.iaload, 1) := dk_46 (dk_at dksX4_griefSize_2 3 rfl rfl)
theorem dX4_griefSize_50 : decode cX4_griefSize 50 = .ok (.bipush 100, 2) := dk_16 100 (dk_at dksX4_griefSize_2 4 rfl rfl)
theorem dX4_griefSize_52 : decode cX4_griefSize 52 = .ok (.isub, 1) := dk_100 (dk_at dksX4_griefSize_2 6 rfl rfl)
theorem dX4_griefSize_53 : decode cX4_griefSize 53 = .ok (.istore_n 3, 1) := dk_62 (dk_at dksX4_griefSize_2 7 rfl rfl)
theorem dX4_griefSize_54 : decode cX4_griefSize 54 = .ok (.iload_n 2, 1) := dk_28 (dk_at dksX4_griefSize_2 8 rfl rfl)
theorem dX4_griefSize_55 : decode cX4_griefSize 55 = .ok (.ifCond .eq 9, 3) := dk_153 0 9 (dk_at dksX4_griefSize_2 9 rfl rfl)
theorem dX4_griefSize_58 : decode cX4_griefSize 58 = .ok (.iconst 2, 1) := dk_5 (dk_at dksX4_griefSize_2 12 rfl rfl)
theorem dX4_griefSize_59 : decode cX4_griefSize 59 = .ok (.iload_n 3, 1) := dk_29 (dk_at dksX4_griefSize_2 13 rfl rfl)
theorem dX4_griefSize_60 : decode cX4_griefSize 60 = .ok (.imul, 1) := dk_104 (dk_at dksX4_griefSize_2 14 rfl rfl)
theorem dX4_griefSize_61 : decode cX4_griefSize 61 = .ok (.goto 4, 3) := dk_167 0 4 (dk_at dksX4_griefSize_2 15 rfl rfl)
theorem dX4_griefSize_64 : decode cX4_griefSize 64 = .ok (.iload_n 3, 1) := dk_29 (dk_at dksX4_griefSize_2 18 rfl rfl)
theorem dX4_griefSize_65 : decode cX4_griefSize 65 = .ok (.ireturn, 1) := dk_172 (dk_at dksX4_griefSize_2 19 rfl rfl)
abbrev cX4_leaves : ByteArray := prog_26_method_72_code
def yX4_leaves : MethodName := ⟨RX4, "leaves", "(I)V"⟩
def dkwX4_leaves_1 : List UInt8 := [4, 96, 181, 0, 251, 177]
abbrev dktX4_leaves_1 : List UInt8 := dkwX4_leaves_1 ++ []
def dkwX4_leaves_0 : List UInt8 := [42, 180, 0, 251, 16, 16, 162, 0, 23, 42, 180, 0, 62, 42, 180, 0, 251, 27, 79, 42, 89, 180, 0, 251]
abbrev dktX4_leaves_0 : List UInt8 := dkwX4_leaves_0 ++ dktX4_leaves_1
theorem dksX4_leaves_0 : cX4_leaves.data.toList.drop 0 = dktX4_leaves_0 := by decide +kernel
theorem dksX4_leaves_1 : cX4_leaves.data.toList.drop 24 = dktX4_leaves_1 := dk_seg dksX4_leaves_0 24 rfl rfl
theorem dX4_leaves_0 : decode cX4_leaves 0 = .ok (.aload_n 0, 1) := dk_42 (dk_at dksX4_leaves_0 0 rfl rfl)
theorem dX4_leaves_1 : decode cX4_leaves 1 = .ok (.getfield 251, 3) := dk_180 0 251 (dk_at dksX4_leaves_0 1 rfl rfl)
theorem dX4_leaves_4 : decode cX4_leaves 4 = .ok (.bipush 16, 2) := dk_16 16 (dk_at dksX4_leaves_0 4 rfl rfl)
theorem dX4_leaves_6 : decode cX4_leaves 6 = .ok (.if_icmp .ge 23, 3) := dk_162 0 23 (dk_at dksX4_leaves_0 6 rfl rfl)
theorem dX4_leaves_9 : decode cX4_leaves 9 = .ok (.aload_n 0, 1) := dk_42 (dk_at dksX4_leaves_0 9 rfl rfl)
theorem dX4_leaves_10 : decode cX4_leaves 10 = .ok (.getfield 62, 3) := dk_180 0 62 (dk_at dksX4_leaves_0 10 rfl rfl)
theorem dX4_leaves_13 : decode cX4_leaves 13 = .ok (.aload_n 0, 1) := dk_42 (dk_at dksX4_leaves_0 13 rfl rfl)
theorem dX4_leaves_14 : decode cX4_leaves 14 = .ok (.getfield 251, 3) := dk_180 0 251 (dk_at dksX4_leaves_0 14 rfl rfl)
theorem dX4_leaves_17 : decode cX4_leaves 17 = .ok (.iload_n 1, 1) := dk_27 (dk_at dksX4_leaves_0 17 rfl rfl)
theorem dX4_leaves_18 : decode cX4_leaves 18 = .ok (.iastore, 1) := dk_79 (dk_at dksX4_leaves_0 18 rfl rfl)
theorem dX4_leaves_19 : decode cX4_leaves 19 = .ok (.aload_n 0, 1) := dk_42 (dk_at dksX4_leaves_0 19 rfl rfl)
theorem dX4_leaves_20 : decode cX4_leaves 20 = .ok (.dup, 1) := dk_89 (dk_at dksX4_leaves_0 20 rfl rfl)
theorem dX4_leaves_21 : decode cX4_leaves 21 = .ok (.getfield 251, 3) := dk_180 0 251 (dk_at dksX4_leaves_0 21 rfl rfl)
theorem dX4_leaves_24 : decode cX4_leaves 24 = .ok (.iconst 1, 1) := dk_4 (dk_at dksX4_leaves_1 0 rfl rfl)
theorem dX4_leaves_25 : decode cX4_leaves 25 = .ok (.iadd, 1) := dk_96 (dk_at dksX4_leaves_1 1 rfl rfl)
theorem dX4_leaves_26 : decode cX4_leaves 26 = .ok (.putfield 251, 3) := dk_181 0 251 (dk_at dksX4_leaves_1 2 rfl rfl)
theorem dX4_leaves_29 : decode cX4_leaves 29 = .ok (.return_, 1) := dk_177 (dk_at dksX4_leaves_1 5 rfl rfl)
abbrev cX4_joySize : ByteArray := prog_26_method_75_code
def yX4_joySize : MethodName := ⟨RX4, "joySize", "(I)I"⟩
def dkwX4_joySize_2 : List UInt8 := [96, 5, 96, 46, 42, 27, 182, 1, 1, 96, 62, 28, 153, 0, 8, 29, 116, 167, 0, 4, 29, 172]
abbrev dktX4_joySize_2 : List UInt8 := dkwX4_joySize_2 ++ []
def dkwX4_joySize_1 : List UInt8 := [182, 0, 254, 42, 16, 11, 182, 0, 254, 42, 16, 10, 182, 0, 254, 42, 180, 0, 25, 16, 7, 6, 27, 104]
abbrev dktX4_joySize_1 : List UInt8 := dkwX4_joySize_1 ++ dktX4_joySize_2
def dkwX4_joySize_0 : List UInt8 := [42, 27, 182, 0, 248, 5, 160, 0, 7, 4, 167, 0, 4, 3, 61, 28, 153, 0, 9, 42, 16, 12]
abbrev dktX4_joySize_0 : List UInt8 := dkwX4_joySize_0 ++ dktX4_joySize_1
theorem dksX4_joySize_0 : cX4_joySize.data.toList.drop 0 = dktX4_joySize_0 := by decide +kernel
theorem dksX4_joySize_1 : cX4_joySize.data.toList.drop 22 = dktX4_joySize_1 := dk_seg dksX4_joySize_0 22 rfl rfl
theorem dksX4_joySize_2 : cX4_joySize.data.toList.drop 46 = dktX4_joySize_2 := dk_seg dksX4_joySize_1 24 rfl rfl
theorem dX4_joySize_0 : decode cX4_joySize 0 = .ok (.aload_n 0, 1) := dk_42 (dk_at dksX4_joySize_0 0 rfl rfl)
theorem dX4_joySize_1 : decode cX4_joySize 1 = .ok (.iload_n 1, 1) := dk_27 (dk_at dksX4_joySize_0 1 rfl rfl)
theorem dX4_joySize_2 : decode cX4_joySize 2 = .ok (.invokevirtual 248, 3) := dk_182 0 248 (dk_at dksX4_joySize_0 2 rfl rfl)
theorem dX4_joySize_5 : decode cX4_joySize 5 = .ok (.iconst 2, 1) := dk_5 (dk_at dksX4_joySize_0 5 rfl rfl)
theorem dX4_joySize_6 : decode cX4_joySize 6 = .ok (.if_icmp .ne 7, 3) := dk_160 0 7 (dk_at dksX4_joySize_0 6 rfl rfl)
theorem dX4_joySize_9 : decode cX4_joySize 9 = .ok (.iconst 1, 1) := dk_4 (dk_at dksX4_joySize_0 9 rfl rfl)
theorem dX4_joySize_10 : decode cX4_joySize 10 = .ok (.goto 4, 3) := dk_167 0 4 (dk_at dksX4_joySize_0 10 rfl rfl)
theorem dX4_joySize_13 : decode cX4_joySize 13 = .ok (.iconst 0, 1) := dk_3 (dk_at dksX4_joySize_0 13 rfl rfl)
theorem dX4_joySize_14 : decode cX4_joySize 14 = .ok (.istore_n 2, 1) := dk_61 (dk_at dksX4_joySize_0 14 rfl rfl)
theorem dX4_joySize_15 : decode cX4_joySize 15 = .ok (.iload_n 2, 1) := dk_28 (dk_at dksX4_joySize_0 15 rfl rfl)
theorem dX4_joySize_16 : decode cX4_joySize 16 = .ok (.ifCond .eq 9, 3) := dk_153 0 9 (dk_at dksX4_joySize_0 16 rfl rfl)
theorem dX4_joySize_19 : decode cX4_joySize 19 = .ok (.aload_n 0, 1) := dk_42 (dk_at dksX4_joySize_0 19 rfl rfl)
theorem dX4_joySize_20 : decode cX4_joySize 20 = .ok (.bipush 12, 2) := dk_16 12 (dk_at dksX4_joySize_0 20 rfl rfl)
theorem dX4_joySize_22 : decode cX4_joySize 22 = .ok (.invokevirtual 254, 3) := dk_182 0 254 (dk_at dksX4_joySize_1 0 rfl rfl)
theorem dX4_joySize_25 : decode cX4_joySize 25 = .ok (.aload_n 0, 1) := dk_42 (dk_at dksX4_joySize_1 3 rfl rfl)
theorem dX4_joySize_26 : decode cX4_joySize 26 = .ok (.bipush 11, 2) := dk_16 11 (dk_at dksX4_joySize_1 4 rfl rfl)
theorem dX4_joySize_28 : decode cX4_joySize 28 = .ok (.invokevirtual 254, 3) := dk_182 0 254 (dk_at dksX4_joySize_1 6 rfl rfl)
theorem dX4_joySize_31 : decode cX4_joySize 31 = .ok (.aload_n 0, 1) := dk_42 (dk_at dksX4_joySize_1 9 rfl rfl)
theorem dX4_joySize_32 : decode cX4_joySize 32 = .ok (.bipush 10, 2) := dk_16 10 (dk_at dksX4_joySize_1 10 rfl rfl)
theorem dX4_joySize_34 : decode cX4_joySize 34 = .ok (.invokevirtual 254, 3) := dk_182 0 254 (dk_at dksX4_joySize_1 12 rfl rfl)
theorem dX4_joySize_37 : decode cX4_joySize 37 = .ok (.aload_n 0, 1) := dk_42 (dk_at dksX4_joySize_1 15 rfl rfl)
theorem dX4_joySize_38 : decode cX4_joySize 38 = .ok (.getfield 25, 3) := dk_180 0 25 (dk_at dksX4_joySize_1 16 rfl rfl)
theorem dX4_joySize_41 : decode cX4_joySize 41 = .ok (.bipush 7, 2) := dk_16 7 (dk_at dksX4_joySize_1 19 rfl rfl)
theorem dX4_joySize_43 : decode cX4_joySize 43 = .ok (.iconst 3, 1) := dk_6 (dk_at dksX4_joySize_1 21 rfl rfl)
theorem dX4_joySize_44 : decode cX4_joySize 44 = .ok (.iload_n 1, 1) := dk_27 (dk_at dksX4_joySize_1 22 rfl rfl)
theorem dX4_joySize_45 : decode cX4_joySize 45 = .ok (.imul, 1) := dk_104 (dk_at dksX4_joySize_1 23 rfl rfl)
theorem dX4_joySize_46 : decode cX4_joySize 46 = .ok (.iadd, 1) := dk_96 (dk_at dksX4_joySize_2 0 rfl rfl)
theorem dX4_joySize_47 : decode cX4_joySize 47 = .ok (.iconst 2, 1) := dk_5 (dk_at dksX4_joySize_2 1 rfl rfl)
theorem dX4_joySize_48 : decode cX4_joySize 48 = .ok (.iadd, 1) := dk_96 (dk_at dksX4_joySize_2 2 rfl rfl)
theorem dX4_joySize_49 : decode cX4_joySize 49 = .ok (.iaload, 1) := dk_46 (dk_at dksX4_joySize_2 3 rfl rfl)
theorem dX4_joySize_50 : decode cX4_joySize 50 = .ok (.aload_n 0, 1) := dk_42 (dk_at dksX4_joySize_2 4 rfl rfl)
theorem dX4_joySize_51 : decode cX4_joySize 51 = .ok (.iload_n 1, 1) := dk_27 (dk_at dksX4_joySize_2 5 rfl rfl)
theorem dX4_joySize_52 : decode cX4_joySize 52 = .ok (.invokevirtual 257, 3) := dk_182 1 1 (dk_at dksX4_joySize_2 6 rfl rfl)
theorem dX4_joySize_55 : decode cX4_joySize 55 = .ok (.iadd, 1) := dk_96 (dk_at dksX4_joySize_2 9 rfl rfl)
theorem dX4_joySize_56 : decode cX4_joySize 56 = .ok (.istore_n 3, 1) := dk_62 (dk_at dksX4_joySize_2 10 rfl rfl)
theorem dX4_joySize_57 : decode cX4_joySize 57 = .ok (.iload_n 2, 1) := dk_28 (dk_at dksX4_joySize_2 11 rfl rfl)
theorem dX4_joySize_58 : decode cX4_joySize 58 = .ok (.ifCond .eq 8, 3) := dk_153 0 8 (dk_at dksX4_joySize_2 12 rfl rfl)
theorem dX4_joySize_61 : decode cX4_joySize 61 = .ok (.iload_n 3, 1) := dk_29 (dk_at dksX4_joySize_2 15 rfl rfl)
theorem dX4_joySize_62 : decode cX4_joySize 62 = .ok (.ineg, 1) := dk_116 (dk_at dksX4_joySize_2 16 rfl rfl)
theorem dX4_joySize_63 : decode cX4_joySize 63 = .ok (.goto 4, 3) := dk_167 0 4 (dk_at dksX4_joySize_2 17 rfl rfl)
theorem dX4_joySize_66 : decode cX4_joySize 66 = .ok (.iload_n 3, 1) := dk_29 (dk_at dksX4_joySize_2 20 rfl rfl)
theorem dX4_joySize_67 : decode cX4_joySize 67 = .ok (.ireturn, 1) := dk_172 (dk_at dksX4_joySize_2 21 rfl rfl)
abbrev cX4_joyMark : ByteArray := prog_26_method_73_code
def yX4_joyMark : MethodName := ⟨RX4, "joyMark", "(I)I"⟩
def dkwX4_joyMark_3 : List UInt8 := [17, 3, 232, 100, 167, 0, 4, 29, 172]
abbrev dktX4_joyMark_3 : List UInt8 := dkwX4_joyMark_3 ++ []
def dkwX4_joyMark_2 : List UInt8 := [104, 96, 4, 96, 46, 96, 62, 28, 5, 160, 0, 9, 5, 29, 104, 167, 0, 17, 28, 6, 160, 0, 11, 29]
abbrev dktX4_joyMark_2 : List UInt8 := dkwX4_joyMark_2 ++ dktX4_joyMark_3
def dkwX4_joyMark_1 : List UInt8 := [182, 0, 254, 42, 16, 21, 182, 0, 254, 42, 16, 20, 182, 0, 254, 27, 42, 180, 0, 25, 16, 7, 6, 27]
abbrev dktX4_joyMark_1 : List UInt8 := dkwX4_joyMark_1 ++ dktX4_joyMark_2
def dkwX4_joyMark_0 : List UInt8 := [42, 27, 182, 0, 248, 61, 28, 4, 159, 0, 19, 42, 28, 5, 160, 0, 8, 16, 24, 167, 0, 5, 16, 22]
abbrev dktX4_joyMark_0 : List UInt8 := dkwX4_joyMark_0 ++ dktX4_joyMark_1
theorem dksX4_joyMark_0 : cX4_joyMark.data.toList.drop 0 = dktX4_joyMark_0 := by decide +kernel
theorem dksX4_joyMark_1 : cX4_joyMark.data.toList.drop 24 = dktX4_joyMark_1 := dk_seg dksX4_joyMark_0 24 rfl rfl
theorem dksX4_joyMark_2 : cX4_joyMark.data.toList.drop 48 = dktX4_joyMark_2 := dk_seg dksX4_joyMark_1 24 rfl rfl
theorem dksX4_joyMark_3 : cX4_joyMark.data.toList.drop 72 = dktX4_joyMark_3 := dk_seg dksX4_joyMark_2 24 rfl rfl
theorem dX4_joyMark_0 : decode cX4_joyMark 0 = .ok (.aload_n 0, 1) := dk_42 (dk_at dksX4_joyMark_0 0 rfl rfl)
theorem dX4_joyMark_1 : decode cX4_joyMark 1 = .ok (.iload_n 1, 1) := dk_27 (dk_at dksX4_joyMark_0 1 rfl rfl)
theorem dX4_joyMark_2 : decode cX4_joyMark 2 = .ok (.invokevirtual 248, 3) := dk_182 0 248 (dk_at dksX4_joyMark_0 2 rfl rfl)
theorem dX4_joyMark_5 : decode cX4_joyMark 5 = .ok (.istore_n 2, 1) := dk_61 (dk_at dksX4_joyMark_0 5 rfl rfl)
theorem dX4_joyMark_6 : decode cX4_joyMark 6 = .ok (.iload_n 2, 1) := dk_28 (dk_at dksX4_joyMark_0 6 rfl rfl)
theorem dX4_joyMark_7 : decode cX4_joyMark 7 = .ok (.iconst 1, 1) := dk_4 (dk_at dksX4_joyMark_0 7 rfl rfl)
theorem dX4_joyMark_8 : decode cX4_joyMark 8 = .ok (.if_icmp .eq 19, 3) := dk_159 0 19 (dk_at dksX4_joyMark_0 8 rfl rfl)
theorem dX4_joyMark_11 : decode cX4_joyMark 11 = .ok (.aload_n 0, 1) := dk_42 (dk_at dksX4_joyMark_0 11 rfl rfl)
theorem dX4_joyMark_12 : decode cX4_joyMark 12 = .ok (.iload_n 2, 1) := dk_28 (dk_at dksX4_joyMark_0 12 rfl rfl)
theorem dX4_joyMark_13 : decode cX4_joyMark 13 = .ok (.iconst 2, 1) := dk_5 (dk_at dksX4_joyMark_0 13 rfl rfl)
theorem dX4_joyMark_14 : decode cX4_joyMark 14 = .ok (.if_icmp .ne 8, 3) := dk_160 0 8 (dk_at dksX4_joyMark_0 14 rfl rfl)
theorem dX4_joyMark_17 : decode cX4_joyMark 17 = .ok (.bipush 24, 2) := dk_16 24 (dk_at dksX4_joyMark_0 17 rfl rfl)
theorem dX4_joyMark_19 : decode cX4_joyMark 19 = .ok (.goto 5, 3) := dk_167 0 5 (dk_at dksX4_joyMark_0 19 rfl rfl)
theorem dX4_joyMark_22 : decode cX4_joyMark 22 = .ok (.bipush 22, 2) := dk_16 22 (dk_at dksX4_joyMark_0 22 rfl rfl)
theorem dX4_joyMark_24 : decode cX4_joyMark 24 = .ok (.invokevirtual 254, 3) := dk_182 0 254 (dk_at dksX4_joyMark_1 0 rfl rfl)
theorem dX4_joyMark_27 : decode cX4_joyMark 27 = .ok (.aload_n 0, 1) := dk_42 (dk_at dksX4_joyMark_1 3 rfl rfl)
theorem dX4_joyMark_28 : decode cX4_joyMark 28 = .ok (.bipush 21, 2) := dk_16 21 (dk_at dksX4_joyMark_1 4 rfl rfl)
theorem dX4_joyMark_30 : decode cX4_joyMark 30 = .ok (.invokevirtual 254, 3) := dk_182 0 254 (dk_at dksX4_joyMark_1 6 rfl rfl)
theorem dX4_joyMark_33 : decode cX4_joyMark 33 = .ok (.aload_n 0, 1) := dk_42 (dk_at dksX4_joyMark_1 9 rfl rfl)
theorem dX4_joyMark_34 : decode cX4_joyMark 34 = .ok (.bipush 20, 2) := dk_16 20 (dk_at dksX4_joyMark_1 10 rfl rfl)
theorem dX4_joyMark_36 : decode cX4_joyMark 36 = .ok (.invokevirtual 254, 3) := dk_182 0 254 (dk_at dksX4_joyMark_1 12 rfl rfl)
theorem dX4_joyMark_39 : decode cX4_joyMark 39 = .ok (.iload_n 1, 1) := dk_27 (dk_at dksX4_joyMark_1 15 rfl rfl)
theorem dX4_joyMark_40 : decode cX4_joyMark 40 = .ok (.aload_n 0, 1) := dk_42 (dk_at dksX4_joyMark_1 16 rfl rfl)
theorem dX4_joyMark_41 : decode cX4_joyMark 41 = .ok (.getfield 25, 3) := dk_180 0 25 (dk_at dksX4_joyMark_1 17 rfl rfl)
theorem dX4_joyMark_44 : decode cX4_joyMark 44 = .ok (.bipush 7, 2) := dk_16 7 (dk_at dksX4_joyMark_1 20 rfl rfl)
theorem dX4_joyMark_46 : decode cX4_joyMark 46 = .ok (.iconst 3, 1) := dk_6 (dk_at dksX4_joyMark_1 22 rfl rfl)
theorem dX4_joyMark_47 : decode cX4_joyMark 47 = .ok (.iload_n 1, 1) := dk_27 (dk_at dksX4_joyMark_1 23 rfl rfl)
theorem dX4_joyMark_48 : decode cX4_joyMark 48 = .ok (.imul, 1) := dk_104 (dk_at dksX4_joyMark_2 0 rfl rfl)
theorem dX4_joyMark_49 : decode cX4_joyMark 49 = .ok (.iadd, 1) := dk_96 (dk_at dksX4_joyMark_2 1 rfl rfl)
theorem dX4_joyMark_50 : decode cX4_joyMark 50 = .ok (.iconst 1, 1) := dk_4 (dk_at dksX4_joyMark_2 2 rfl rfl)
theorem dX4_joyMark_51 : decode cX4_joyMark 51 = .ok (.iadd, 1) := dk_96 (dk_at dksX4_joyMark_2 3 rfl rfl)
theorem dX4_joyMark_52 : decode cX4_joyMark 52 = .ok (.iaload, 1) := dk_46 (dk_at dksX4_joyMark_2 4 rfl rfl)
theorem dX4_joyMark_53 : decode cX4_joyMark 53 = .ok (.iadd, 1) := dk_96 (dk_at dksX4_joyMark_2 5 rfl rfl)
theorem dX4_joyMark_54 : decode cX4_joyMark 54 = .ok (.istore_n 3, 1) := dk_62 (dk_at dksX4_joyMark_2 6 rfl rfl)
theorem dX4_joyMark_55 : decode cX4_joyMark 55 = .ok (.iload_n 2, 1) := dk_28 (dk_at dksX4_joyMark_2 7 rfl rfl)
theorem dX4_joyMark_56 : decode cX4_joyMark 56 = .ok (.iconst 2, 1) := dk_5 (dk_at dksX4_joyMark_2 8 rfl rfl)
theorem dX4_joyMark_57 : decode cX4_joyMark 57 = .ok (.if_icmp .ne 9, 3) := dk_160 0 9 (dk_at dksX4_joyMark_2 9 rfl rfl)
theorem dX4_joyMark_60 : decode cX4_joyMark 60 = .ok (.iconst 2, 1) := dk_5 (dk_at dksX4_joyMark_2 12 rfl rfl)
theorem dX4_joyMark_61 : decode cX4_joyMark 61 = .ok (.iload_n 3, 1) := dk_29 (dk_at dksX4_joyMark_2 13 rfl rfl)
theorem dX4_joyMark_62 : decode cX4_joyMark 62 = .ok (.imul, 1) := dk_104 (dk_at dksX4_joyMark_2 14 rfl rfl)
theorem dX4_joyMark_63 : decode cX4_joyMark 63 = .ok (.goto 17, 3) := dk_167 0 17 (dk_at dksX4_joyMark_2 15 rfl rfl)
theorem dX4_joyMark_66 : decode cX4_joyMark 66 = .ok (.iload_n 2, 1) := dk_28 (dk_at dksX4_joyMark_2 18 rfl rfl)
theorem dX4_joyMark_67 : decode cX4_joyMark 67 = .ok (.iconst 3, 1) := dk_6 (dk_at dksX4_joyMark_2 19 rfl rfl)
theorem dX4_joyMark_68 : decode cX4_joyMark 68 = .ok (.if_icmp .ne 11, 3) := dk_160 0 11 (dk_at dksX4_joyMark_2 20 rfl rfl)
theorem dX4_joyMark_71 : decode cX4_joyMark 71 = .ok (.iload_n 3, 1) := dk_29 (dk_at dksX4_joyMark_2 23 rfl rfl)
theorem dX4_joyMark_72 : decode cX4_joyMark 72 = .ok (.sipush 1000, 3) := dk_17 3 232 (dk_at dksX4_joyMark_3 0 rfl rfl)
theorem dX4_joyMark_75 : decode cX4_joyMark 75 = .ok (.isub, 1) := dk_100 (dk_at dksX4_joyMark_3 3 rfl rfl)
theorem dX4_joyMark_76 : decode cX4_joyMark 76 = .ok (.goto 4, 3) := dk_167 0 4 (dk_at dksX4_joyMark_3 4 rfl rfl)
theorem dX4_joyMark_79 : decode cX4_joyMark 79 = .ok (.iload_n 3, 1) := dk_29 (dk_at dksX4_joyMark_3 7 rfl rfl)
theorem dX4_joyMark_80 : decode cX4_joyMark 80 = .ok (.ireturn, 1) := dk_172 (dk_at dksX4_joyMark_3 8 rfl rfl)
abbrev cX4_griefMark : ByteArray := prog_26_method_76_code
def yX4_griefMark : MethodName := ⟨RX4, "griefMark", "(I)I"⟩
def dkwX4_griefMark_0 : List UInt8 := [42, 16, 23, 182, 0, 254, 42, 16, 20, 182, 0, 254, 27, 42, 27, 182, 1, 4, 100, 172]
abbrev dktX4_griefMark_0 : List UInt8 := dkwX4_griefMark_0 ++ []
theorem dksX4_griefMark_0 : cX4_griefMark.data.toList.drop 0 = dktX4_griefMark_0 := by decide +kernel
theorem dX4_griefMark_0 : decode cX4_griefMark 0 = .ok (.aload_n 0, 1) := dk_42 (dk_at dksX4_griefMark_0 0 rfl rfl)
theorem dX4_griefMark_1 : decode cX4_griefMark 1 = .ok (.bipush 23, 2) := dk_16 23 (dk_at dksX4_griefMark_0 1 rfl rfl)
theorem dX4_griefMark_3 : decode cX4_griefMark 3 = .ok (.invokevirtual 254, 3) := dk_182 0 254 (dk_at dksX4_griefMark_0 3 rfl rfl)
theorem dX4_griefMark_6 : decode cX4_griefMark 6 = .ok (.aload_n 0, 1) := dk_42 (dk_at dksX4_griefMark_0 6 rfl rfl)
theorem dX4_griefMark_7 : decode cX4_griefMark 7 = .ok (.bipush 20, 2) := dk_16 20 (dk_at dksX4_griefMark_0 7 rfl rfl)
theorem dX4_griefMark_9 : decode cX4_griefMark 9 = .ok (.invokevirtual 254, 3) := dk_182 0 254 (dk_at dksX4_griefMark_0 9 rfl rfl)
theorem dX4_griefMark_12 : decode cX4_griefMark 12 = .ok (.iload_n 1, 1) := dk_27 (dk_at dksX4_griefMark_0 12 rfl rfl)
theorem dX4_griefMark_13 : decode cX4_griefMark 13 = .ok (.aload_n 0, 1) := dk_42 (dk_at dksX4_griefMark_0 13 rfl rfl)
theorem dX4_griefMark_14 : decode cX4_griefMark 14 = .ok (.iload_n 1, 1) := dk_27 (dk_at dksX4_griefMark_0 14 rfl rfl)
theorem dX4_griefMark_15 : decode cX4_griefMark 15 = .ok (.invokevirtual 260, 3) := dk_182 1 4 (dk_at dksX4_griefMark_0 15 rfl rfl)
theorem dX4_griefMark_18 : decode cX4_griefMark 18 = .ok (.isub, 1) := dk_100 (dk_at dksX4_griefMark_0 18 rfl rfl)
theorem dX4_griefMark_19 : decode cX4_griefMark 19 = .ok (.ireturn, 1) := dk_172 (dk_at dksX4_griefMark_0 19 rfl rfl)
abbrev cX4_trace : ByteArray := prog_26_method_78_code
def yX4_trace : MethodName := ⟨RX4, "trace", "(I)I"⟩
def dkwX4_trace_1 : List UInt8 := [18, 65, 172]
abbrev dktX4_trace_1 : List UInt8 := dkwX4_trace_1 ++ []
def dkwX4_trace_0 : List UInt8 := [27, 3, 42, 180, 0, 251, 4, 100, 184, 0, 71, 153, 0, 12, 42, 180, 0, 62, 27, 46, 167, 0, 5]
abbrev dktX4_trace_0 : List UInt8 := dkwX4_trace_0 ++ dktX4_trace_1
theorem dksX4_trace_0 : cX4_trace.data.toList.drop 0 = dktX4_trace_0 := by decide +kernel
theorem dksX4_trace_1 : cX4_trace.data.toList.drop 23 = dktX4_trace_1 := dk_seg dksX4_trace_0 23 rfl rfl
theorem dX4_trace_0 : decode cX4_trace 0 = .ok (.iload_n 1, 1) := dk_27 (dk_at dksX4_trace_0 0 rfl rfl)
theorem dX4_trace_1 : decode cX4_trace 1 = .ok (.iconst 0, 1) := dk_3 (dk_at dksX4_trace_0 1 rfl rfl)
theorem dX4_trace_2 : decode cX4_trace 2 = .ok (.aload_n 0, 1) := dk_42 (dk_at dksX4_trace_0 2 rfl rfl)
theorem dX4_trace_3 : decode cX4_trace 3 = .ok (.getfield 251, 3) := dk_180 0 251 (dk_at dksX4_trace_0 3 rfl rfl)
theorem dX4_trace_6 : decode cX4_trace 6 = .ok (.iconst 1, 1) := dk_4 (dk_at dksX4_trace_0 6 rfl rfl)
theorem dX4_trace_7 : decode cX4_trace 7 = .ok (.isub, 1) := dk_100 (dk_at dksX4_trace_0 7 rfl rfl)
theorem dX4_trace_8 : decode cX4_trace 8 = .ok (.invokestatic 71, 3) := dk_184 0 71 (dk_at dksX4_trace_0 8 rfl rfl)
theorem dX4_trace_11 : decode cX4_trace 11 = .ok (.ifCond .eq 12, 3) := dk_153 0 12 (dk_at dksX4_trace_0 11 rfl rfl)
theorem dX4_trace_14 : decode cX4_trace 14 = .ok (.aload_n 0, 1) := dk_42 (dk_at dksX4_trace_0 14 rfl rfl)
theorem dX4_trace_15 : decode cX4_trace 15 = .ok (.getfield 62, 3) := dk_180 0 62 (dk_at dksX4_trace_0 15 rfl rfl)
theorem dX4_trace_18 : decode cX4_trace 18 = .ok (.iload_n 1, 1) := dk_27 (dk_at dksX4_trace_0 18 rfl rfl)
theorem dX4_trace_19 : decode cX4_trace 19 = .ok (.iaload, 1) := dk_46 (dk_at dksX4_trace_0 19 rfl rfl)
theorem dX4_trace_20 : decode cX4_trace 20 = .ok (.goto 5, 3) := dk_167 0 5 (dk_at dksX4_trace_0 20 rfl rfl)
theorem dX4_trace_23 : decode cX4_trace 23 = .ok (.ldc 65, 2) := dk_18 65 (dk_at dksX4_trace_1 0 rfl rfl)
theorem dX4_trace_25 : decode cX4_trace 25 = .ok (.ireturn, 1) := dk_172 (dk_at dksX4_trace_1 2 rfl rfl)
abbrev cX4_count : ByteArray := prog_26_method_79_code
def yX4_count : MethodName := ⟨RX4, "count", "(I)I"⟩
def dkwX4_count_6 : List UInt8 := [18, 79, 172]
abbrev dktX4_count_6 : List UInt8 := dkwX4_count_6 ++ []
def dkwX4_count_5 : List UInt8 := [180, 0, 160, 172, 42, 180, 0, 97, 172, 42, 180, 0, 25, 5, 46, 172, 42, 180, 0, 25, 8, 46, 172]
abbrev dktX4_count_5 : List UInt8 := dkwX4_count_5 ++ dktX4_count_6
def dkwX4_count_4 : List UInt8 := [42, 180, 0, 25, 6, 46, 172, 42, 180, 0, 25, 7, 46, 172, 42, 180, 0, 25, 4, 46, 172, 42]
abbrev dktX4_count_4 : List UInt8 := dkwX4_count_4 ++ dktX4_count_5
def dkwX4_count_3 : List UInt8 := [132, 3, 1, 167, 255, 231, 28, 172, 42, 180, 0, 25, 16, 6, 46, 172, 42, 180, 0, 25, 16, 25, 46, 172]
abbrev dktX4_count_3 : List UInt8 := dkwX4_count_3 ++ dktX4_count_4
def dkwX4_count_2 : List UInt8 := [3, 62, 29, 16, 8, 162, 0, 25, 28, 42, 29, 182, 0, 87, 153, 0, 7, 3, 167, 0, 4, 4, 96, 61]
abbrev dktX4_count_2 : List UInt8 := dkwX4_count_2 ++ dktX4_count_3
def dkwX4_count_1 : List UInt8 := [170, 0, 0, 0, 146, 0, 0, 0, 0, 0, 0, 0, 9, 0, 0, 0, 53, 0, 0, 0, 85, 0, 0, 0, 93, 0, 0, 0, 101, 0, 0, 0, 108, 0, 0, 0, 115, 0, 0, 0, 122, 0, 0, 0, 127, 0, 0, 0, 132, 0, 0, 0, 139]
abbrev dktX4_count_1 : List UInt8 := dkwX4_count_1 ++ dktX4_count_2
def dkwX4_count_0 : List UInt8 := [3, 61, 27]
abbrev dktX4_count_0 : List UInt8 := dkwX4_count_0 ++ dktX4_count_1
theorem dksX4_count_0 : cX4_count.data.toList.drop 0 = dktX4_count_0 := by decide +kernel
theorem dksX4_count_1 : cX4_count.data.toList.drop 3 = dktX4_count_1 := dk_seg dksX4_count_0 3 rfl rfl
theorem dksX4_count_2 : cX4_count.data.toList.drop 56 = dktX4_count_2 := dk_seg dksX4_count_1 53 rfl rfl
theorem dksX4_count_3 : cX4_count.data.toList.drop 80 = dktX4_count_3 := dk_seg dksX4_count_2 24 rfl rfl
theorem dksX4_count_4 : cX4_count.data.toList.drop 104 = dktX4_count_4 := dk_seg dksX4_count_3 24 rfl rfl
theorem dksX4_count_5 : cX4_count.data.toList.drop 126 = dktX4_count_5 := dk_seg dksX4_count_4 22 rfl rfl
theorem dksX4_count_6 : cX4_count.data.toList.drop 149 = dktX4_count_6 := dk_seg dksX4_count_5 23 rfl rfl
theorem dX4_count_0 : decode cX4_count 0 = .ok (.iconst 0, 1) := dk_3 (dk_at dksX4_count_0 0 rfl rfl)
theorem dX4_count_1 : decode cX4_count 1 = .ok (.istore_n 2, 1) := dk_61 (dk_at dksX4_count_0 1 rfl rfl)
theorem dX4_count_2 : decode cX4_count 2 = .ok (.iload_n 1, 1) := dk_27 (dk_at dksX4_count_0 2 rfl rfl)
theorem dX4_count_3 : decode cX4_count 3 = .ok (.tableswitch 146 0 9 #[53, 85, 93, 101, 108, 115, 122, 127, 132, 139], 53) := by decide +kernel
theorem dX4_count_56 : decode cX4_count 56 = .ok (.iconst 0, 1) := dk_3 (dk_at dksX4_count_2 0 rfl rfl)
theorem dX4_count_57 : decode cX4_count 57 = .ok (.istore_n 3, 1) := dk_62 (dk_at dksX4_count_2 1 rfl rfl)
theorem dX4_count_58 : decode cX4_count 58 = .ok (.iload_n 3, 1) := dk_29 (dk_at dksX4_count_2 2 rfl rfl)
theorem dX4_count_59 : decode cX4_count 59 = .ok (.bipush 8, 2) := dk_16 8 (dk_at dksX4_count_2 3 rfl rfl)
theorem dX4_count_61 : decode cX4_count 61 = .ok (.if_icmp .ge 25, 3) := dk_162 0 25 (dk_at dksX4_count_2 5 rfl rfl)
theorem dX4_count_64 : decode cX4_count 64 = .ok (.iload_n 2, 1) := dk_28 (dk_at dksX4_count_2 8 rfl rfl)
theorem dX4_count_65 : decode cX4_count 65 = .ok (.aload_n 0, 1) := dk_42 (dk_at dksX4_count_2 9 rfl rfl)
theorem dX4_count_66 : decode cX4_count 66 = .ok (.iload_n 3, 1) := dk_29 (dk_at dksX4_count_2 10 rfl rfl)
theorem dX4_count_67 : decode cX4_count 67 = .ok (.invokevirtual 87, 3) := dk_182 0 87 (dk_at dksX4_count_2 11 rfl rfl)
theorem dX4_count_70 : decode cX4_count 70 = .ok (.ifCond .eq 7, 3) := dk_153 0 7 (dk_at dksX4_count_2 14 rfl rfl)
theorem dX4_count_73 : decode cX4_count 73 = .ok (.iconst 0, 1) := dk_3 (dk_at dksX4_count_2 17 rfl rfl)
theorem dX4_count_74 : decode cX4_count 74 = .ok (.goto 4, 3) := dk_167 0 4 (dk_at dksX4_count_2 18 rfl rfl)
theorem dX4_count_77 : decode cX4_count 77 = .ok (.iconst 1, 1) := dk_4 (dk_at dksX4_count_2 21 rfl rfl)
theorem dX4_count_78 : decode cX4_count 78 = .ok (.iadd, 1) := dk_96 (dk_at dksX4_count_2 22 rfl rfl)
theorem dX4_count_79 : decode cX4_count 79 = .ok (.istore_n 2, 1) := dk_61 (dk_at dksX4_count_2 23 rfl rfl)
theorem dX4_count_80 : decode cX4_count 80 = .ok (.iinc 3 1, 3) := dk_132 3 1 (dk_at dksX4_count_3 0 rfl rfl)
theorem dX4_count_83 : decode cX4_count 83 = .ok (.goto (-25), 3) := dk_167 255 231 (dk_at dksX4_count_3 3 rfl rfl)
theorem dX4_count_86 : decode cX4_count 86 = .ok (.iload_n 2, 1) := dk_28 (dk_at dksX4_count_3 6 rfl rfl)
theorem dX4_count_87 : decode cX4_count 87 = .ok (.ireturn, 1) := dk_172 (dk_at dksX4_count_3 7 rfl rfl)
theorem dX4_count_88 : decode cX4_count 88 = .ok (.aload_n 0, 1) := dk_42 (dk_at dksX4_count_3 8 rfl rfl)
theorem dX4_count_89 : decode cX4_count 89 = .ok (.getfield 25, 3) := dk_180 0 25 (dk_at dksX4_count_3 9 rfl rfl)
theorem dX4_count_92 : decode cX4_count 92 = .ok (.bipush 6, 2) := dk_16 6 (dk_at dksX4_count_3 12 rfl rfl)
theorem dX4_count_94 : decode cX4_count 94 = .ok (.iaload, 1) := dk_46 (dk_at dksX4_count_3 14 rfl rfl)
theorem dX4_count_95 : decode cX4_count 95 = .ok (.ireturn, 1) := dk_172 (dk_at dksX4_count_3 15 rfl rfl)
theorem dX4_count_96 : decode cX4_count 96 = .ok (.aload_n 0, 1) := dk_42 (dk_at dksX4_count_3 16 rfl rfl)
theorem dX4_count_97 : decode cX4_count 97 = .ok (.getfield 25, 3) := dk_180 0 25 (dk_at dksX4_count_3 17 rfl rfl)
theorem dX4_count_100 : decode cX4_count 100 = .ok (.bipush 25, 2) := dk_16 25 (dk_at dksX4_count_3 20 rfl rfl)
theorem dX4_count_102 : decode cX4_count 102 = .ok (.iaload, 1) := dk_46 (dk_at dksX4_count_3 22 rfl rfl)
theorem dX4_count_103 : decode cX4_count 103 = .ok (.ireturn, 1) := dk_172 (dk_at dksX4_count_3 23 rfl rfl)
theorem dX4_count_104 : decode cX4_count 104 = .ok (.aload_n 0, 1) := dk_42 (dk_at dksX4_count_4 0 rfl rfl)
theorem dX4_count_105 : decode cX4_count 105 = .ok (.getfield 25, 3) := dk_180 0 25 (dk_at dksX4_count_4 1 rfl rfl)
theorem dX4_count_108 : decode cX4_count 108 = .ok (.iconst 3, 1) := dk_6 (dk_at dksX4_count_4 4 rfl rfl)
theorem dX4_count_109 : decode cX4_count 109 = .ok (.iaload, 1) := dk_46 (dk_at dksX4_count_4 5 rfl rfl)
theorem dX4_count_110 : decode cX4_count 110 = .ok (.ireturn, 1) := dk_172 (dk_at dksX4_count_4 6 rfl rfl)
theorem dX4_count_111 : decode cX4_count 111 = .ok (.aload_n 0, 1) := dk_42 (dk_at dksX4_count_4 7 rfl rfl)
theorem dX4_count_112 : decode cX4_count 112 = .ok (.getfield 25, 3) := dk_180 0 25 (dk_at dksX4_count_4 8 rfl rfl)
theorem dX4_count_115 : decode cX4_count 115 = .ok (.iconst 4, 1) := dk_7 (dk_at dksX4_count_4 11 rfl rfl)
theorem dX4_count_116 : decode cX4_count 116 = .ok (.iaload, 1) := dk_46 (dk_at dksX4_count_4 12 rfl rfl)
theorem dX4_count_117 : decode cX4_count 117 = .ok (.ireturn, 1) := dk_172 (dk_at dksX4_count_4 13 rfl rfl)
theorem dX4_count_118 : decode cX4_count 118 = .ok (.aload_n 0, 1) := dk_42 (dk_at dksX4_count_4 14 rfl rfl)
theorem dX4_count_119 : decode cX4_count 119 = .ok (.getfield 25, 3) := dk_180 0 25 (dk_at dksX4_count_4 15 rfl rfl)
theorem dX4_count_122 : decode cX4_count 122 = .ok (.iconst 1, 1) := dk_4 (dk_at dksX4_count_4 18 rfl rfl)
theorem dX4_count_123 : decode cX4_count 123 = .ok (.iaload, 1) := dk_46 (dk_at dksX4_count_4 19 rfl rfl)
theorem dX4_count_124 : decode cX4_count 124 = .ok (.ireturn, 1) := dk_172 (dk_at dksX4_count_4 20 rfl rfl)
theorem dX4_count_125 : decode cX4_count 125 = .ok (.aload_n 0, 1) := dk_42 (dk_at dksX4_count_4 21 rfl rfl)
theorem dX4_count_126 : decode cX4_count 126 = .ok (.getfield 160, 3) := dk_180 0 160 (dk_at dksX4_count_5 0 rfl rfl)
theorem dX4_count_129 : decode cX4_count 129 = .ok (.ireturn, 1) := dk_172 (dk_at dksX4_count_5 3 rfl rfl)
theorem dX4_count_130 : decode cX4_count 130 = .ok (.aload_n 0, 1) := dk_42 (dk_at dksX4_count_5 4 rfl rfl)
theorem dX4_count_131 : decode cX4_count 131 = .ok (.getfield 97, 3) := dk_180 0 97 (dk_at dksX4_count_5 5 rfl rfl)
theorem dX4_count_134 : decode cX4_count 134 = .ok (.ireturn, 1) := dk_172 (dk_at dksX4_count_5 8 rfl rfl)
theorem dX4_count_135 : decode cX4_count 135 = .ok (.aload_n 0, 1) := dk_42 (dk_at dksX4_count_5 9 rfl rfl)
theorem dX4_count_136 : decode cX4_count 136 = .ok (.getfield 25, 3) := dk_180 0 25 (dk_at dksX4_count_5 10 rfl rfl)
theorem dX4_count_139 : decode cX4_count 139 = .ok (.iconst 2, 1) := dk_5 (dk_at dksX4_count_5 13 rfl rfl)
theorem dX4_count_140 : decode cX4_count 140 = .ok (.iaload, 1) := dk_46 (dk_at dksX4_count_5 14 rfl rfl)
theorem dX4_count_141 : decode cX4_count 141 = .ok (.ireturn, 1) := dk_172 (dk_at dksX4_count_5 15 rfl rfl)
theorem dX4_count_142 : decode cX4_count 142 = .ok (.aload_n 0, 1) := dk_42 (dk_at dksX4_count_5 16 rfl rfl)
theorem dX4_count_143 : decode cX4_count 143 = .ok (.getfield 25, 3) := dk_180 0 25 (dk_at dksX4_count_5 17 rfl rfl)
theorem dX4_count_146 : decode cX4_count 146 = .ok (.iconst 5, 1) := dk_8 (dk_at dksX4_count_5 20 rfl rfl)
theorem dX4_count_147 : decode cX4_count 147 = .ok (.iaload, 1) := dk_46 (dk_at dksX4_count_5 21 rfl rfl)
theorem dX4_count_148 : decode cX4_count 148 = .ok (.ireturn, 1) := dk_172 (dk_at dksX4_count_5 22 rfl rfl)
theorem dX4_count_149 : decode cX4_count 149 = .ok (.ldc 79, 2) := dk_18 79 (dk_at dksX4_count_6 0 rfl rfl)
theorem dX4_count_151 : decode cX4_count 151 = .ok (.ireturn, 1) := dk_172 (dk_at dksX4_count_6 2 rfl rfl)
abbrev cX4_status : ByteArray := prog_26_method_80_code
def yX4_status : MethodName := ⟨RX4, "status", "()I"⟩
theorem dX4_status_0 : decode cX4_status 0 = .ok (.aload_n 0, 1) := by decide +kernel
theorem dX4_status_1 : decode cX4_status 1 = .ok (.getfield 66, 3) := by decide +kernel
theorem dX4_status_4 : decode cX4_status 4 = .ok (.ireturn, 1) := by decide +kernel
theorem q73 : (Jvm.Cond.initialized "MoodFareModel") ∈ lw_all := lw_g (lw_at lw_m1 8 rfl) rfl
theorem q812 : (Jvm.Cond.selects "MoodFareModel" ({ cls := "java/lang/Object", name := "getClass", desc := "()Ljava/lang/Class;" } : Jvm.MethodName) ({ cls := "java/lang/Object", name := "getClass", desc := "()Ljava/lang/Class;" } : Jvm.MethodName)) ∈ lw_all := lw_g (lw_at lw_m4 27 rfl) rfl
theorem q1468 : (Jvm.Cond.instantiable "MoodFareModel" (32 : Nat)) ∈ lw_all := lw_g (lw_at lw_m6 203 rfl) rfl
theorem q1470 : (Jvm.Cond.instanceMethod ({ cls := "MoodFareModel", name := "<init>", desc := "()V" } : Jvm.MethodName)) ∈ lw_all := lw_g (lw_at lw_m6 205 rfl) rfl
theorem q1471 : (Jvm.Cond.code ({ cls := "MoodFareModel", name := "<init>", desc := "()V" } : Jvm.MethodName) prog_26_method_1_code (2 : Nat) (Option.none : Option Jvm.ClassFile.FieldType)) ∈ lw_all := lw_g (lw_at lw_m6 206 rfl) rfl
theorem q1472 : (Jvm.Cond.methodLink "MoodFareModel" (1 : Nat) ({ cls := "java/lang/Object", name := "<init>", desc := "()V" } : Jvm.MethodName)) ∈ lw_all := lw_g (lw_at lw_m6 207 rfl) rfl
theorem q1473 : (Jvm.Cond.constant "MoodFareModel" (65 : Nat) (-1000000 : Int32)) ∈ lw_all := lw_g (lw_at lw_m6 208 rfl) rfl
theorem q1474 : (Jvm.Cond.fieldLink "MoodFareModel" (7 : Nat) "MoodFareModel" "lane" "[I") ∈ lw_all := lw_g (lw_at lw_m6 209 rfl) rfl
theorem q1475 : (Jvm.Cond.fieldLink "MoodFareModel" (13 : Nat) "MoodFareModel" "many" "[I") ∈ lw_all := lw_g (lw_at lw_m6 210 rfl) rfl
theorem q1476 : (Jvm.Cond.fieldLink "MoodFareModel" (16 : Nat) "MoodFareModel" "items" "[I") ∈ lw_all := lw_g (lw_at lw_m6 211 rfl) rfl
theorem q1477 : (Jvm.Cond.fieldLink "MoodFareModel" (19 : Nat) "MoodFareModel" "spare" "[I") ∈ lw_all := lw_g (lw_at lw_m6 212 rfl) rfl
theorem q1478 : (Jvm.Cond.fieldLink "MoodFareModel" (66 : Nat) "MoodFareModel" "status" "I") ∈ lw_all := lw_g (lw_at lw_m6 213 rfl) rfl
theorem q1479 : (Jvm.Cond.fieldLink "MoodFareModel" (22 : Nat) "MoodFareModel" "tape" "[I") ∈ lw_all := lw_g (lw_at lw_m6 214 rfl) rfl
theorem q1480 : (Jvm.Cond.fieldLink "MoodFareModel" (97 : Nat) "MoodFareModel" "taped" "I") ∈ lw_all := lw_g (lw_at lw_m6 215 rfl) rfl
theorem q1481 : (Jvm.Cond.fieldLink "MoodFareModel" (123 : Nat) "MoodFareModel" "faultKind" "I") ∈ lw_all := lw_g (lw_at lw_m6 216 rfl) rfl
theorem q1482 : (Jvm.Cond.fieldLink "MoodFareModel" (116 : Nat) "MoodFareModel" "faultPlace" "I") ∈ lw_all := lw_g (lw_at lw_m6 217 rfl) rfl
theorem q1483 : (Jvm.Cond.fieldLink "MoodFareModel" (101 : Nat) "MoodFareModel" "at" "I") ∈ lw_all := lw_g (lw_at lw_m6 218 rfl) rfl
theorem q1484 : (Jvm.Cond.fieldLink "MoodFareModel" (104 : Nat) "MoodFareModel" "start" "I") ∈ lw_all := lw_g (lw_at lw_m6 219 rfl) rfl
theorem q1485 : (Jvm.Cond.fieldLink "MoodFareModel" (113 : Nat) "MoodFareModel" "token" "I") ∈ lw_all := lw_g (lw_at lw_m6 220 rfl) rfl
theorem q1486 : (Jvm.Cond.fieldLink "MoodFareModel" (110 : Nat) "MoodFareModel" "value" "I") ∈ lw_all := lw_g (lw_at lw_m6 221 rfl) rfl
theorem q1487 : (Jvm.Cond.fieldLink "MoodFareModel" (25 : Nat) "MoodFareModel" "now" "[I") ∈ lw_all := lw_g (lw_at lw_m6 222 rfl) rfl
theorem q1488 : (Jvm.Cond.fieldLink "MoodFareModel" (28 : Nat) "MoodFareModel" "draft" "[I") ∈ lw_all := lw_g (lw_at lw_m6 223 rfl) rfl
theorem q1489 : (Jvm.Cond.fieldLink "MoodFareModel" (31 : Nat) "MoodFareModel" "tried" "[I") ∈ lw_all := lw_g (lw_at lw_m6 224 rfl) rfl
theorem q1490 : (Jvm.Cond.fieldLink "MoodFareModel" (34 : Nat) "MoodFareModel" "past" "[I") ∈ lw_all := lw_g (lw_at lw_m6 225 rfl) rfl
theorem q1491 : (Jvm.Cond.fieldLink "MoodFareModel" (160 : Nat) "MoodFareModel" "acts" "I") ∈ lw_all := lw_g (lw_at lw_m6 226 rfl) rfl
theorem q1492 : (Jvm.Cond.fieldLink "MoodFareModel" (37 : Nat) "MoodFareModel" "images" "[I") ∈ lw_all := lw_g (lw_at lw_m6 227 rfl) rfl
theorem q1493 : (Jvm.Cond.fieldLink "MoodFareModel" (40 : Nat) "MoodFareModel" "kept" "[Z") ∈ lw_all := lw_g (lw_at lw_m6 228 rfl) rfl
theorem q1494 : (Jvm.Cond.fieldLink "MoodFareModel" (197 : Nat) "MoodFareModel" "depth" "I") ∈ lw_all := lw_g (lw_at lw_m6 229 rfl) rfl
theorem q1495 : (Jvm.Cond.fieldLink "MoodFareModel" (44 : Nat) "MoodFareModel" "path" "[I") ∈ lw_all := lw_g (lw_at lw_m6 230 rfl) rfl
theorem q1496 : (Jvm.Cond.fieldLink "MoodFareModel" (47 : Nat) "MoodFareModel" "next" "[I") ∈ lw_all := lw_g (lw_at lw_m6 231 rfl) rfl
theorem q1497 : (Jvm.Cond.fieldLink "MoodFareModel" (50 : Nat) "MoodFareModel" "where" "[I") ∈ lw_all := lw_g (lw_at lw_m6 232 rfl) rfl
theorem q1498 : (Jvm.Cond.fieldLink "MoodFareModel" (53 : Nat) "MoodFareModel" "moods" "[I") ∈ lw_all := lw_g (lw_at lw_m6 233 rfl) rfl
theorem q1499 : (Jvm.Cond.fieldLink "MoodFareModel" (56 : Nat) "MoodFareModel" "costs" "[I") ∈ lw_all := lw_g (lw_at lw_m6 234 rfl) rfl
theorem q1500 : (Jvm.Cond.fieldLink "MoodFareModel" (59 : Nat) "MoodFareModel" "best" "[I") ∈ lw_all := lw_g (lw_at lw_m6 235 rfl) rfl
theorem q1501 : (Jvm.Cond.fieldLink "MoodFareModel" (204 : Nat) "MoodFareModel" "bestCost" "I") ∈ lw_all := lw_g (lw_at lw_m6 236 rfl) rfl
theorem q1502 : (Jvm.Cond.fieldLink "MoodFareModel" (207 : Nat) "MoodFareModel" "bestSize" "I") ∈ lw_all := lw_g (lw_at lw_m6 237 rfl) rfl
theorem q1503 : (Jvm.Cond.fieldLink "MoodFareModel" (210 : Nat) "MoodFareModel" "bestWhere" "I") ∈ lw_all := lw_g (lw_at lw_m6 238 rfl) rfl
theorem q1504 : (Jvm.Cond.fieldLink "MoodFareModel" (62 : Nat) "MoodFareModel" "trace" "[I") ∈ lw_all := lw_g (lw_at lw_m6 239 rfl) rfl
theorem q1505 : (Jvm.Cond.fieldLink "MoodFareModel" (251 : Nat) "MoodFareModel" "traced" "I") ∈ lw_all := lw_g (lw_at lw_m7 0 rfl) rfl
theorem q1506 : (Jvm.Cond.laysFinal "MoodFareModel" "MoodFareModel" "lane" "[I") ∈ lw_all := lw_g (lw_at lw_m7 1 rfl) rfl
theorem q1507 : (Jvm.Cond.soleField "MoodFareModel" "lane") ∈ lw_all := lw_g (lw_at lw_m7 2 rfl) rfl
theorem q1508 : (Jvm.Cond.laysFinal "MoodFareModel" "MoodFareModel" "many" "[I") ∈ lw_all := lw_g (lw_at lw_m7 3 rfl) rfl
theorem q1509 : (Jvm.Cond.soleField "MoodFareModel" "many") ∈ lw_all := lw_g (lw_at lw_m7 4 rfl) rfl
theorem q1510 : (Jvm.Cond.laysFinal "MoodFareModel" "MoodFareModel" "items" "[I") ∈ lw_all := lw_g (lw_at lw_m7 5 rfl) rfl
theorem q1511 : (Jvm.Cond.soleField "MoodFareModel" "items") ∈ lw_all := lw_g (lw_at lw_m7 6 rfl) rfl
theorem q1512 : (Jvm.Cond.laysFinal "MoodFareModel" "MoodFareModel" "spare" "[I") ∈ lw_all := lw_g (lw_at lw_m7 7 rfl) rfl
theorem q1513 : (Jvm.Cond.soleField "MoodFareModel" "spare") ∈ lw_all := lw_g (lw_at lw_m7 8 rfl) rfl
theorem q1514 : (Jvm.Cond.lays "MoodFareModel" "MoodFareModel" "status" "I") ∈ lw_all := lw_g (lw_at lw_m7 9 rfl) rfl
theorem q1515 : (Jvm.Cond.soleField "MoodFareModel" "status") ∈ lw_all := lw_g (lw_at lw_m7 10 rfl) rfl
theorem q1516 : (Jvm.Cond.laysFinal "MoodFareModel" "MoodFareModel" "tape" "[I") ∈ lw_all := lw_g (lw_at lw_m7 11 rfl) rfl
theorem q1517 : (Jvm.Cond.soleField "MoodFareModel" "tape") ∈ lw_all := lw_g (lw_at lw_m7 12 rfl) rfl
theorem q1518 : (Jvm.Cond.lays "MoodFareModel" "MoodFareModel" "taped" "I") ∈ lw_all := lw_g (lw_at lw_m7 13 rfl) rfl
theorem q1519 : (Jvm.Cond.soleField "MoodFareModel" "taped") ∈ lw_all := lw_g (lw_at lw_m7 14 rfl) rfl
theorem q1520 : (Jvm.Cond.lays "MoodFareModel" "MoodFareModel" "faultKind" "I") ∈ lw_all := lw_g (lw_at lw_m7 15 rfl) rfl
theorem q1521 : (Jvm.Cond.soleField "MoodFareModel" "faultKind") ∈ lw_all := lw_g (lw_at lw_m7 16 rfl) rfl
theorem q1522 : (Jvm.Cond.lays "MoodFareModel" "MoodFareModel" "faultPlace" "I") ∈ lw_all := lw_g (lw_at lw_m7 17 rfl) rfl
theorem q1523 : (Jvm.Cond.soleField "MoodFareModel" "faultPlace") ∈ lw_all := lw_g (lw_at lw_m7 18 rfl) rfl
theorem q1524 : (Jvm.Cond.lays "MoodFareModel" "MoodFareModel" "at" "I") ∈ lw_all := lw_g (lw_at lw_m7 19 rfl) rfl
theorem q1525 : (Jvm.Cond.soleField "MoodFareModel" "at") ∈ lw_all := lw_g (lw_at lw_m7 20 rfl) rfl
theorem q1526 : (Jvm.Cond.lays "MoodFareModel" "MoodFareModel" "start" "I") ∈ lw_all := lw_g (lw_at lw_m7 21 rfl) rfl
theorem q1527 : (Jvm.Cond.soleField "MoodFareModel" "start") ∈ lw_all := lw_g (lw_at lw_m7 22 rfl) rfl
theorem q1528 : (Jvm.Cond.lays "MoodFareModel" "MoodFareModel" "token" "I") ∈ lw_all := lw_g (lw_at lw_m7 23 rfl) rfl
theorem q1529 : (Jvm.Cond.soleField "MoodFareModel" "token") ∈ lw_all := lw_g (lw_at lw_m7 24 rfl) rfl
theorem q1530 : (Jvm.Cond.lays "MoodFareModel" "MoodFareModel" "value" "I") ∈ lw_all := lw_g (lw_at lw_m7 25 rfl) rfl
theorem q1531 : (Jvm.Cond.soleField "MoodFareModel" "value") ∈ lw_all := lw_g (lw_at lw_m7 26 rfl) rfl
theorem q1532 : (Jvm.Cond.laysFinal "MoodFareModel" "MoodFareModel" "now" "[I") ∈ lw_all := lw_g (lw_at lw_m7 27 rfl) rfl
theorem q1533 : (Jvm.Cond.soleField "MoodFareModel" "now") ∈ lw_all := lw_g (lw_at lw_m7 28 rfl) rfl
theorem q1534 : (Jvm.Cond.laysFinal "MoodFareModel" "MoodFareModel" "draft" "[I") ∈ lw_all := lw_g (lw_at lw_m7 29 rfl) rfl
theorem q1535 : (Jvm.Cond.soleField "MoodFareModel" "draft") ∈ lw_all := lw_g (lw_at lw_m7 30 rfl) rfl
theorem q1536 : (Jvm.Cond.laysFinal "MoodFareModel" "MoodFareModel" "tried" "[I") ∈ lw_all := lw_g (lw_at lw_m7 31 rfl) rfl
theorem q1537 : (Jvm.Cond.soleField "MoodFareModel" "tried") ∈ lw_all := lw_g (lw_at lw_m7 32 rfl) rfl
theorem q1538 : (Jvm.Cond.laysFinal "MoodFareModel" "MoodFareModel" "past" "[I") ∈ lw_all := lw_g (lw_at lw_m7 33 rfl) rfl
theorem q1539 : (Jvm.Cond.soleField "MoodFareModel" "past") ∈ lw_all := lw_g (lw_at lw_m7 34 rfl) rfl
theorem q1540 : (Jvm.Cond.lays "MoodFareModel" "MoodFareModel" "acts" "I") ∈ lw_all := lw_g (lw_at lw_m7 35 rfl) rfl
theorem q1541 : (Jvm.Cond.soleField "MoodFareModel" "acts") ∈ lw_all := lw_g (lw_at lw_m7 36 rfl) rfl
theorem q1542 : (Jvm.Cond.laysFinal "MoodFareModel" "MoodFareModel" "images" "[I") ∈ lw_all := lw_g (lw_at lw_m7 37 rfl) rfl
theorem q1543 : (Jvm.Cond.soleField "MoodFareModel" "images") ∈ lw_all := lw_g (lw_at lw_m7 38 rfl) rfl
theorem q1544 : (Jvm.Cond.laysFinal "MoodFareModel" "MoodFareModel" "kept" "[Z") ∈ lw_all := lw_g (lw_at lw_m7 39 rfl) rfl
theorem q1545 : (Jvm.Cond.soleField "MoodFareModel" "kept") ∈ lw_all := lw_g (lw_at lw_m7 40 rfl) rfl
theorem q1546 : (Jvm.Cond.lays "MoodFareModel" "MoodFareModel" "depth" "I") ∈ lw_all := lw_g (lw_at lw_m7 41 rfl) rfl
theorem q1547 : (Jvm.Cond.soleField "MoodFareModel" "depth") ∈ lw_all := lw_g (lw_at lw_m7 42 rfl) rfl
theorem q1548 : (Jvm.Cond.laysFinal "MoodFareModel" "MoodFareModel" "path" "[I") ∈ lw_all := lw_g (lw_at lw_m7 43 rfl) rfl
theorem q1549 : (Jvm.Cond.soleField "MoodFareModel" "path") ∈ lw_all := lw_g (lw_at lw_m7 44 rfl) rfl
theorem q1550 : (Jvm.Cond.laysFinal "MoodFareModel" "MoodFareModel" "next" "[I") ∈ lw_all := lw_g (lw_at lw_m7 45 rfl) rfl
theorem q1551 : (Jvm.Cond.soleField "MoodFareModel" "next") ∈ lw_all := lw_g (lw_at lw_m7 46 rfl) rfl
theorem q1552 : (Jvm.Cond.laysFinal "MoodFareModel" "MoodFareModel" "where" "[I") ∈ lw_all := lw_g (lw_at lw_m7 47 rfl) rfl
theorem q1553 : (Jvm.Cond.soleField "MoodFareModel" "where") ∈ lw_all := lw_g (lw_at lw_m7 48 rfl) rfl
theorem q1554 : (Jvm.Cond.laysFinal "MoodFareModel" "MoodFareModel" "moods" "[I") ∈ lw_all := lw_g (lw_at lw_m7 49 rfl) rfl
theorem q1555 : (Jvm.Cond.soleField "MoodFareModel" "moods") ∈ lw_all := lw_g (lw_at lw_m7 50 rfl) rfl
theorem q1556 : (Jvm.Cond.laysFinal "MoodFareModel" "MoodFareModel" "costs" "[I") ∈ lw_all := lw_g (lw_at lw_m7 51 rfl) rfl
theorem q1557 : (Jvm.Cond.soleField "MoodFareModel" "costs") ∈ lw_all := lw_g (lw_at lw_m7 52 rfl) rfl
theorem q1558 : (Jvm.Cond.laysFinal "MoodFareModel" "MoodFareModel" "best" "[I") ∈ lw_all := lw_g (lw_at lw_m7 53 rfl) rfl
theorem q1559 : (Jvm.Cond.soleField "MoodFareModel" "best") ∈ lw_all := lw_g (lw_at lw_m7 54 rfl) rfl
theorem q1560 : (Jvm.Cond.lays "MoodFareModel" "MoodFareModel" "bestCost" "I") ∈ lw_all := lw_g (lw_at lw_m7 55 rfl) rfl
theorem q1561 : (Jvm.Cond.soleField "MoodFareModel" "bestCost") ∈ lw_all := lw_g (lw_at lw_m7 56 rfl) rfl
theorem q1562 : (Jvm.Cond.lays "MoodFareModel" "MoodFareModel" "bestSize" "I") ∈ lw_all := lw_g (lw_at lw_m7 57 rfl) rfl
theorem q1563 : (Jvm.Cond.soleField "MoodFareModel" "bestSize") ∈ lw_all := lw_g (lw_at lw_m7 58 rfl) rfl
theorem q1564 : (Jvm.Cond.lays "MoodFareModel" "MoodFareModel" "bestWhere" "I") ∈ lw_all := lw_g (lw_at lw_m7 59 rfl) rfl
theorem q1565 : (Jvm.Cond.soleField "MoodFareModel" "bestWhere") ∈ lw_all := lw_g (lw_at lw_m7 60 rfl) rfl
theorem q1566 : (Jvm.Cond.laysFinal "MoodFareModel" "MoodFareModel" "trace" "[I") ∈ lw_all := lw_g (lw_at lw_m7 61 rfl) rfl
theorem q1567 : (Jvm.Cond.soleField "MoodFareModel" "trace") ∈ lw_all := lw_g (lw_at lw_m7 62 rfl) rfl
theorem q1568 : (Jvm.Cond.lays "MoodFareModel" "MoodFareModel" "traced" "I") ∈ lw_all := lw_g (lw_at lw_m7 63 rfl) rfl
theorem q1569 : (Jvm.Cond.soleField "MoodFareModel" "traced") ∈ lw_all := lw_g (lw_at lw_m7 64 rfl) rfl
theorem q1570 : (Jvm.Cond.superclass "MoodFareModel" "java/lang/Object") ∈ lw_all := lw_g (lw_at lw_m7 65 rfl) rfl
theorem q1573 : (Jvm.Cond.instanceMethod ({ cls := "MoodFareModel", name := "row", desc := "(III)I" } : Jvm.MethodName)) ∈ lw_all := lw_g (lw_at lw_m7 68 rfl) rfl
theorem q1574 : (Jvm.Cond.selects "MoodFareModel" ({ cls := "MoodFareModel", name := "row", desc := "(III)I" } : Jvm.MethodName) ({ cls := "MoodFareModel", name := "row", desc := "(III)I" } : Jvm.MethodName)) ∈ lw_all := lw_g (lw_at lw_m7 69 rfl) rfl
theorem q1575 : (Jvm.Cond.code ({ cls := "MoodFareModel", name := "row", desc := "(III)I" } : Jvm.MethodName) prog_26_method_11_code (5 : Nat) (Option.some Jvm.ClassFile.FieldType.int)) ∈ lw_all := lw_g (lw_at lw_m7 70 rfl) rfl
theorem q1576 : (Jvm.Cond.methodLink "MoodFareModel" (75 : Nat) ({ cls := "MoodFareModel", name := "isRow", desc := "(I)Z" } : Jvm.MethodName)) ∈ lw_all := lw_g (lw_at lw_m7 71 rfl) rfl
theorem q1577 : (Jvm.Cond.static ({ cls := "MoodFareModel", name := "isRow", desc := "(I)Z" } : Jvm.MethodName)) ∈ lw_all := lw_g (lw_at lw_m7 72 rfl) rfl
theorem q1578 : (Jvm.Cond.code ({ cls := "MoodFareModel", name := "isRow", desc := "(I)Z" } : Jvm.MethodName) prog_26_method_8_code (1 : Nat) (Option.some Jvm.ClassFile.FieldType.boolean)) ∈ lw_all := lw_g (lw_at lw_m7 73 rfl) rfl
theorem q1579 : (Jvm.Cond.methodLink "MoodFareModel" (71 : Nat) ({ cls := "MoodFareModel", name := "in", desc := "(III)Z" } : Jvm.MethodName)) ∈ lw_all := lw_g (lw_at lw_m7 74 rfl) rfl
theorem q1580 : (Jvm.Cond.static ({ cls := "MoodFareModel", name := "in", desc := "(III)Z" } : Jvm.MethodName)) ∈ lw_all := lw_g (lw_at lw_m7 75 rfl) rfl
theorem q1581 : (Jvm.Cond.code ({ cls := "MoodFareModel", name := "in", desc := "(III)Z" } : Jvm.MethodName) prog_26_method_3_code (3 : Nat) (Option.some Jvm.ClassFile.FieldType.boolean)) ∈ lw_all := lw_g (lw_at lw_m7 76 rfl) rfl
theorem q1582 : (Jvm.Cond.constant "MoodFareModel" (79 : Nat) (-1000001 : Int32)) ∈ lw_all := lw_g (lw_at lw_m7 77 rfl) rfl
theorem q1583 : (Jvm.Cond.methodLink "MoodFareModel" (80 : Nat) ({ cls := "MoodFareModel", name := "found", desc := "(I)I" } : Jvm.MethodName)) ∈ lw_all := lw_g (lw_at lw_m7 78 rfl) rfl
theorem q1584 : (Jvm.Cond.privateMethod ({ cls := "MoodFareModel", name := "found", desc := "(I)I" } : Jvm.MethodName)) ∈ lw_tbl := lw_at lw_m7 79 rfl
theorem q1585 : (Jvm.Cond.instanceMethod ({ cls := "MoodFareModel", name := "found", desc := "(I)I" } : Jvm.MethodName)) ∈ lw_all := lw_g (lw_at lw_m7 80 rfl) rfl
theorem q1586 : (Jvm.Cond.code ({ cls := "MoodFareModel", name := "found", desc := "(I)I" } : Jvm.MethodName) prog_26_method_5_code (2 : Nat) (Option.some Jvm.ClassFile.FieldType.int)) ∈ lw_all := lw_g (lw_at lw_m7 81 rfl) rfl
theorem q1587 : (Jvm.Cond.constant "MoodFareModel" (70 : Nat) (-1000010 : Int32)) ∈ lw_all := lw_g (lw_at lw_m7 82 rfl) rfl
theorem q1588 : (Jvm.Cond.methodLink "MoodFareModel" (84 : Nat) ({ cls := "MoodFareModel", name := "well", desc := "(I)I" } : Jvm.MethodName)) ∈ lw_all := lw_g (lw_at lw_m7 83 rfl) rfl
theorem q1589 : (Jvm.Cond.privateMethod ({ cls := "MoodFareModel", name := "well", desc := "(I)I" } : Jvm.MethodName)) ∈ lw_tbl := lw_at lw_m7 84 rfl
theorem q1590 : (Jvm.Cond.instanceMethod ({ cls := "MoodFareModel", name := "well", desc := "(I)I" } : Jvm.MethodName)) ∈ lw_all := lw_g (lw_at lw_m7 85 rfl) rfl
theorem q1591 : (Jvm.Cond.code ({ cls := "MoodFareModel", name := "well", desc := "(I)I" } : Jvm.MethodName) prog_26_method_6_code (2 : Nat) (Option.some Jvm.ClassFile.FieldType.int)) ∈ lw_all := lw_g (lw_at lw_m7 86 rfl) rfl
theorem q1593 : (Jvm.Cond.instanceMethod ({ cls := "MoodFareModel", name := "set", desc := "(III)I" } : Jvm.MethodName)) ∈ lw_all := lw_g (lw_at lw_m7 88 rfl) rfl
theorem q1594 : (Jvm.Cond.selects "MoodFareModel" ({ cls := "MoodFareModel", name := "set", desc := "(III)I" } : Jvm.MethodName) ({ cls := "MoodFareModel", name := "set", desc := "(III)I" } : Jvm.MethodName)) ∈ lw_all := lw_g (lw_at lw_m7 89 rfl) rfl
theorem q1595 : (Jvm.Cond.code ({ cls := "MoodFareModel", name := "set", desc := "(III)I" } : Jvm.MethodName) prog_26_method_12_code (4 : Nat) (Option.some Jvm.ClassFile.FieldType.int)) ∈ lw_all := lw_g (lw_at lw_m7 90 rfl) rfl
theorem q1596 : (Jvm.Cond.methodLink "MoodFareModel" (87 : Nat) ({ cls := "MoodFareModel", name := "isMissing", desc := "(I)Z" } : Jvm.MethodName)) ∈ lw_all := lw_g (lw_at lw_m7 91 rfl) rfl
theorem q1597 : (Jvm.Cond.privateMethod ({ cls := "MoodFareModel", name := "isMissing", desc := "(I)Z" } : Jvm.MethodName)) ∈ lw_tbl := lw_at lw_m7 92 rfl
theorem q1598 : (Jvm.Cond.instanceMethod ({ cls := "MoodFareModel", name := "isMissing", desc := "(I)Z" } : Jvm.MethodName)) ∈ lw_all := lw_g (lw_at lw_m7 93 rfl) rfl
theorem q1599 : (Jvm.Cond.code ({ cls := "MoodFareModel", name := "isMissing", desc := "(I)Z" } : Jvm.MethodName) prog_26_method_9_code (2 : Nat) (Option.some Jvm.ClassFile.FieldType.boolean)) ∈ lw_all := lw_g (lw_at lw_m7 94 rfl) rfl
theorem q1600 : (Jvm.Cond.methodLink "MoodFareModel" (90 : Nat) ({ cls := "MoodFareModel", name := "cut", desc := "(II)I" } : Jvm.MethodName)) ∈ lw_all := lw_g (lw_at lw_m7 95 rfl) rfl
theorem q1601 : (Jvm.Cond.static ({ cls := "MoodFareModel", name := "cut", desc := "(II)I" } : Jvm.MethodName)) ∈ lw_all := lw_g (lw_at lw_m7 96 rfl) rfl
theorem q1602 : (Jvm.Cond.code ({ cls := "MoodFareModel", name := "cut", desc := "(II)I" } : Jvm.MethodName) prog_26_method_10_code (2 : Nat) (Option.some Jvm.ClassFile.FieldType.int)) ∈ lw_all := lw_g (lw_at lw_m7 97 rfl) rfl
theorem q1604 : (Jvm.Cond.instanceMethod ({ cls := "MoodFareModel", name := "copy", desc := "(IIIII)I" } : Jvm.MethodName)) ∈ lw_all := lw_g (lw_at lw_m7 99 rfl) rfl
theorem q1605 : (Jvm.Cond.selects "MoodFareModel" ({ cls := "MoodFareModel", name := "copy", desc := "(IIIII)I" } : Jvm.MethodName) ({ cls := "MoodFareModel", name := "copy", desc := "(IIIII)I" } : Jvm.MethodName)) ∈ lw_all := lw_g (lw_at lw_m7 100 rfl) rfl
theorem q1606 : (Jvm.Cond.code ({ cls := "MoodFareModel", name := "copy", desc := "(IIIII)I" } : Jvm.MethodName) prog_26_method_14_code (7 : Nat) (Option.some Jvm.ClassFile.FieldType.int)) ∈ lw_all := lw_g (lw_at lw_m7 101 rfl) rfl
theorem q1607 : (Jvm.Cond.methodLink "MoodFareModel" (94 : Nat) ({ cls := "MoodFareModel", name := "isPart", desc := "(III)Z" } : Jvm.MethodName)) ∈ lw_all := lw_g (lw_at lw_m7 102 rfl) rfl
theorem q1608 : (Jvm.Cond.privateMethod ({ cls := "MoodFareModel", name := "isPart", desc := "(III)Z" } : Jvm.MethodName)) ∈ lw_tbl := lw_at lw_m7 103 rfl
theorem q1609 : (Jvm.Cond.instanceMethod ({ cls := "MoodFareModel", name := "isPart", desc := "(III)Z" } : Jvm.MethodName)) ∈ lw_all := lw_g (lw_at lw_m7 104 rfl) rfl
theorem q1610 : (Jvm.Cond.code ({ cls := "MoodFareModel", name := "isPart", desc := "(III)Z" } : Jvm.MethodName) prog_26_method_13_code (4 : Nat) (Option.some Jvm.ClassFile.FieldType.boolean)) ∈ lw_all := lw_g (lw_at lw_m7 105 rfl) rfl
theorem q1612 : (Jvm.Cond.instanceMethod ({ cls := "MoodFareModel", name := "drop", desc := "(I)I" } : Jvm.MethodName)) ∈ lw_all := lw_g (lw_at lw_m7 107 rfl) rfl
theorem q1613 : (Jvm.Cond.selects "MoodFareModel" ({ cls := "MoodFareModel", name := "drop", desc := "(I)I" } : Jvm.MethodName) ({ cls := "MoodFareModel", name := "drop", desc := "(I)I" } : Jvm.MethodName)) ∈ lw_all := lw_g (lw_at lw_m7 108 rfl) rfl
theorem q1614 : (Jvm.Cond.code ({ cls := "MoodFareModel", name := "drop", desc := "(I)I" } : Jvm.MethodName) prog_26_method_15_code (2 : Nat) (Option.some Jvm.ClassFile.FieldType.int)) ∈ lw_all := lw_g (lw_at lw_m7 109 rfl) rfl
theorem q1616 : (Jvm.Cond.instanceMethod ({ cls := "MoodFareModel", name := "feed", desc := "(I)I" } : Jvm.MethodName)) ∈ lw_all := lw_g (lw_at lw_m7 111 rfl) rfl
theorem q1617 : (Jvm.Cond.selects "MoodFareModel" ({ cls := "MoodFareModel", name := "feed", desc := "(I)I" } : Jvm.MethodName) ({ cls := "MoodFareModel", name := "feed", desc := "(I)I" } : Jvm.MethodName)) ∈ lw_all := lw_g (lw_at lw_m7 112 rfl) rfl
theorem q1618 : (Jvm.Cond.code ({ cls := "MoodFareModel", name := "feed", desc := "(I)I" } : Jvm.MethodName) prog_26_method_16_code (2 : Nat) (Option.some Jvm.ClassFile.FieldType.int)) ∈ lw_all := lw_g (lw_at lw_m7 113 rfl) rfl
theorem q1619 : (Jvm.Cond.constant "MoodFareModel" (100 : Nat) (-1000003 : Int32)) ∈ lw_all := lw_g (lw_at lw_m7 114 rfl) rfl
theorem q1621 : (Jvm.Cond.instanceMethod ({ cls := "MoodFareModel", name := "town", desc := "()I" } : Jvm.MethodName)) ∈ lw_all := lw_g (lw_at lw_m7 116 rfl) rfl
theorem q1622 : (Jvm.Cond.selects "MoodFareModel" ({ cls := "MoodFareModel", name := "town", desc := "()I" } : Jvm.MethodName) ({ cls := "MoodFareModel", name := "town", desc := "()I" } : Jvm.MethodName)) ∈ lw_all := lw_g (lw_at lw_m7 117 rfl) rfl
theorem q1623 : (Jvm.Cond.code ({ cls := "MoodFareModel", name := "town", desc := "()I" } : Jvm.MethodName) prog_26_method_28_code (2 : Nat) (Option.some Jvm.ClassFile.FieldType.int)) ∈ lw_all := lw_g (lw_at lw_m7 118 rfl) rfl
theorem q1624 : (Jvm.Cond.methodLink "MoodFareModel" (126 : Nat) ({ cls := "MoodFareModel", name := "advances", desc := "()V" } : Jvm.MethodName)) ∈ lw_all := lw_g (lw_at lw_m7 119 rfl) rfl
theorem q1625 : (Jvm.Cond.privateMethod ({ cls := "MoodFareModel", name := "advances", desc := "()V" } : Jvm.MethodName)) ∈ lw_tbl := lw_at lw_m7 120 rfl
theorem q1626 : (Jvm.Cond.instanceMethod ({ cls := "MoodFareModel", name := "advances", desc := "()V" } : Jvm.MethodName)) ∈ lw_all := lw_g (lw_at lw_m7 121 rfl) rfl
theorem q1627 : (Jvm.Cond.code ({ cls := "MoodFareModel", name := "advances", desc := "()V" } : Jvm.MethodName) prog_26_method_18_code (2 : Nat) (Option.none : Option Jvm.ClassFile.FieldType)) ∈ lw_all := lw_g (lw_at lw_m7 122 rfl) rfl
theorem q1628 : (Jvm.Cond.methodLink "MoodFareModel" (107 : Nat) ({ cls := "MoodFareModel", name := "byteAt", desc := "(I)I" } : Jvm.MethodName)) ∈ lw_all := lw_g (lw_at lw_m7 123 rfl) rfl
theorem q1629 : (Jvm.Cond.privateMethod ({ cls := "MoodFareModel", name := "byteAt", desc := "(I)I" } : Jvm.MethodName)) ∈ lw_tbl := lw_at lw_m7 124 rfl
theorem q1630 : (Jvm.Cond.instanceMethod ({ cls := "MoodFareModel", name := "byteAt", desc := "(I)I" } : Jvm.MethodName)) ∈ lw_all := lw_g (lw_at lw_m7 125 rfl) rfl
theorem q1631 : (Jvm.Cond.code ({ cls := "MoodFareModel", name := "byteAt", desc := "(I)I" } : Jvm.MethodName) prog_26_method_17_code (2 : Nat) (Option.some Jvm.ClassFile.FieldType.int)) ∈ lw_all := lw_g (lw_at lw_m7 126 rfl) rfl
theorem q1632 : (Jvm.Cond.methodLink "MoodFareModel" (129 : Nat) ({ cls := "MoodFareModel", name := "takes", desc := "(ZI)I" } : Jvm.MethodName)) ∈ lw_all := lw_g (lw_at lw_m7 127 rfl) rfl
theorem q1633 : (Jvm.Cond.privateMethod ({ cls := "MoodFareModel", name := "takes", desc := "(ZI)I" } : Jvm.MethodName)) ∈ lw_tbl := lw_at lw_m7 128 rfl
theorem q1634 : (Jvm.Cond.instanceMethod ({ cls := "MoodFareModel", name := "takes", desc := "(ZI)I" } : Jvm.MethodName)) ∈ lw_all := lw_g (lw_at lw_m7 129 rfl) rfl
theorem q1635 : (Jvm.Cond.code ({ cls := "MoodFareModel", name := "takes", desc := "(ZI)I" } : Jvm.MethodName) prog_26_method_20_code (4 : Nat) (Option.some Jvm.ClassFile.FieldType.int)) ∈ lw_all := lw_g (lw_at lw_m7 130 rfl) rfl
theorem q1636 : (Jvm.Cond.methodLink "MoodFareModel" (119 : Nat) ({ cls := "MoodFareModel", name := "isWell", desc := "()Z" } : Jvm.MethodName)) ∈ lw_all := lw_g (lw_at lw_m7 131 rfl) rfl
theorem q1637 : (Jvm.Cond.privateMethod ({ cls := "MoodFareModel", name := "isWell", desc := "()Z" } : Jvm.MethodName)) ∈ lw_tbl := lw_at lw_m7 132 rfl
theorem q1638 : (Jvm.Cond.instanceMethod ({ cls := "MoodFareModel", name := "isWell", desc := "()Z" } : Jvm.MethodName)) ∈ lw_all := lw_g (lw_at lw_m7 133 rfl) rfl
theorem q1639 : (Jvm.Cond.code ({ cls := "MoodFareModel", name := "isWell", desc := "()Z" } : Jvm.MethodName) prog_26_method_19_code (1 : Nat) (Option.some Jvm.ClassFile.FieldType.boolean)) ∈ lw_all := lw_g (lw_at lw_m7 134 rfl) rfl
theorem q1640 : (Jvm.Cond.methodLink "MoodFareModel" (133 : Nat) ({ cls := "MoodFareModel", name := "figure", desc := "(II)I" } : Jvm.MethodName)) ∈ lw_all := lw_g (lw_at lw_m7 135 rfl) rfl
theorem q1641 : (Jvm.Cond.privateMethod ({ cls := "MoodFareModel", name := "figure", desc := "(II)I" } : Jvm.MethodName)) ∈ lw_tbl := lw_at lw_m7 136 rfl
theorem q1642 : (Jvm.Cond.instanceMethod ({ cls := "MoodFareModel", name := "figure", desc := "(II)I" } : Jvm.MethodName)) ∈ lw_all := lw_g (lw_at lw_m7 137 rfl) rfl
theorem q1643 : (Jvm.Cond.code ({ cls := "MoodFareModel", name := "figure", desc := "(II)I" } : Jvm.MethodName) prog_26_method_21_code (3 : Nat) (Option.some Jvm.ClassFile.FieldType.int)) ∈ lw_all := lw_g (lw_at lw_m7 138 rfl) rfl
theorem q1644 : (Jvm.Cond.methodLink "MoodFareModel" (139 : Nat) ({ cls := "MoodFareModel", name := "follows", desc := "(II)I" } : Jvm.MethodName)) ∈ lw_all := lw_g (lw_at lw_m7 139 rfl) rfl
theorem q1645 : (Jvm.Cond.privateMethod ({ cls := "MoodFareModel", name := "follows", desc := "(II)I" } : Jvm.MethodName)) ∈ lw_tbl := lw_at lw_m7 140 rfl
theorem q1646 : (Jvm.Cond.instanceMethod ({ cls := "MoodFareModel", name := "follows", desc := "(II)I" } : Jvm.MethodName)) ∈ lw_all := lw_g (lw_at lw_m7 141 rfl) rfl
theorem q1647 : (Jvm.Cond.code ({ cls := "MoodFareModel", name := "follows", desc := "(II)I" } : Jvm.MethodName) prog_26_method_23_code (3 : Nat) (Option.some Jvm.ClassFile.FieldType.int)) ∈ lw_all := lw_g (lw_at lw_m7 142 rfl) rfl
theorem q1648 : (Jvm.Cond.methodLink "MoodFareModel" (136 : Nat) ({ cls := "MoodFareModel", name := "kindOf", desc := "(I)I" } : Jvm.MethodName)) ∈ lw_all := lw_g (lw_at lw_m7 143 rfl) rfl
theorem q1649 : (Jvm.Cond.static ({ cls := "MoodFareModel", name := "kindOf", desc := "(I)I" } : Jvm.MethodName)) ∈ lw_all := lw_g (lw_at lw_m7 144 rfl) rfl
theorem q1650 : (Jvm.Cond.code ({ cls := "MoodFareModel", name := "kindOf", desc := "(I)I" } : Jvm.MethodName) prog_26_method_22_code (1 : Nat) (Option.some Jvm.ClassFile.FieldType.int)) ∈ lw_all := lw_g (lw_at lw_m7 145 rfl) rfl
theorem q1651 : (Jvm.Cond.methodLink "MoodFareModel" (149 : Nat) ({ cls := "MoodFareModel", name := "readsCorner", desc := "()V" } : Jvm.MethodName)) ∈ lw_all := lw_g (lw_at lw_m7 146 rfl) rfl
theorem q1652 : (Jvm.Cond.privateMethod ({ cls := "MoodFareModel", name := "readsCorner", desc := "()V" } : Jvm.MethodName)) ∈ lw_tbl := lw_at lw_m7 147 rfl
theorem q1653 : (Jvm.Cond.instanceMethod ({ cls := "MoodFareModel", name := "readsCorner", desc := "()V" } : Jvm.MethodName)) ∈ lw_all := lw_g (lw_at lw_m7 148 rfl) rfl
theorem q1654 : (Jvm.Cond.code ({ cls := "MoodFareModel", name := "readsCorner", desc := "()V" } : Jvm.MethodName) prog_26_method_24_code (5 : Nat) (Option.none : Option Jvm.ClassFile.FieldType)) ∈ lw_all := lw_g (lw_at lw_m7 149 rfl) rfl
theorem q1655 : (Jvm.Cond.methodLink "MoodFareModel" (152 : Nat) ({ cls := "MoodFareModel", name := "readsStreet", desc := "()V" } : Jvm.MethodName)) ∈ lw_all := lw_g (lw_at lw_m7 150 rfl) rfl
theorem q1656 : (Jvm.Cond.privateMethod ({ cls := "MoodFareModel", name := "readsStreet", desc := "()V" } : Jvm.MethodName)) ∈ lw_tbl := lw_at lw_m7 151 rfl
theorem q1657 : (Jvm.Cond.instanceMethod ({ cls := "MoodFareModel", name := "readsStreet", desc := "()V" } : Jvm.MethodName)) ∈ lw_all := lw_g (lw_at lw_m7 152 rfl) rfl
theorem q1658 : (Jvm.Cond.code ({ cls := "MoodFareModel", name := "readsStreet", desc := "()V" } : Jvm.MethodName) prog_26_method_27_code (4 : Nat) (Option.none : Option Jvm.ClassFile.FieldType)) ∈ lw_all := lw_g (lw_at lw_m7 153 rfl) rfl
theorem q1659 : (Jvm.Cond.methodLink "MoodFareModel" (146 : Nat) ({ cls := "MoodFareModel", name := "toFigure", desc := "(I)I" } : Jvm.MethodName)) ∈ lw_all := lw_g (lw_at lw_m7 154 rfl) rfl
theorem q1660 : (Jvm.Cond.privateMethod ({ cls := "MoodFareModel", name := "toFigure", desc := "(I)I" } : Jvm.MethodName)) ∈ lw_tbl := lw_at lw_m7 155 rfl
theorem q1661 : (Jvm.Cond.instanceMethod ({ cls := "MoodFareModel", name := "toFigure", desc := "(I)I" } : Jvm.MethodName)) ∈ lw_all := lw_g (lw_at lw_m7 156 rfl) rfl
theorem q1662 : (Jvm.Cond.code ({ cls := "MoodFareModel", name := "toFigure", desc := "(I)I" } : Jvm.MethodName) prog_26_method_26_code (2 : Nat) (Option.some Jvm.ClassFile.FieldType.int)) ∈ lw_all := lw_g (lw_at lw_m7 157 rfl) rfl
theorem q1663 : (Jvm.Cond.methodLink "MoodFareModel" (142 : Nat) ({ cls := "MoodFareModel", name := "isStreetTold", desc := "(II)Z" } : Jvm.MethodName)) ∈ lw_all := lw_g (lw_at lw_m7 158 rfl) rfl
theorem q1664 : (Jvm.Cond.privateMethod ({ cls := "MoodFareModel", name := "isStreetTold", desc := "(II)Z" } : Jvm.MethodName)) ∈ lw_tbl := lw_at lw_m7 159 rfl
theorem q1665 : (Jvm.Cond.instanceMethod ({ cls := "MoodFareModel", name := "isStreetTold", desc := "(II)Z" } : Jvm.MethodName)) ∈ lw_all := lw_g (lw_at lw_m7 160 rfl) rfl
theorem q1666 : (Jvm.Cond.code ({ cls := "MoodFareModel", name := "isStreetTold", desc := "(II)Z" } : Jvm.MethodName) prog_26_method_25_code (5 : Nat) (Option.some Jvm.ClassFile.FieldType.boolean)) ∈ lw_all := lw_g (lw_at lw_m7 161 rfl) rfl
theorem q1667 : (Jvm.Cond.constant "MoodFareModel" (155 : Nat) (-1000100 : Int32)) ∈ lw_all := lw_g (lw_at lw_m7 162 rfl) rfl
theorem q1668 : (Jvm.Cond.methodLink "MoodFareModel" (156 : Nat) ({ cls := "MoodFareModel", name := "copies", desc := "([II[II)V" } : Jvm.MethodName)) ∈ lw_all := lw_g (lw_at lw_m7 163 rfl) rfl
theorem q1669 : (Jvm.Cond.static ({ cls := "MoodFareModel", name := "copies", desc := "([II[II)V" } : Jvm.MethodName)) ∈ lw_all := lw_g (lw_at lw_m7 164 rfl) rfl
theorem q1670 : (Jvm.Cond.code ({ cls := "MoodFareModel", name := "copies", desc := "([II[II)V" } : Jvm.MethodName) prog_26_method_7_code (5 : Nat) (Option.none : Option Jvm.ClassFile.FieldType)) ∈ lw_all := lw_g (lw_at lw_m7 165 rfl) rfl
theorem q1672 : (Jvm.Cond.instanceMethod ({ cls := "MoodFareModel", name := "fault", desc := "()I" } : Jvm.MethodName)) ∈ lw_all := lw_g (lw_at lw_m7 167 rfl) rfl
theorem q1673 : (Jvm.Cond.selects "MoodFareModel" ({ cls := "MoodFareModel", name := "fault", desc := "()I" } : Jvm.MethodName) ({ cls := "MoodFareModel", name := "fault", desc := "()I" } : Jvm.MethodName)) ∈ lw_all := lw_g (lw_at lw_m7 168 rfl) rfl
theorem q1674 : (Jvm.Cond.code ({ cls := "MoodFareModel", name := "fault", desc := "()I" } : Jvm.MethodName) prog_26_method_29_code (1 : Nat) (Option.some Jvm.ClassFile.FieldType.int)) ∈ lw_all := lw_g (lw_at lw_m7 169 rfl) rfl
theorem q1676 : (Jvm.Cond.instanceMethod ({ cls := "MoodFareModel", name := "ride", desc := "(I)I" } : Jvm.MethodName)) ∈ lw_all := lw_g (lw_at lw_m7 171 rfl) rfl
theorem q1677 : (Jvm.Cond.selects "MoodFareModel" ({ cls := "MoodFareModel", name := "ride", desc := "(I)I" } : Jvm.MethodName) ({ cls := "MoodFareModel", name := "ride", desc := "(I)I" } : Jvm.MethodName)) ∈ lw_all := lw_g (lw_at lw_m7 172 rfl) rfl
theorem q1678 : (Jvm.Cond.code ({ cls := "MoodFareModel", name := "ride", desc := "(I)I" } : Jvm.MethodName) prog_26_method_38_code (2 : Nat) (Option.some Jvm.ClassFile.FieldType.int)) ∈ lw_all := lw_g (lw_at lw_m7 173 rfl) rfl
theorem q1679 : (Jvm.Cond.methodLink "MoodFareModel" (173 : Nat) ({ cls := "MoodFareModel", name := "isStreet", desc := "(I)Z" } : Jvm.MethodName)) ∈ lw_all := lw_g (lw_at lw_m7 174 rfl) rfl
theorem q1680 : (Jvm.Cond.privateMethod ({ cls := "MoodFareModel", name := "isStreet", desc := "(I)Z" } : Jvm.MethodName)) ∈ lw_tbl := lw_at lw_m7 175 rfl
theorem q1681 : (Jvm.Cond.instanceMethod ({ cls := "MoodFareModel", name := "isStreet", desc := "(I)Z" } : Jvm.MethodName)) ∈ lw_all := lw_g (lw_at lw_m7 176 rfl) rfl
theorem q1682 : (Jvm.Cond.code ({ cls := "MoodFareModel", name := "isStreet", desc := "(I)Z" } : Jvm.MethodName) prog_26_method_32_code (2 : Nat) (Option.some Jvm.ClassFile.FieldType.boolean)) ∈ lw_all := lw_g (lw_at lw_m7 177 rfl) rfl
theorem q1683 : (Jvm.Cond.methodLink "MoodFareModel" (176 : Nat) ({ cls := "MoodFareModel", name := "goes", desc := "([III)Z" } : Jvm.MethodName)) ∈ lw_all := lw_g (lw_at lw_m7 178 rfl) rfl
theorem q1684 : (Jvm.Cond.static ({ cls := "MoodFareModel", name := "goes", desc := "([III)Z" } : Jvm.MethodName)) ∈ lw_all := lw_g (lw_at lw_m7 179 rfl) rfl
theorem q1685 : (Jvm.Cond.code ({ cls := "MoodFareModel", name := "goes", desc := "([III)Z" } : Jvm.MethodName) prog_26_method_35_code (3 : Nat) (Option.some Jvm.ClassFile.FieldType.boolean)) ∈ lw_all := lw_g (lw_at lw_m7 180 rfl) rfl
theorem q1686 : (Jvm.Cond.methodLink "MoodFareModel" (167 : Nat) ({ cls := "MoodFareModel", name := "has", desc := "(II)Z" } : Jvm.MethodName)) ∈ lw_all := lw_g (lw_at lw_m7 181 rfl) rfl
theorem q1687 : (Jvm.Cond.static ({ cls := "MoodFareModel", name := "has", desc := "(II)Z" } : Jvm.MethodName)) ∈ lw_all := lw_g (lw_at lw_m7 182 rfl) rfl
theorem q1688 : (Jvm.Cond.code ({ cls := "MoodFareModel", name := "has", desc := "(II)Z" } : Jvm.MethodName) prog_26_method_4_code (2 : Nat) (Option.some Jvm.ClassFile.FieldType.boolean)) ∈ lw_all := lw_g (lw_at lw_m7 183 rfl) rfl
theorem q1689 : (Jvm.Cond.constant "MoodFareModel" (180 : Nat) (-1000002 : Int32)) ∈ lw_all := lw_g (lw_at lw_m7 184 rfl) rfl
theorem q1690 : (Jvm.Cond.methodLink "MoodFareModel" (181 : Nat) ({ cls := "MoodFareModel", name := "notes", desc := "()V" } : Jvm.MethodName)) ∈ lw_all := lw_g (lw_at lw_m7 185 rfl) rfl
theorem q1691 : (Jvm.Cond.privateMethod ({ cls := "MoodFareModel", name := "notes", desc := "()V" } : Jvm.MethodName)) ∈ lw_tbl := lw_at lw_m7 186 rfl
theorem q1692 : (Jvm.Cond.instanceMethod ({ cls := "MoodFareModel", name := "notes", desc := "()V" } : Jvm.MethodName)) ∈ lw_all := lw_g (lw_at lw_m7 187 rfl) rfl
theorem q1693 : (Jvm.Cond.code ({ cls := "MoodFareModel", name := "notes", desc := "()V" } : Jvm.MethodName) prog_26_method_37_code (2 : Nat) (Option.none : Option Jvm.ClassFile.FieldType)) ∈ lw_all := lw_g (lw_at lw_m7 188 rfl) rfl
theorem q1694 : (Jvm.Cond.methodLink "MoodFareModel" (184 : Nat) ({ cls := "MoodFareModel", name := "rides", desc := "([II)V" } : Jvm.MethodName)) ∈ lw_all := lw_g (lw_at lw_m7 189 rfl) rfl
theorem q1695 : (Jvm.Cond.static ({ cls := "MoodFareModel", name := "rides", desc := "([II)V" } : Jvm.MethodName)) ∈ lw_all := lw_g (lw_at lw_m7 190 rfl) rfl
theorem q1696 : (Jvm.Cond.code ({ cls := "MoodFareModel", name := "rides", desc := "([II)V" } : Jvm.MethodName) prog_26_method_36_code (4 : Nat) (Option.none : Option Jvm.ClassFile.FieldType)) ∈ lw_all := lw_g (lw_at lw_m7 191 rfl) rfl
theorem q1697 : (Jvm.Cond.methodLink "MoodFareModel" (170 : Nat) ({ cls := "MoodFareModel", name := "cost", desc := "([IIII)I" } : Jvm.MethodName)) ∈ lw_all := lw_g (lw_at lw_m7 192 rfl) rfl
theorem q1698 : (Jvm.Cond.static ({ cls := "MoodFareModel", name := "cost", desc := "([IIII)I" } : Jvm.MethodName)) ∈ lw_all := lw_g (lw_at lw_m7 193 rfl) rfl
theorem q1699 : (Jvm.Cond.code ({ cls := "MoodFareModel", name := "cost", desc := "([IIII)I" } : Jvm.MethodName) prog_26_method_34_code (5 : Nat) (Option.some Jvm.ClassFile.FieldType.int)) ∈ lw_all := lw_g (lw_at lw_m7 194 rfl) rfl
theorem q1700 : (Jvm.Cond.methodLink "MoodFareModel" (163 : Nat) ({ cls := "MoodFareModel", name := "passed", desc := "([IIII)I" } : Jvm.MethodName)) ∈ lw_all := lw_g (lw_at lw_m7 195 rfl) rfl
theorem q1701 : (Jvm.Cond.static ({ cls := "MoodFareModel", name := "passed", desc := "([IIII)I" } : Jvm.MethodName)) ∈ lw_all := lw_g (lw_at lw_m7 196 rfl) rfl
theorem q1702 : (Jvm.Cond.code ({ cls := "MoodFareModel", name := "passed", desc := "([IIII)I" } : Jvm.MethodName) prog_26_method_33_code (7 : Nat) (Option.some Jvm.ClassFile.FieldType.int)) ∈ lw_all := lw_g (lw_at lw_m7 197 rfl) rfl
theorem q1704 : (Jvm.Cond.instanceMethod ({ cls := "MoodFareModel", name := "lesson", desc := "(II)I" } : Jvm.MethodName)) ∈ lw_all := lw_g (lw_at lw_m7 199 rfl) rfl
theorem q1705 : (Jvm.Cond.selects "MoodFareModel" ({ cls := "MoodFareModel", name := "lesson", desc := "(II)I" } : Jvm.MethodName) ({ cls := "MoodFareModel", name := "lesson", desc := "(II)I" } : Jvm.MethodName)) ∈ lw_all := lw_g (lw_at lw_m7 200 rfl) rfl
theorem q1706 : (Jvm.Cond.code ({ cls := "MoodFareModel", name := "lesson", desc := "(II)I" } : Jvm.MethodName) prog_26_method_39_code (4 : Nat) (Option.some Jvm.ClassFile.FieldType.int)) ∈ lw_all := lw_g (lw_at lw_m7 201 rfl) rfl
theorem q1707 : (Jvm.Cond.methodLink "MoodFareModel" (188 : Nat) ({ cls := "MoodFareModel", name := "isCorner", desc := "(I)Z" } : Jvm.MethodName)) ∈ lw_all := lw_g (lw_at lw_m7 202 rfl) rfl
theorem q1708 : (Jvm.Cond.privateMethod ({ cls := "MoodFareModel", name := "isCorner", desc := "(I)Z" } : Jvm.MethodName)) ∈ lw_tbl := lw_at lw_m7 203 rfl
theorem q1709 : (Jvm.Cond.instanceMethod ({ cls := "MoodFareModel", name := "isCorner", desc := "(I)Z" } : Jvm.MethodName)) ∈ lw_all := lw_g (lw_at lw_m7 204 rfl) rfl
theorem q1710 : (Jvm.Cond.code ({ cls := "MoodFareModel", name := "isCorner", desc := "(I)Z" } : Jvm.MethodName) prog_26_method_31_code (2 : Nat) (Option.some Jvm.ClassFile.FieldType.boolean)) ∈ lw_all := lw_g (lw_at lw_m7 205 rfl) rfl
theorem q1712 : (Jvm.Cond.instanceMethod ({ cls := "MoodFareModel", name := "reset", desc := "()I" } : Jvm.MethodName)) ∈ lw_all := lw_g (lw_at lw_m7 207 rfl) rfl
theorem q1713 : (Jvm.Cond.selects "MoodFareModel" ({ cls := "MoodFareModel", name := "reset", desc := "()I" } : Jvm.MethodName) ({ cls := "MoodFareModel", name := "reset", desc := "()I" } : Jvm.MethodName)) ∈ lw_all := lw_g (lw_at lw_m7 208 rfl) rfl
theorem q1714 : (Jvm.Cond.code ({ cls := "MoodFareModel", name := "reset", desc := "()I" } : Jvm.MethodName) prog_26_method_40_code (2 : Nat) (Option.some Jvm.ClassFile.FieldType.int)) ∈ lw_all := lw_g (lw_at lw_m7 209 rfl) rfl
theorem q1715 : (Jvm.Cond.methodLink "MoodFareModel" (191 : Nat) ({ cls := "MoodFareModel", name := "isTown", desc := "()Z" } : Jvm.MethodName)) ∈ lw_all := lw_g (lw_at lw_m7 210 rfl) rfl
theorem q1716 : (Jvm.Cond.privateMethod ({ cls := "MoodFareModel", name := "isTown", desc := "()Z" } : Jvm.MethodName)) ∈ lw_tbl := lw_at lw_m7 211 rfl
theorem q1717 : (Jvm.Cond.instanceMethod ({ cls := "MoodFareModel", name := "isTown", desc := "()Z" } : Jvm.MethodName)) ∈ lw_all := lw_g (lw_at lw_m7 212 rfl) rfl
theorem q1718 : (Jvm.Cond.code ({ cls := "MoodFareModel", name := "isTown", desc := "()Z" } : Jvm.MethodName) prog_26_method_30_code (1 : Nat) (Option.some Jvm.ClassFile.FieldType.boolean)) ∈ lw_all := lw_g (lw_at lw_m7 213 rfl) rfl
theorem q1720 : (Jvm.Cond.instanceMethod ({ cls := "MoodFareModel", name := "street", desc := "(II)I" } : Jvm.MethodName)) ∈ lw_all := lw_g (lw_at lw_m7 215 rfl) rfl
theorem q1721 : (Jvm.Cond.selects "MoodFareModel" ({ cls := "MoodFareModel", name := "street", desc := "(II)I" } : Jvm.MethodName) ({ cls := "MoodFareModel", name := "street", desc := "(II)I" } : Jvm.MethodName)) ∈ lw_all := lw_g (lw_at lw_m7 216 rfl) rfl
theorem q1722 : (Jvm.Cond.code ({ cls := "MoodFareModel", name := "street", desc := "(II)I" } : Jvm.MethodName) prog_26_method_41_code (3 : Nat) (Option.some Jvm.ClassFile.FieldType.int)) ∈ lw_all := lw_g (lw_at lw_m7 217 rfl) rfl
theorem q1724 : (Jvm.Cond.instanceMethod ({ cls := "MoodFareModel", name := "undo", desc := "()I" } : Jvm.MethodName)) ∈ lw_all := lw_g (lw_at lw_m7 219 rfl) rfl
theorem q1725 : (Jvm.Cond.selects "MoodFareModel" ({ cls := "MoodFareModel", name := "undo", desc := "()I" } : Jvm.MethodName) ({ cls := "MoodFareModel", name := "undo", desc := "()I" } : Jvm.MethodName)) ∈ lw_all := lw_g (lw_at lw_m7 220 rfl) rfl
theorem q1726 : (Jvm.Cond.code ({ cls := "MoodFareModel", name := "undo", desc := "()I" } : Jvm.MethodName) prog_26_method_42_code (1 : Nat) (Option.some Jvm.ClassFile.FieldType.int)) ∈ lw_all := lw_g (lw_at lw_m7 221 rfl) rfl
theorem q1728 : (Jvm.Cond.instanceMethod ({ cls := "MoodFareModel", name := "corner", desc := "(II)I" } : Jvm.MethodName)) ∈ lw_all := lw_g (lw_at lw_m7 223 rfl) rfl
theorem q1729 : (Jvm.Cond.selects "MoodFareModel" ({ cls := "MoodFareModel", name := "corner", desc := "(II)I" } : Jvm.MethodName) ({ cls := "MoodFareModel", name := "corner", desc := "(II)I" } : Jvm.MethodName)) ∈ lw_all := lw_g (lw_at lw_m7 224 rfl) rfl
theorem q1730 : (Jvm.Cond.code ({ cls := "MoodFareModel", name := "corner", desc := "(II)I" } : Jvm.MethodName) prog_26_method_44_code (3 : Nat) (Option.some Jvm.ClassFile.FieldType.int)) ∈ lw_all := lw_g (lw_at lw_m7 225 rfl) rfl
theorem q1731 : (Jvm.Cond.methodLink "MoodFareModel" (194 : Nat) ({ cls := "MoodFareModel", name := "ends", desc := "(II)I" } : Jvm.MethodName)) ∈ lw_all := lw_g (lw_at lw_m7 226 rfl) rfl
theorem q1732 : (Jvm.Cond.privateMethod ({ cls := "MoodFareModel", name := "ends", desc := "(II)I" } : Jvm.MethodName)) ∈ lw_tbl := lw_at lw_m7 227 rfl
theorem q1733 : (Jvm.Cond.instanceMethod ({ cls := "MoodFareModel", name := "ends", desc := "(II)I" } : Jvm.MethodName)) ∈ lw_all := lw_g (lw_at lw_m7 228 rfl) rfl
theorem q1734 : (Jvm.Cond.code ({ cls := "MoodFareModel", name := "ends", desc := "(II)I" } : Jvm.MethodName) prog_26_method_43_code (5 : Nat) (Option.some Jvm.ClassFile.FieldType.int)) ∈ lw_all := lw_g (lw_at lw_m7 229 rfl) rfl
theorem q1736 : (Jvm.Cond.instanceMethod ({ cls := "MoodFareModel", name := "way", desc := "(II)I" } : Jvm.MethodName)) ∈ lw_all := lw_g (lw_at lw_m7 231 rfl) rfl
theorem q1737 : (Jvm.Cond.selects "MoodFareModel" ({ cls := "MoodFareModel", name := "way", desc := "(II)I" } : Jvm.MethodName) ({ cls := "MoodFareModel", name := "way", desc := "(II)I" } : Jvm.MethodName)) ∈ lw_all := lw_g (lw_at lw_m7 232 rfl) rfl
theorem q1738 : (Jvm.Cond.code ({ cls := "MoodFareModel", name := "way", desc := "(II)I" } : Jvm.MethodName) prog_26_method_45_code (3 : Nat) (Option.some Jvm.ClassFile.FieldType.int)) ∈ lw_all := lw_g (lw_at lw_m7 233 rfl) rfl
theorem q1740 : (Jvm.Cond.instanceMethod ({ cls := "MoodFareModel", name := "would", desc := "(II)I" } : Jvm.MethodName)) ∈ lw_all := lw_g (lw_at lw_m7 235 rfl) rfl
theorem q1741 : (Jvm.Cond.selects "MoodFareModel" ({ cls := "MoodFareModel", name := "would", desc := "(II)I" } : Jvm.MethodName) ({ cls := "MoodFareModel", name := "would", desc := "(II)I" } : Jvm.MethodName)) ∈ lw_all := lw_g (lw_at lw_m7 236 rfl) rfl
theorem q1742 : (Jvm.Cond.code ({ cls := "MoodFareModel", name := "would", desc := "(II)I" } : Jvm.MethodName) prog_26_method_46_code (4 : Nat) (Option.some Jvm.ClassFile.FieldType.int)) ∈ lw_all := lw_g (lw_at lw_m7 237 rfl) rfl
theorem q1744 : (Jvm.Cond.instanceMethod ({ cls := "MoodFareModel", name := "reach", desc := "()I" } : Jvm.MethodName)) ∈ lw_all := lw_g (lw_at lw_m7 239 rfl) rfl
theorem q1745 : (Jvm.Cond.selects "MoodFareModel" ({ cls := "MoodFareModel", name := "reach", desc := "()I" } : Jvm.MethodName) ({ cls := "MoodFareModel", name := "reach", desc := "()I" } : Jvm.MethodName)) ∈ lw_all := lw_g (lw_at lw_m8 0 rfl) rfl
theorem q1746 : (Jvm.Cond.code ({ cls := "MoodFareModel", name := "reach", desc := "()I" } : Jvm.MethodName) prog_26_method_47_code (4 : Nat) (Option.some Jvm.ClassFile.FieldType.int)) ∈ lw_all := lw_g (lw_at lw_m8 1 rfl) rfl
theorem q1748 : (Jvm.Cond.instanceMethod ({ cls := "MoodFareModel", name := "cheapest", desc := "(II)I" } : Jvm.MethodName)) ∈ lw_all := lw_g (lw_at lw_m8 3 rfl) rfl
theorem q1749 : (Jvm.Cond.selects "MoodFareModel" ({ cls := "MoodFareModel", name := "cheapest", desc := "(II)I" } : Jvm.MethodName) ({ cls := "MoodFareModel", name := "cheapest", desc := "(II)I" } : Jvm.MethodName)) ∈ lw_all := lw_g (lw_at lw_m8 4 rfl) rfl
theorem q1750 : (Jvm.Cond.code ({ cls := "MoodFareModel", name := "cheapest", desc := "(II)I" } : Jvm.MethodName) prog_26_method_54_code (3 : Nat) (Option.some Jvm.ClassFile.FieldType.int)) ∈ lw_all := lw_g (lw_at lw_m8 5 rfl) rfl
theorem q1751 : (Jvm.Cond.methodLink "MoodFareModel" (222 : Nat) ({ cls := "MoodFareModel", name := "finds", desc := "(II)V" } : Jvm.MethodName)) ∈ lw_all := lw_g (lw_at lw_m8 6 rfl) rfl
theorem q1752 : (Jvm.Cond.privateMethod ({ cls := "MoodFareModel", name := "finds", desc := "(II)V" } : Jvm.MethodName)) ∈ lw_tbl := lw_at lw_m8 7 rfl
theorem q1753 : (Jvm.Cond.instanceMethod ({ cls := "MoodFareModel", name := "finds", desc := "(II)V" } : Jvm.MethodName)) ∈ lw_all := lw_g (lw_at lw_m8 8 rfl) rfl
theorem q1754 : (Jvm.Cond.code ({ cls := "MoodFareModel", name := "finds", desc := "(II)V" } : Jvm.MethodName) prog_26_method_52_code (5 : Nat) (Option.none : Option Jvm.ClassFile.FieldType)) ∈ lw_all := lw_g (lw_at lw_m8 9 rfl) rfl
theorem q1755 : (Jvm.Cond.methodLink "MoodFareModel" (213 : Nat) ({ cls := "MoodFareModel", name := "begins", desc := "()V" } : Jvm.MethodName)) ∈ lw_all := lw_g (lw_at lw_m8 10 rfl) rfl
theorem q1756 : (Jvm.Cond.privateMethod ({ cls := "MoodFareModel", name := "begins", desc := "()V" } : Jvm.MethodName)) ∈ lw_tbl := lw_at lw_m8 11 rfl
theorem q1757 : (Jvm.Cond.instanceMethod ({ cls := "MoodFareModel", name := "begins", desc := "()V" } : Jvm.MethodName)) ∈ lw_all := lw_g (lw_at lw_m8 12 rfl) rfl
theorem q1758 : (Jvm.Cond.code ({ cls := "MoodFareModel", name := "begins", desc := "()V" } : Jvm.MethodName) prog_26_method_48_code (1 : Nat) (Option.none : Option Jvm.ClassFile.FieldType)) ∈ lw_all := lw_g (lw_at lw_m8 13 rfl) rfl
theorem q1759 : (Jvm.Cond.methodLink "MoodFareModel" (216 : Nat) ({ cls := "MoodFareModel", name := "keeps", desc := "(I)V" } : Jvm.MethodName)) ∈ lw_all := lw_g (lw_at lw_m8 14 rfl) rfl
theorem q1760 : (Jvm.Cond.privateMethod ({ cls := "MoodFareModel", name := "keeps", desc := "(I)V" } : Jvm.MethodName)) ∈ lw_tbl := lw_at lw_m8 15 rfl
theorem q1761 : (Jvm.Cond.instanceMethod ({ cls := "MoodFareModel", name := "keeps", desc := "(I)V" } : Jvm.MethodName)) ∈ lw_all := lw_g (lw_at lw_m8 16 rfl) rfl
theorem q1762 : (Jvm.Cond.code ({ cls := "MoodFareModel", name := "keeps", desc := "(I)V" } : Jvm.MethodName) prog_26_method_51_code (3 : Nat) (Option.none : Option Jvm.ClassFile.FieldType)) ∈ lw_all := lw_g (lw_at lw_m8 17 rfl) rfl
theorem q1763 : (Jvm.Cond.methodLink "MoodFareModel" (219 : Nat) ({ cls := "MoodFareModel", name := "goesOn", desc := "(I)Z" } : Jvm.MethodName)) ∈ lw_all := lw_g (lw_at lw_m8 18 rfl) rfl
theorem q1764 : (Jvm.Cond.privateMethod ({ cls := "MoodFareModel", name := "goesOn", desc := "(I)Z" } : Jvm.MethodName)) ∈ lw_tbl := lw_at lw_m8 19 rfl
theorem q1765 : (Jvm.Cond.instanceMethod ({ cls := "MoodFareModel", name := "goesOn", desc := "(I)Z" } : Jvm.MethodName)) ∈ lw_all := lw_g (lw_at lw_m8 20 rfl) rfl
theorem q1766 : (Jvm.Cond.code ({ cls := "MoodFareModel", name := "goesOn", desc := "(I)Z" } : Jvm.MethodName) prog_26_method_50_code (3 : Nat) (Option.some Jvm.ClassFile.FieldType.boolean)) ∈ lw_all := lw_g (lw_at lw_m8 21 rfl) rfl
theorem q1767 : (Jvm.Cond.methodLink "MoodFareModel" (200 : Nat) ({ cls := "MoodFareModel", name := "adds", desc := "(I)V" } : Jvm.MethodName)) ∈ lw_all := lw_g (lw_at lw_m8 22 rfl) rfl
theorem q1768 : (Jvm.Cond.privateMethod ({ cls := "MoodFareModel", name := "adds", desc := "(I)V" } : Jvm.MethodName)) ∈ lw_tbl := lw_at lw_m8 23 rfl
theorem q1769 : (Jvm.Cond.instanceMethod ({ cls := "MoodFareModel", name := "adds", desc := "(I)V" } : Jvm.MethodName)) ∈ lw_all := lw_g (lw_at lw_m8 24 rfl) rfl
theorem q1770 : (Jvm.Cond.code ({ cls := "MoodFareModel", name := "adds", desc := "(I)V" } : Jvm.MethodName) prog_26_method_49_code (4 : Nat) (Option.none : Option Jvm.ClassFile.FieldType)) ∈ lw_all := lw_g (lw_at lw_m8 25 rfl) rfl
theorem q1771 : (Jvm.Cond.methodLink "MoodFareModel" (226 : Nat) ({ cls := "MoodFareModel", name := "told", desc := "(II)I" } : Jvm.MethodName)) ∈ lw_all := lw_g (lw_at lw_m8 26 rfl) rfl
theorem q1772 : (Jvm.Cond.privateMethod ({ cls := "MoodFareModel", name := "told", desc := "(II)I" } : Jvm.MethodName)) ∈ lw_tbl := lw_at lw_m8 27 rfl
theorem q1773 : (Jvm.Cond.instanceMethod ({ cls := "MoodFareModel", name := "told", desc := "(II)I" } : Jvm.MethodName)) ∈ lw_all := lw_g (lw_at lw_m8 28 rfl) rfl
theorem q1774 : (Jvm.Cond.code ({ cls := "MoodFareModel", name := "told", desc := "(II)I" } : Jvm.MethodName) prog_26_method_53_code (3 : Nat) (Option.some Jvm.ClassFile.FieldType.int)) ∈ lw_all := lw_g (lw_at lw_m8 29 rfl) rfl
theorem q1776 : (Jvm.Cond.instanceMethod ({ cls := "MoodFareModel", name := "dearest", desc := "(II)I" } : Jvm.MethodName)) ∈ lw_all := lw_g (lw_at lw_m8 31 rfl) rfl
theorem q1777 : (Jvm.Cond.selects "MoodFareModel" ({ cls := "MoodFareModel", name := "dearest", desc := "(II)I" } : Jvm.MethodName) ({ cls := "MoodFareModel", name := "dearest", desc := "(II)I" } : Jvm.MethodName)) ∈ lw_all := lw_g (lw_at lw_m8 32 rfl) rfl
theorem q1778 : (Jvm.Cond.code ({ cls := "MoodFareModel", name := "dearest", desc := "(II)I" } : Jvm.MethodName) prog_26_method_55_code (4 : Nat) (Option.some Jvm.ClassFile.FieldType.int)) ∈ lw_all := lw_g (lw_at lw_m8 33 rfl) rfl
theorem q1780 : (Jvm.Cond.instanceMethod ({ cls := "MoodFareModel", name := "moods", desc := "(II)I" } : Jvm.MethodName)) ∈ lw_all := lw_g (lw_at lw_m8 35 rfl) rfl
theorem q1781 : (Jvm.Cond.selects "MoodFareModel" ({ cls := "MoodFareModel", name := "moods", desc := "(II)I" } : Jvm.MethodName) ({ cls := "MoodFareModel", name := "moods", desc := "(II)I" } : Jvm.MethodName)) ∈ lw_all := lw_g (lw_at lw_m8 36 rfl) rfl
theorem q1782 : (Jvm.Cond.code ({ cls := "MoodFareModel", name := "moods", desc := "(II)I" } : Jvm.MethodName) prog_26_method_56_code (5 : Nat) (Option.some Jvm.ClassFile.FieldType.int)) ∈ lw_all := lw_g (lw_at lw_m8 37 rfl) rfl
theorem q1784 : (Jvm.Cond.instanceMethod ({ cls := "MoodFareModel", name := "gets", desc := "(II)I" } : Jvm.MethodName)) ∈ lw_all := lw_g (lw_at lw_m8 39 rfl) rfl
theorem q1785 : (Jvm.Cond.selects "MoodFareModel" ({ cls := "MoodFareModel", name := "gets", desc := "(II)I" } : Jvm.MethodName) ({ cls := "MoodFareModel", name := "gets", desc := "(II)I" } : Jvm.MethodName)) ∈ lw_all := lw_g (lw_at lw_m8 40 rfl) rfl
theorem q1786 : (Jvm.Cond.code ({ cls := "MoodFareModel", name := "gets", desc := "(II)I" } : Jvm.MethodName) prog_26_method_57_code (4 : Nat) (Option.some Jvm.ClassFile.FieldType.int)) ∈ lw_all := lw_g (lw_at lw_m8 41 rfl) rfl
theorem q1788 : (Jvm.Cond.instanceMethod ({ cls := "MoodFareModel", name := "fits", desc := "(IIIIII)I" } : Jvm.MethodName)) ∈ lw_all := lw_g (lw_at lw_m8 43 rfl) rfl
theorem q1789 : (Jvm.Cond.selects "MoodFareModel" ({ cls := "MoodFareModel", name := "fits", desc := "(IIIIII)I" } : Jvm.MethodName) ({ cls := "MoodFareModel", name := "fits", desc := "(IIIIII)I" } : Jvm.MethodName)) ∈ lw_all := lw_g (lw_at lw_m8 44 rfl) rfl
theorem q1790 : (Jvm.Cond.code ({ cls := "MoodFareModel", name := "fits", desc := "(IIIIII)I" } : Jvm.MethodName) prog_26_method_61_code (8 : Nat) (Option.some Jvm.ClassFile.FieldType.int)) ∈ lw_all := lw_g (lw_at lw_m8 45 rfl) rfl
theorem q1791 : (Jvm.Cond.methodLink "MoodFareModel" (232 : Nat) ({ cls := "MoodFareModel", name := "bar", desc := "(IIIII)I" } : Jvm.MethodName)) ∈ lw_all := lw_g (lw_at lw_m8 46 rfl) rfl
theorem q1792 : (Jvm.Cond.privateMethod ({ cls := "MoodFareModel", name := "bar", desc := "(IIIII)I" } : Jvm.MethodName)) ∈ lw_tbl := lw_at lw_m8 47 rfl
theorem q1793 : (Jvm.Cond.instanceMethod ({ cls := "MoodFareModel", name := "bar", desc := "(IIIII)I" } : Jvm.MethodName)) ∈ lw_all := lw_g (lw_at lw_m8 48 rfl) rfl
theorem q1794 : (Jvm.Cond.code ({ cls := "MoodFareModel", name := "bar", desc := "(IIIII)I" } : Jvm.MethodName) prog_26_method_59_code (6 : Nat) (Option.some Jvm.ClassFile.FieldType.int)) ∈ lw_all := lw_g (lw_at lw_m8 49 rfl) rfl
theorem q1795 : (Jvm.Cond.methodLink "MoodFareModel" (236 : Nat) ({ cls := "MoodFareModel", name := "all", desc := "(IIIIII)I" } : Jvm.MethodName)) ∈ lw_all := lw_g (lw_at lw_m8 50 rfl) rfl
theorem q1796 : (Jvm.Cond.privateMethod ({ cls := "MoodFareModel", name := "all", desc := "(IIIIII)I" } : Jvm.MethodName)) ∈ lw_tbl := lw_at lw_m8 51 rfl
theorem q1797 : (Jvm.Cond.instanceMethod ({ cls := "MoodFareModel", name := "all", desc := "(IIIIII)I" } : Jvm.MethodName)) ∈ lw_all := lw_g (lw_at lw_m8 52 rfl) rfl
theorem q1798 : (Jvm.Cond.code ({ cls := "MoodFareModel", name := "all", desc := "(IIIIII)I" } : Jvm.MethodName) prog_26_method_60_code (9 : Nat) (Option.some Jvm.ClassFile.FieldType.int)) ∈ lw_all := lw_g (lw_at lw_m8 53 rfl) rfl
theorem q1799 : (Jvm.Cond.methodLink "MoodFareModel" (229 : Nat) ({ cls := "MoodFareModel", name := "goesSo", desc := "(III)Z" } : Jvm.MethodName)) ∈ lw_all := lw_g (lw_at lw_m8 54 rfl) rfl
theorem q1800 : (Jvm.Cond.privateMethod ({ cls := "MoodFareModel", name := "goesSo", desc := "(III)Z" } : Jvm.MethodName)) ∈ lw_tbl := lw_at lw_m8 55 rfl
theorem q1801 : (Jvm.Cond.instanceMethod ({ cls := "MoodFareModel", name := "goesSo", desc := "(III)Z" } : Jvm.MethodName)) ∈ lw_all := lw_g (lw_at lw_m8 56 rfl) rfl
theorem q1802 : (Jvm.Cond.code ({ cls := "MoodFareModel", name := "goesSo", desc := "(III)Z" } : Jvm.MethodName) prog_26_method_58_code (7 : Nat) (Option.some Jvm.ClassFile.FieldType.boolean)) ∈ lw_all := lw_g (lw_at lw_m8 57 rfl) rfl
theorem q1804 : (Jvm.Cond.instanceMethod ({ cls := "MoodFareModel", name := "fitsOf", desc := "(IIIIIII)I" } : Jvm.MethodName)) ∈ lw_all := lw_g (lw_at lw_m8 59 rfl) rfl
theorem q1805 : (Jvm.Cond.selects "MoodFareModel" ({ cls := "MoodFareModel", name := "fitsOf", desc := "(IIIIIII)I" } : Jvm.MethodName) ({ cls := "MoodFareModel", name := "fitsOf", desc := "(IIIIIII)I" } : Jvm.MethodName)) ∈ lw_all := lw_g (lw_at lw_m8 60 rfl) rfl
theorem q1806 : (Jvm.Cond.code ({ cls := "MoodFareModel", name := "fitsOf", desc := "(IIIIIII)I" } : Jvm.MethodName) prog_26_method_62_code (10 : Nat) (Option.some Jvm.ClassFile.FieldType.int)) ∈ lw_all := lw_g (lw_at lw_m8 61 rfl) rfl
theorem q1808 : (Jvm.Cond.instanceMethod ({ cls := "MoodFareModel", name := "share", desc := "(IIII)I" } : Jvm.MethodName)) ∈ lw_all := lw_g (lw_at lw_m8 63 rfl) rfl
theorem q1809 : (Jvm.Cond.selects "MoodFareModel" ({ cls := "MoodFareModel", name := "share", desc := "(IIII)I" } : Jvm.MethodName) ({ cls := "MoodFareModel", name := "share", desc := "(IIII)I" } : Jvm.MethodName)) ∈ lw_all := lw_g (lw_at lw_m8 64 rfl) rfl
theorem q1810 : (Jvm.Cond.code ({ cls := "MoodFareModel", name := "share", desc := "(IIII)I" } : Jvm.MethodName) prog_26_method_63_code (8 : Nat) (Option.some Jvm.ClassFile.FieldType.int)) ∈ lw_all := lw_g (lw_at lw_m8 65 rfl) rfl
theorem q1812 : (Jvm.Cond.instanceMethod ({ cls := "MoodFareModel", name := "shut", desc := "(IIII)I" } : Jvm.MethodName)) ∈ lw_all := lw_g (lw_at lw_m8 67 rfl) rfl
theorem q1813 : (Jvm.Cond.selects "MoodFareModel" ({ cls := "MoodFareModel", name := "shut", desc := "(IIII)I" } : Jvm.MethodName) ({ cls := "MoodFareModel", name := "shut", desc := "(IIII)I" } : Jvm.MethodName)) ∈ lw_all := lw_g (lw_at lw_m8 68 rfl) rfl
theorem q1814 : (Jvm.Cond.code ({ cls := "MoodFareModel", name := "shut", desc := "(IIII)I" } : Jvm.MethodName) prog_26_method_64_code (10 : Nat) (Option.some Jvm.ClassFile.FieldType.int)) ∈ lw_all := lw_g (lw_at lw_m8 69 rfl) rfl
theorem q1816 : (Jvm.Cond.instanceMethod ({ cls := "MoodFareModel", name := "drawn", desc := "(III)I" } : Jvm.MethodName)) ∈ lw_all := lw_g (lw_at lw_m8 71 rfl) rfl
theorem q1817 : (Jvm.Cond.selects "MoodFareModel" ({ cls := "MoodFareModel", name := "drawn", desc := "(III)I" } : Jvm.MethodName) ({ cls := "MoodFareModel", name := "drawn", desc := "(III)I" } : Jvm.MethodName)) ∈ lw_all := lw_g (lw_at lw_m8 72 rfl) rfl
theorem q1818 : (Jvm.Cond.code ({ cls := "MoodFareModel", name := "drawn", desc := "(III)I" } : Jvm.MethodName) prog_26_method_66_code (8 : Nat) (Option.some Jvm.ClassFile.FieldType.int)) ∈ lw_all := lw_g (lw_at lw_m8 73 rfl) rfl
theorem q1819 : (Jvm.Cond.constant "MoodFareModel" (240 : Nat) (999999 : Int32)) ∈ lw_all := lw_g (lw_at lw_m8 74 rfl) rfl
theorem q1820 : (Jvm.Cond.constantLong "MoodFareModel" (241 : Nat) (16807 : Int64)) ∈ lw_all := lw_g (lw_at lw_m8 75 rfl) rfl
theorem q1821 : (Jvm.Cond.constantLong "MoodFareModel" (243 : Nat) (2147483647 : Int64)) ∈ lw_all := lw_g (lw_at lw_m8 76 rfl) rfl
theorem q1822 : (Jvm.Cond.methodLink "MoodFareModel" (245 : Nat) ({ cls := "MoodFareModel", name := "streetAfter", desc := "(I)I" } : Jvm.MethodName)) ∈ lw_all := lw_g (lw_at lw_m8 77 rfl) rfl
theorem q1823 : (Jvm.Cond.privateMethod ({ cls := "MoodFareModel", name := "streetAfter", desc := "(I)I" } : Jvm.MethodName)) ∈ lw_tbl := lw_at lw_m8 78 rfl
theorem q1824 : (Jvm.Cond.instanceMethod ({ cls := "MoodFareModel", name := "streetAfter", desc := "(I)I" } : Jvm.MethodName)) ∈ lw_all := lw_g (lw_at lw_m8 79 rfl) rfl
theorem q1825 : (Jvm.Cond.code ({ cls := "MoodFareModel", name := "streetAfter", desc := "(I)I" } : Jvm.MethodName) prog_26_method_65_code (4 : Nat) (Option.some Jvm.ClassFile.FieldType.int)) ∈ lw_all := lw_g (lw_at lw_m8 80 rfl) rfl
theorem q1827 : (Jvm.Cond.instanceMethod ({ cls := "MoodFareModel", name := "image", desc := "(I)I" } : Jvm.MethodName)) ∈ lw_all := lw_g (lw_at lw_m8 82 rfl) rfl
theorem q1828 : (Jvm.Cond.selects "MoodFareModel" ({ cls := "MoodFareModel", name := "image", desc := "(I)I" } : Jvm.MethodName) ({ cls := "MoodFareModel", name := "image", desc := "(I)I" } : Jvm.MethodName)) ∈ lw_all := lw_g (lw_at lw_m8 83 rfl) rfl
theorem q1829 : (Jvm.Cond.code ({ cls := "MoodFareModel", name := "image", desc := "(I)I" } : Jvm.MethodName) prog_26_method_67_code (2 : Nat) (Option.some Jvm.ClassFile.FieldType.int)) ∈ lw_all := lw_g (lw_at lw_m8 84 rfl) rfl
theorem q1831 : (Jvm.Cond.instanceMethod ({ cls := "MoodFareModel", name := "restore", desc := "(I)I" } : Jvm.MethodName)) ∈ lw_all := lw_g (lw_at lw_m8 86 rfl) rfl
theorem q1832 : (Jvm.Cond.selects "MoodFareModel" ({ cls := "MoodFareModel", name := "restore", desc := "(I)I" } : Jvm.MethodName) ({ cls := "MoodFareModel", name := "restore", desc := "(I)I" } : Jvm.MethodName)) ∈ lw_all := lw_g (lw_at lw_m8 87 rfl) rfl
theorem q1833 : (Jvm.Cond.code ({ cls := "MoodFareModel", name := "restore", desc := "(I)I" } : Jvm.MethodName) prog_26_method_68_code (2 : Nat) (Option.some Jvm.ClassFile.FieldType.int)) ∈ lw_all := lw_g (lw_at lw_m8 88 rfl) rfl
theorem q1835 : (Jvm.Cond.instanceMethod ({ cls := "MoodFareModel", name := "kind", desc := "(I)I" } : Jvm.MethodName)) ∈ lw_all := lw_g (lw_at lw_m8 90 rfl) rfl
theorem q1836 : (Jvm.Cond.selects "MoodFareModel" ({ cls := "MoodFareModel", name := "kind", desc := "(I)I" } : Jvm.MethodName) ({ cls := "MoodFareModel", name := "kind", desc := "(I)I" } : Jvm.MethodName)) ∈ lw_all := lw_g (lw_at lw_m8 91 rfl) rfl
theorem q1837 : (Jvm.Cond.code ({ cls := "MoodFareModel", name := "kind", desc := "(I)I" } : Jvm.MethodName) prog_26_method_70_code (2 : Nat) (Option.some Jvm.ClassFile.FieldType.int)) ∈ lw_all := lw_g (lw_at lw_m8 92 rfl) rfl
theorem q1838 : (Jvm.Cond.methodLink "MoodFareModel" (248 : Nat) ({ cls := "MoodFareModel", name := "kindIn", desc := "(I)I" } : Jvm.MethodName)) ∈ lw_all := lw_g (lw_at lw_m8 93 rfl) rfl
theorem q1839 : (Jvm.Cond.privateMethod ({ cls := "MoodFareModel", name := "kindIn", desc := "(I)I" } : Jvm.MethodName)) ∈ lw_tbl := lw_at lw_m8 94 rfl
theorem q1840 : (Jvm.Cond.instanceMethod ({ cls := "MoodFareModel", name := "kindIn", desc := "(I)I" } : Jvm.MethodName)) ∈ lw_all := lw_g (lw_at lw_m8 95 rfl) rfl
theorem q1841 : (Jvm.Cond.code ({ cls := "MoodFareModel", name := "kindIn", desc := "(I)I" } : Jvm.MethodName) prog_26_method_69_code (2 : Nat) (Option.some Jvm.ClassFile.FieldType.int)) ∈ lw_all := lw_g (lw_at lw_m8 96 rfl) rfl
theorem q1843 : (Jvm.Cond.instanceMethod ({ cls := "MoodFareModel", name := "as", desc := "(II)I" } : Jvm.MethodName)) ∈ lw_all := lw_g (lw_at lw_m8 98 rfl) rfl
theorem q1844 : (Jvm.Cond.selects "MoodFareModel" ({ cls := "MoodFareModel", name := "as", desc := "(II)I" } : Jvm.MethodName) ({ cls := "MoodFareModel", name := "as", desc := "(II)I" } : Jvm.MethodName)) ∈ lw_all := lw_g (lw_at lw_m8 99 rfl) rfl
theorem q1845 : (Jvm.Cond.code ({ cls := "MoodFareModel", name := "as", desc := "(II)I" } : Jvm.MethodName) prog_26_method_71_code (5 : Nat) (Option.some Jvm.ClassFile.FieldType.int)) ∈ lw_all := lw_g (lw_at lw_m8 100 rfl) rfl
theorem q1847 : (Jvm.Cond.instanceMethod ({ cls := "MoodFareModel", name := "ask", desc := "(II)I" } : Jvm.MethodName)) ∈ lw_all := lw_g (lw_at lw_m8 102 rfl) rfl
theorem q1848 : (Jvm.Cond.selects "MoodFareModel" ({ cls := "MoodFareModel", name := "ask", desc := "(II)I" } : Jvm.MethodName) ({ cls := "MoodFareModel", name := "ask", desc := "(II)I" } : Jvm.MethodName)) ∈ lw_all := lw_g (lw_at lw_m8 103 rfl) rfl
theorem q1849 : (Jvm.Cond.code ({ cls := "MoodFareModel", name := "ask", desc := "(II)I" } : Jvm.MethodName) prog_26_method_77_code (4 : Nat) (Option.some Jvm.ClassFile.FieldType.int)) ∈ lw_all := lw_g (lw_at lw_m8 104 rfl) rfl
theorem q1850 : (Jvm.Cond.methodLink "MoodFareModel" (260 : Nat) ({ cls := "MoodFareModel", name := "griefSize", desc := "(I)I" } : Jvm.MethodName)) ∈ lw_all := lw_g (lw_at lw_m8 105 rfl) rfl
theorem q1851 : (Jvm.Cond.privateMethod ({ cls := "MoodFareModel", name := "griefSize", desc := "(I)I" } : Jvm.MethodName)) ∈ lw_tbl := lw_at lw_m8 106 rfl
theorem q1852 : (Jvm.Cond.instanceMethod ({ cls := "MoodFareModel", name := "griefSize", desc := "(I)I" } : Jvm.MethodName)) ∈ lw_all := lw_g (lw_at lw_m8 107 rfl) rfl
theorem q1853 : (Jvm.Cond.code ({ cls := "MoodFareModel", name := "griefSize", desc := "(I)I" } : Jvm.MethodName) prog_26_method_74_code (4 : Nat) (Option.some Jvm.ClassFile.FieldType.int)) ∈ lw_all := lw_g (lw_at lw_m8 108 rfl) rfl
theorem q1854 : (Jvm.Cond.methodLink "MoodFareModel" (254 : Nat) ({ cls := "MoodFareModel", name := "leaves", desc := "(I)V" } : Jvm.MethodName)) ∈ lw_all := lw_g (lw_at lw_m8 109 rfl) rfl
theorem q1855 : (Jvm.Cond.privateMethod ({ cls := "MoodFareModel", name := "leaves", desc := "(I)V" } : Jvm.MethodName)) ∈ lw_tbl := lw_at lw_m8 110 rfl
theorem q1856 : (Jvm.Cond.instanceMethod ({ cls := "MoodFareModel", name := "leaves", desc := "(I)V" } : Jvm.MethodName)) ∈ lw_all := lw_g (lw_at lw_m8 111 rfl) rfl
theorem q1857 : (Jvm.Cond.code ({ cls := "MoodFareModel", name := "leaves", desc := "(I)V" } : Jvm.MethodName) prog_26_method_72_code (2 : Nat) (Option.none : Option Jvm.ClassFile.FieldType)) ∈ lw_all := lw_g (lw_at lw_m8 112 rfl) rfl
theorem q1858 : (Jvm.Cond.methodLink "MoodFareModel" (263 : Nat) ({ cls := "MoodFareModel", name := "joySize", desc := "(I)I" } : Jvm.MethodName)) ∈ lw_all := lw_g (lw_at lw_m8 113 rfl) rfl
theorem q1859 : (Jvm.Cond.privateMethod ({ cls := "MoodFareModel", name := "joySize", desc := "(I)I" } : Jvm.MethodName)) ∈ lw_tbl := lw_at lw_m8 114 rfl
theorem q1860 : (Jvm.Cond.instanceMethod ({ cls := "MoodFareModel", name := "joySize", desc := "(I)I" } : Jvm.MethodName)) ∈ lw_all := lw_g (lw_at lw_m8 115 rfl) rfl
theorem q1861 : (Jvm.Cond.code ({ cls := "MoodFareModel", name := "joySize", desc := "(I)I" } : Jvm.MethodName) prog_26_method_75_code (4 : Nat) (Option.some Jvm.ClassFile.FieldType.int)) ∈ lw_all := lw_g (lw_at lw_m8 116 rfl) rfl
theorem q1862 : (Jvm.Cond.methodLink "MoodFareModel" (257 : Nat) ({ cls := "MoodFareModel", name := "joyMark", desc := "(I)I" } : Jvm.MethodName)) ∈ lw_all := lw_g (lw_at lw_m8 117 rfl) rfl
theorem q1863 : (Jvm.Cond.privateMethod ({ cls := "MoodFareModel", name := "joyMark", desc := "(I)I" } : Jvm.MethodName)) ∈ lw_tbl := lw_at lw_m8 118 rfl
theorem q1864 : (Jvm.Cond.instanceMethod ({ cls := "MoodFareModel", name := "joyMark", desc := "(I)I" } : Jvm.MethodName)) ∈ lw_all := lw_g (lw_at lw_m8 119 rfl) rfl
theorem q1865 : (Jvm.Cond.code ({ cls := "MoodFareModel", name := "joyMark", desc := "(I)I" } : Jvm.MethodName) prog_26_method_73_code (4 : Nat) (Option.some Jvm.ClassFile.FieldType.int)) ∈ lw_all := lw_g (lw_at lw_m8 120 rfl) rfl
theorem q1866 : (Jvm.Cond.methodLink "MoodFareModel" (266 : Nat) ({ cls := "MoodFareModel", name := "griefMark", desc := "(I)I" } : Jvm.MethodName)) ∈ lw_all := lw_g (lw_at lw_m8 121 rfl) rfl
theorem q1867 : (Jvm.Cond.privateMethod ({ cls := "MoodFareModel", name := "griefMark", desc := "(I)I" } : Jvm.MethodName)) ∈ lw_tbl := lw_at lw_m8 122 rfl
theorem q1868 : (Jvm.Cond.instanceMethod ({ cls := "MoodFareModel", name := "griefMark", desc := "(I)I" } : Jvm.MethodName)) ∈ lw_all := lw_g (lw_at lw_m8 123 rfl) rfl
theorem q1869 : (Jvm.Cond.code ({ cls := "MoodFareModel", name := "griefMark", desc := "(I)I" } : Jvm.MethodName) prog_26_method_76_code (2 : Nat) (Option.some Jvm.ClassFile.FieldType.int)) ∈ lw_all := lw_g (lw_at lw_m8 124 rfl) rfl
theorem q1871 : (Jvm.Cond.instanceMethod ({ cls := "MoodFareModel", name := "trace", desc := "(I)I" } : Jvm.MethodName)) ∈ lw_all := lw_g (lw_at lw_m8 126 rfl) rfl
theorem q1872 : (Jvm.Cond.selects "MoodFareModel" ({ cls := "MoodFareModel", name := "trace", desc := "(I)I" } : Jvm.MethodName) ({ cls := "MoodFareModel", name := "trace", desc := "(I)I" } : Jvm.MethodName)) ∈ lw_all := lw_g (lw_at lw_m8 127 rfl) rfl
theorem q1873 : (Jvm.Cond.code ({ cls := "MoodFareModel", name := "trace", desc := "(I)I" } : Jvm.MethodName) prog_26_method_78_code (2 : Nat) (Option.some Jvm.ClassFile.FieldType.int)) ∈ lw_all := lw_g (lw_at lw_m8 128 rfl) rfl
theorem q1875 : (Jvm.Cond.instanceMethod ({ cls := "MoodFareModel", name := "count", desc := "(I)I" } : Jvm.MethodName)) ∈ lw_all := lw_g (lw_at lw_m8 130 rfl) rfl
theorem q1876 : (Jvm.Cond.selects "MoodFareModel" ({ cls := "MoodFareModel", name := "count", desc := "(I)I" } : Jvm.MethodName) ({ cls := "MoodFareModel", name := "count", desc := "(I)I" } : Jvm.MethodName)) ∈ lw_all := lw_g (lw_at lw_m8 131 rfl) rfl
theorem q1877 : (Jvm.Cond.code ({ cls := "MoodFareModel", name := "count", desc := "(I)I" } : Jvm.MethodName) prog_26_method_79_code (4 : Nat) (Option.some Jvm.ClassFile.FieldType.int)) ∈ lw_all := lw_g (lw_at lw_m8 132 rfl) rfl
theorem q1879 : (Jvm.Cond.instanceMethod ({ cls := "MoodFareModel", name := "status", desc := "()I" } : Jvm.MethodName)) ∈ lw_all := lw_g (lw_at lw_m8 134 rfl) rfl
theorem q1880 : (Jvm.Cond.selects "MoodFareModel" ({ cls := "MoodFareModel", name := "status", desc := "()I" } : Jvm.MethodName) ({ cls := "MoodFareModel", name := "status", desc := "()I" } : Jvm.MethodName)) ∈ lw_all := lw_g (lw_at lw_m8 135 rfl) rfl
theorem q1881 : (Jvm.Cond.code ({ cls := "MoodFareModel", name := "status", desc := "()I" } : Jvm.MethodName) prog_26_method_80_code (1 : Nat) (Option.some Jvm.ClassFile.FieldType.int)) ∈ lw_all := lw_g (lw_at lw_m8 136 rfl) rfl
theorem q1903 : (Jvm.Cond.castable "MoodFareModel" "java/lang/Object") ∈ lw_tbl := lw_at lw_m8 158 rfl
theorem in_X4 : ∀ w ∈ wsX40, w ∈ lw_all := lw_in wsX40 [1506, 1508, 1510, 1512, 1514, 1516, 1518, 1520, 1522, 1524, 1526, 1528, 1530, 1532, 1534, 1536, 1538, 1540, 1542, 1544, 1546, 1548, 1550, 1552, 1554, 1556, 1558, 1560, 1562, 1564, 1566, 1568] (by decide +kernel) (by decide +kernel)
