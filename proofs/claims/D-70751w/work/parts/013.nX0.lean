/-! MoodFare -/
set_option maxRecDepth 100000
def RX0 : String := "MoodFare"
def TX0 : u_T := fun k => match k with
  | 0 => ("MoodFare", "rows", "[LMoodFare$Shelf;", true)
  | 1 => ("MoodFare", "tape", "[B", true)
  | 2 => ("MoodFare", "taped", "I", false)
  | 3 => ("MoodFare", "faultKind", "I", false)
  | 4 => ("MoodFare", "town", "LMoodFare$Town;", true)
  | 5 => ("MoodFare", "then", "LMoodFare$Town;", true)
  | 6 => ("MoodFare", "past", "[LMoodFare$Town;", true)
  | 7 => ("MoodFare", "acts", "I", false)
  | 8 => ("MoodFare", "images", "[LMoodFare$Town;", true)
  | 9 => ("MoodFare", "trail", "LMoodFare$Trail;", false)
  | 10 => ("MoodFare", "status", "I", false)
  | 11 => ("MoodFare", "riders", "[LMoodFare$Town;", true)
  | 12 => ("MoodFare", "tried", "[I", true)
  | _ => ("MoodFare", "best", "[I", true)
def tyX0 : Nat → FieldType := fun k => match k with
  | 0 => .array (.object "MoodFare$Shelf")
  | 1 => .array .byte
  | 2 => .int
  | 3 => .int
  | 4 => .object "MoodFare$Town"
  | 5 => .object "MoodFare$Town"
  | 6 => .array (.object "MoodFare$Town")
  | 7 => .int
  | 8 => .array (.object "MoodFare$Town")
  | 9 => .object "MoodFare$Trail"
  | 10 => .int
  | 11 => .array (.object "MoodFare$Town")
  | 12 => .array .int
  | _ => .array .int
abbrev wsX00 : List Cond := u_ws RX0 TX0 14
set_option maxRecDepth 100000 in
theorem nmX0 : ∀ a, a < 14 → ∀ b, b < 14 → a ≠ b → (TX0 a).2.1 ≠ (TX0 b).2.1 := by decide +kernel
set_option maxRecDepth 100000 in
theorem tyX0_ok : ∀ k, k < 14 → parseFieldDescriptor (TX0 k).2.2.1 = some (tyX0 k) := by decide +kernel
abbrev cX0_init : ByteArray := prog_1_method_6_code
def yX0_init : MethodName := ⟨RX0, "<init>", "()V"⟩
def dkwX0_init_4 : List UInt8 := [177]
abbrev dktX0_init_4 : List UInt8 := dkwX0_init_4 ++ []
def dkwX0_init_3 : List UInt8 := [16, 9, 189, 0, 43, 181, 0, 67, 42, 16, 8, 188, 10, 181, 0, 70, 42, 16, 8, 188, 10, 181, 0, 74]
abbrev dktX0_init_3 : List UInt8 := dkwX0_init_3 ++ dktX0_init_4
def dkwX0_init_2 : List UInt8 := [181, 0, 53, 42, 5, 189, 0, 43, 181, 0, 57, 42, 187, 0, 60, 89, 183, 0, 62, 181, 0, 63, 42]
abbrev dktX0_init_2 : List UInt8 := dkwX0_init_2 ++ dktX0_init_3
def dkwX0_init_1 : List UInt8 := [183, 0, 45, 181, 0, 46, 42, 187, 0, 43, 89, 183, 0, 45, 181, 0, 50, 42, 16, 24, 189, 0, 43]
abbrev dktX0_init_1 : List UInt8 := dkwX0_init_1 ++ dktX0_init_2
def dkwX0_init_0 : List UInt8 := [42, 183, 0, 28, 42, 184, 0, 31, 181, 0, 35, 42, 16, 120, 188, 8, 181, 0, 39, 42, 187, 0, 43, 89]
abbrev dktX0_init_0 : List UInt8 := dkwX0_init_0 ++ dktX0_init_1
theorem dksX0_init_0 : cX0_init.data.toList.drop 0 = dktX0_init_0 := by decide +kernel
theorem dksX0_init_1 : cX0_init.data.toList.drop 24 = dktX0_init_1 := dk_seg dksX0_init_0 24 rfl rfl
theorem dksX0_init_2 : cX0_init.data.toList.drop 47 = dktX0_init_2 := dk_seg dksX0_init_1 23 rfl rfl
theorem dksX0_init_3 : cX0_init.data.toList.drop 70 = dktX0_init_3 := dk_seg dksX0_init_2 23 rfl rfl
theorem dksX0_init_4 : cX0_init.data.toList.drop 94 = dktX0_init_4 := dk_seg dksX0_init_3 24 rfl rfl
theorem dX0_init_0 : decode cX0_init 0 = .ok (.aload_n 0, 1) := dk_42 (dk_at dksX0_init_0 0 rfl rfl)
theorem dX0_init_1 : decode cX0_init 1 = .ok (.invokespecial 28, 3) := dk_183 0 28 (dk_at dksX0_init_0 1 rfl rfl)
theorem dX0_init_4 : decode cX0_init 4 = .ok (.aload_n 0, 1) := dk_42 (dk_at dksX0_init_0 4 rfl rfl)
theorem dX0_init_5 : decode cX0_init 5 = .ok (.invokestatic 31, 3) := dk_184 0 31 (dk_at dksX0_init_0 5 rfl rfl)
theorem dX0_init_8 : decode cX0_init 8 = .ok (.putfield 35, 3) := dk_181 0 35 (dk_at dksX0_init_0 8 rfl rfl)
theorem dX0_init_11 : decode cX0_init 11 = .ok (.aload_n 0, 1) := dk_42 (dk_at dksX0_init_0 11 rfl rfl)
theorem dX0_init_12 : decode cX0_init 12 = .ok (.bipush 120, 2) := dk_16 120 (dk_at dksX0_init_0 12 rfl rfl)
theorem dX0_init_14 : decode cX0_init 14 = .ok (.newarray .byte, 2) := dk_188_8 (dk_at dksX0_init_0 14 rfl rfl)
theorem dX0_init_16 : decode cX0_init 16 = .ok (.putfield 39, 3) := dk_181 0 39 (dk_at dksX0_init_0 16 rfl rfl)
theorem dX0_init_19 : decode cX0_init 19 = .ok (.aload_n 0, 1) := dk_42 (dk_at dksX0_init_0 19 rfl rfl)
theorem dX0_init_20 : decode cX0_init 20 = .ok (.new 43, 3) := dk_187 0 43 (dk_at dksX0_init_0 20 rfl rfl)
theorem dX0_init_23 : decode cX0_init 23 = .ok (.dup, 1) := dk_89 (dk_at dksX0_init_0 23 rfl rfl)
theorem dX0_init_24 : decode cX0_init 24 = .ok (.invokespecial 45, 3) := dk_183 0 45 (dk_at dksX0_init_1 0 rfl rfl)
theorem dX0_init_27 : decode cX0_init 27 = .ok (.putfield 46, 3) := dk_181 0 46 (dk_at dksX0_init_1 3 rfl rfl)
theorem dX0_init_30 : decode cX0_init 30 = .ok (.aload_n 0, 1) := dk_42 (dk_at dksX0_init_1 6 rfl rfl)
theorem dX0_init_31 : decode cX0_init 31 = .ok (.new 43, 3) := dk_187 0 43 (dk_at dksX0_init_1 7 rfl rfl)
theorem dX0_init_34 : decode cX0_init 34 = .ok (.dup, 1) := dk_89 (dk_at dksX0_init_1 10 rfl rfl)
theorem dX0_init_35 : decode cX0_init 35 = .ok (.invokespecial 45, 3) := dk_183 0 45 (dk_at dksX0_init_1 11 rfl rfl)
theorem dX0_init_38 : decode cX0_init 38 = .ok (.putfield 50, 3) := dk_181 0 50 (dk_at dksX0_init_1 14 rfl rfl)
theorem dX0_init_41 : decode cX0_init 41 = .ok (.aload_n 0, 1) := dk_42 (dk_at dksX0_init_1 17 rfl rfl)
theorem dX0_init_42 : decode cX0_init 42 = .ok (.bipush 24, 2) := dk_16 24 (dk_at dksX0_init_1 18 rfl rfl)
theorem dX0_init_44 : decode cX0_init 44 = .ok (.anewarray 43, 3) := dk_189 0 43 (dk_at dksX0_init_1 20 rfl rfl)
theorem dX0_init_47 : decode cX0_init 47 = .ok (.putfield 53, 3) := dk_181 0 53 (dk_at dksX0_init_2 0 rfl rfl)
theorem dX0_init_50 : decode cX0_init 50 = .ok (.aload_n 0, 1) := dk_42 (dk_at dksX0_init_2 3 rfl rfl)
theorem dX0_init_51 : decode cX0_init 51 = .ok (.iconst 2, 1) := dk_5 (dk_at dksX0_init_2 4 rfl rfl)
theorem dX0_init_52 : decode cX0_init 52 = .ok (.anewarray 43, 3) := dk_189 0 43 (dk_at dksX0_init_2 5 rfl rfl)
theorem dX0_init_55 : decode cX0_init 55 = .ok (.putfield 57, 3) := dk_181 0 57 (dk_at dksX0_init_2 8 rfl rfl)
theorem dX0_init_58 : decode cX0_init 58 = .ok (.aload_n 0, 1) := dk_42 (dk_at dksX0_init_2 11 rfl rfl)
theorem dX0_init_59 : decode cX0_init 59 = .ok (.new 60, 3) := dk_187 0 60 (dk_at dksX0_init_2 12 rfl rfl)
theorem dX0_init_62 : decode cX0_init 62 = .ok (.dup, 1) := dk_89 (dk_at dksX0_init_2 15 rfl rfl)
theorem dX0_init_63 : decode cX0_init 63 = .ok (.invokespecial 62, 3) := dk_183 0 62 (dk_at dksX0_init_2 16 rfl rfl)
theorem dX0_init_66 : decode cX0_init 66 = .ok (.putfield 63, 3) := dk_181 0 63 (dk_at dksX0_init_2 19 rfl rfl)
theorem dX0_init_69 : decode cX0_init 69 = .ok (.aload_n 0, 1) := dk_42 (dk_at dksX0_init_2 22 rfl rfl)
theorem dX0_init_70 : decode cX0_init 70 = .ok (.bipush 9, 2) := dk_16 9 (dk_at dksX0_init_3 0 rfl rfl)
theorem dX0_init_72 : decode cX0_init 72 = .ok (.anewarray 43, 3) := dk_189 0 43 (dk_at dksX0_init_3 2 rfl rfl)
theorem dX0_init_75 : decode cX0_init 75 = .ok (.putfield 67, 3) := dk_181 0 67 (dk_at dksX0_init_3 5 rfl rfl)
theorem dX0_init_78 : decode cX0_init 78 = .ok (.aload_n 0, 1) := dk_42 (dk_at dksX0_init_3 8 rfl rfl)
theorem dX0_init_79 : decode cX0_init 79 = .ok (.bipush 8, 2) := dk_16 8 (dk_at dksX0_init_3 9 rfl rfl)
theorem dX0_init_81 : decode cX0_init 81 = .ok (.newarray .int, 2) := dk_188_10 (dk_at dksX0_init_3 11 rfl rfl)
theorem dX0_init_83 : decode cX0_init 83 = .ok (.putfield 70, 3) := dk_181 0 70 (dk_at dksX0_init_3 13 rfl rfl)
theorem dX0_init_86 : decode cX0_init 86 = .ok (.aload_n 0, 1) := dk_42 (dk_at dksX0_init_3 16 rfl rfl)
theorem dX0_init_87 : decode cX0_init 87 = .ok (.bipush 8, 2) := dk_16 8 (dk_at dksX0_init_3 17 rfl rfl)
theorem dX0_init_89 : decode cX0_init 89 = .ok (.newarray .int, 2) := dk_188_10 (dk_at dksX0_init_3 19 rfl rfl)
theorem dX0_init_91 : decode cX0_init 91 = .ok (.putfield 74, 3) := dk_181 0 74 (dk_at dksX0_init_3 21 rfl rfl)
theorem dX0_init_94 : decode cX0_init 94 = .ok (.return_, 1) := dk_177 (dk_at dksX0_init_4 0 rfl rfl)
abbrev cX0_shelves : ByteArray := prog_1_method_5_code
def yX0_shelves : MethodName := ⟨RX0, "shelves", "()[LMoodFare$Shelf;"⟩
def dkwX0_shelves_1 : List UInt8 := [132, 1, 1, 167, 255, 237, 42, 176]
abbrev dktX0_shelves_1 : List UInt8 := dkwX0_shelves_1 ++ []
def dkwX0_shelves_0 : List UInt8 := [16, 8, 189, 0, 23, 75, 3, 60, 27, 16, 8, 162, 0, 19, 42, 27, 187, 0, 23, 89, 183, 0, 25, 83]
abbrev dktX0_shelves_0 : List UInt8 := dkwX0_shelves_0 ++ dktX0_shelves_1
theorem dksX0_shelves_0 : cX0_shelves.data.toList.drop 0 = dktX0_shelves_0 := by decide +kernel
theorem dksX0_shelves_1 : cX0_shelves.data.toList.drop 24 = dktX0_shelves_1 := dk_seg dksX0_shelves_0 24 rfl rfl
theorem dX0_shelves_0 : decode cX0_shelves 0 = .ok (.bipush 8, 2) := dk_16 8 (dk_at dksX0_shelves_0 0 rfl rfl)
theorem dX0_shelves_2 : decode cX0_shelves 2 = .ok (.anewarray 23, 3) := dk_189 0 23 (dk_at dksX0_shelves_0 2 rfl rfl)
theorem dX0_shelves_5 : decode cX0_shelves 5 = .ok (.astore_n 0, 1) := dk_75 (dk_at dksX0_shelves_0 5 rfl rfl)
theorem dX0_shelves_6 : decode cX0_shelves 6 = .ok (.iconst 0, 1) := dk_3 (dk_at dksX0_shelves_0 6 rfl rfl)
theorem dX0_shelves_7 : decode cX0_shelves 7 = .ok (.istore_n 1, 1) := dk_60 (dk_at dksX0_shelves_0 7 rfl rfl)
theorem dX0_shelves_8 : decode cX0_shelves 8 = .ok (.iload_n 1, 1) := dk_27 (dk_at dksX0_shelves_0 8 rfl rfl)
theorem dX0_shelves_9 : decode cX0_shelves 9 = .ok (.bipush 8, 2) := dk_16 8 (dk_at dksX0_shelves_0 9 rfl rfl)
theorem dX0_shelves_11 : decode cX0_shelves 11 = .ok (.if_icmp .ge 19, 3) := dk_162 0 19 (dk_at dksX0_shelves_0 11 rfl rfl)
theorem dX0_shelves_14 : decode cX0_shelves 14 = .ok (.aload_n 0, 1) := dk_42 (dk_at dksX0_shelves_0 14 rfl rfl)
theorem dX0_shelves_15 : decode cX0_shelves 15 = .ok (.iload_n 1, 1) := dk_27 (dk_at dksX0_shelves_0 15 rfl rfl)
theorem dX0_shelves_16 : decode cX0_shelves 16 = .ok (.new 23, 3) := dk_187 0 23 (dk_at dksX0_shelves_0 16 rfl rfl)
theorem dX0_shelves_19 : decode cX0_shelves 19 = .ok (.dup, 1) := dk_89 (dk_at dksX0_shelves_0 19 rfl rfl)
theorem dX0_shelves_20 : decode cX0_shelves 20 = .ok (.invokespecial 25, 3) := dk_183 0 25 (dk_at dksX0_shelves_0 20 rfl rfl)
theorem dX0_shelves_23 : decode cX0_shelves 23 = .ok (.aastore, 1) := dk_83 (dk_at dksX0_shelves_0 23 rfl rfl)
theorem dX0_shelves_24 : decode cX0_shelves 24 = .ok (.iinc 1 1, 3) := dk_132 1 1 (dk_at dksX0_shelves_1 0 rfl rfl)
theorem dX0_shelves_27 : decode cX0_shelves 27 = .ok (.goto (-19), 3) := dk_167 255 237 (dk_at dksX0_shelves_1 3 rfl rfl)
theorem dX0_shelves_30 : decode cX0_shelves 30 = .ok (.aload_n 0, 1) := dk_42 (dk_at dksX0_shelves_1 6 rfl rfl)
theorem dX0_shelves_31 : decode cX0_shelves 31 = .ok (.areturn, 1) := dk_176 (dk_at dksX0_shelves_1 7 rfl rfl)
abbrev cX0_row : ByteArray := prog_1_method_11_code
def yX0_row : MethodName := ⟨RX0, "row", "(III)I"⟩
def dkwX0_row_2 : List UInt8 := [182, 0, 103, 172, 58, 4, 42, 7, 182, 0, 109, 172]
abbrev dktX0_row_2 : List UInt8 := dkwX0_row_2 ++ []
def dkwX0_row_1 : List UInt8 := [164, 0, 6, 18, 94, 172, 42, 180, 0, 35, 27, 50, 28, 29, 184, 0, 95, 181, 0, 99, 42, 29]
abbrev dktX0_row_1 : List UInt8 := dkwX0_row_1 ++ dktX0_row_2
def dkwX0_row_0 : List UInt8 := [27, 184, 0, 88, 153, 0, 21, 28, 133, 9, 20, 0, 92, 184, 0, 84, 153, 0, 9, 29, 16, 40]
abbrev dktX0_row_0 : List UInt8 := dkwX0_row_0 ++ dktX0_row_1
theorem dksX0_row_0 : cX0_row.data.toList.drop 0 = dktX0_row_0 := by decide +kernel
theorem dksX0_row_1 : cX0_row.data.toList.drop 22 = dktX0_row_1 := dk_seg dksX0_row_0 22 rfl rfl
theorem dksX0_row_2 : cX0_row.data.toList.drop 44 = dktX0_row_2 := dk_seg dksX0_row_1 22 rfl rfl
theorem dX0_row_0 : decode cX0_row 0 = .ok (.iload_n 1, 1) := dk_27 (dk_at dksX0_row_0 0 rfl rfl)
theorem dX0_row_1 : decode cX0_row 1 = .ok (.invokestatic 88, 3) := dk_184 0 88 (dk_at dksX0_row_0 1 rfl rfl)
theorem dX0_row_4 : decode cX0_row 4 = .ok (.ifCond .eq 21, 3) := dk_153 0 21 (dk_at dksX0_row_0 4 rfl rfl)
theorem dX0_row_7 : decode cX0_row 7 = .ok (.iload_n 2, 1) := dk_28 (dk_at dksX0_row_0 7 rfl rfl)
theorem dX0_row_8 : decode cX0_row 8 = .ok (.i2l, 1) := dk_133 (dk_at dksX0_row_0 8 rfl rfl)
theorem dX0_row_9 : decode cX0_row 9 = .ok (.lconst 0, 1) := dk_9 (dk_at dksX0_row_0 9 rfl rfl)
theorem dX0_row_10 : decode cX0_row 10 = .ok (.ldc2_w 92, 3) := dk_20 0 92 (dk_at dksX0_row_0 10 rfl rfl)
theorem dX0_row_13 : decode cX0_row 13 = .ok (.invokestatic 84, 3) := dk_184 0 84 (dk_at dksX0_row_0 13 rfl rfl)
theorem dX0_row_16 : decode cX0_row 16 = .ok (.ifCond .eq 9, 3) := dk_153 0 9 (dk_at dksX0_row_0 16 rfl rfl)
theorem dX0_row_19 : decode cX0_row 19 = .ok (.iload_n 3, 1) := dk_29 (dk_at dksX0_row_0 19 rfl rfl)
theorem dX0_row_20 : decode cX0_row 20 = .ok (.bipush 40, 2) := dk_16 40 (dk_at dksX0_row_0 20 rfl rfl)
theorem dX0_row_22 : decode cX0_row 22 = .ok (.if_icmp .le 6, 3) := dk_164 0 6 (dk_at dksX0_row_1 0 rfl rfl)
theorem dX0_row_25 : decode cX0_row 25 = .ok (.ldc 94, 2) := dk_18 94 (dk_at dksX0_row_1 3 rfl rfl)
theorem dX0_row_27 : decode cX0_row 27 = .ok (.ireturn, 1) := dk_172 (dk_at dksX0_row_1 5 rfl rfl)
theorem dX0_row_28 : decode cX0_row 28 = .ok (.aload_n 0, 1) := dk_42 (dk_at dksX0_row_1 6 rfl rfl)
theorem dX0_row_29 : decode cX0_row 29 = .ok (.getfield 35, 3) := dk_180 0 35 (dk_at dksX0_row_1 7 rfl rfl)
theorem dX0_row_32 : decode cX0_row 32 = .ok (.iload_n 1, 1) := dk_27 (dk_at dksX0_row_1 10 rfl rfl)
theorem dX0_row_33 : decode cX0_row 33 = .ok (.aaload, 1) := dk_50 (dk_at dksX0_row_1 11 rfl rfl)
theorem dX0_row_34 : decode cX0_row 34 = .ok (.iload_n 2, 1) := dk_28 (dk_at dksX0_row_1 12 rfl rfl)
theorem dX0_row_35 : decode cX0_row 35 = .ok (.iload_n 3, 1) := dk_29 (dk_at dksX0_row_1 13 rfl rfl)
theorem dX0_row_36 : decode cX0_row 36 = .ok (.invokestatic 95, 3) := dk_184 0 95 (dk_at dksX0_row_1 14 rfl rfl)
theorem dX0_row_39 : decode cX0_row 39 = .ok (.putfield 99, 3) := dk_181 0 99 (dk_at dksX0_row_1 17 rfl rfl)
theorem dX0_row_42 : decode cX0_row 42 = .ok (.aload_n 0, 1) := dk_42 (dk_at dksX0_row_1 20 rfl rfl)
theorem dX0_row_43 : decode cX0_row 43 = .ok (.iload_n 3, 1) := dk_29 (dk_at dksX0_row_1 21 rfl rfl)
theorem dX0_row_44 : decode cX0_row 44 = .ok (.invokevirtual 103, 3) := dk_182 0 103 (dk_at dksX0_row_2 0 rfl rfl)
theorem dX0_row_47 : decode cX0_row 47 = .ok (.ireturn, 1) := dk_172 (dk_at dksX0_row_2 3 rfl rfl)
theorem dX0_row_48 : decode cX0_row 48 = .ok (.astore 4, 2) := dk_58 4 (dk_at dksX0_row_2 4 rfl rfl)
theorem dX0_row_50 : decode cX0_row 50 = .ok (.aload_n 0, 1) := dk_42 (dk_at dksX0_row_2 6 rfl rfl)
theorem dX0_row_51 : decode cX0_row 51 = .ok (.iconst 4, 1) := dk_7 (dk_at dksX0_row_2 7 rfl rfl)
theorem dX0_row_52 : decode cX0_row 52 = .ok (.invokevirtual 109, 3) := dk_182 0 109 (dk_at dksX0_row_2 8 rfl rfl)
theorem dX0_row_55 : decode cX0_row 55 = .ok (.ireturn, 1) := dk_172 (dk_at dksX0_row_2 11 rfl rfl)
abbrev cX0_isRow : ByteArray := prog_1_method_9_code
def yX0_isRow : MethodName := ⟨RX0, "isRow", "(I)Z"⟩
def dkwX0_isRow_0 : List UInt8 := [26, 133, 9, 20, 0, 82, 184, 0, 84, 172]
abbrev dktX0_isRow_0 : List UInt8 := dkwX0_isRow_0 ++ []
theorem dksX0_isRow_0 : cX0_isRow.data.toList.drop 0 = dktX0_isRow_0 := by decide +kernel
theorem dX0_isRow_0 : decode cX0_isRow 0 = .ok (.iload_n 0, 1) := dk_26 (dk_at dksX0_isRow_0 0 rfl rfl)
theorem dX0_isRow_1 : decode cX0_isRow 1 = .ok (.i2l, 1) := dk_133 (dk_at dksX0_isRow_0 1 rfl rfl)
theorem dX0_isRow_2 : decode cX0_isRow 2 = .ok (.lconst 0, 1) := dk_9 (dk_at dksX0_isRow_0 2 rfl rfl)
theorem dX0_isRow_3 : decode cX0_isRow 3 = .ok (.ldc2_w 82, 3) := dk_20 0 82 (dk_at dksX0_isRow_0 3 rfl rfl)
theorem dX0_isRow_6 : decode cX0_isRow 6 = .ok (.invokestatic 84, 3) := dk_184 0 84 (dk_at dksX0_isRow_0 6 rfl rfl)
theorem dX0_isRow_9 : decode cX0_isRow 9 = .ok (.ireturn, 1) := dk_172 (dk_at dksX0_isRow_0 9 rfl rfl)
abbrev cX0_isIn : ByteArray := prog_1_method_1_code
def yX0_isIn : MethodName := ⟨RX0, "isIn", "(JJJ)Z"⟩
def dkwX0_isIn_0 : List UInt8 := [30, 32, 148, 155, 0, 14, 30, 22, 4, 148, 157, 0, 7, 4, 167, 0, 4, 3, 172]
abbrev dktX0_isIn_0 : List UInt8 := dkwX0_isIn_0 ++ []
theorem dksX0_isIn_0 : cX0_isIn.data.toList.drop 0 = dktX0_isIn_0 := by decide +kernel
theorem dX0_isIn_0 : decode cX0_isIn 0 = .ok (.lload_n 0, 1) := dk_30 (dk_at dksX0_isIn_0 0 rfl rfl)
theorem dX0_isIn_1 : decode cX0_isIn 1 = .ok (.lload_n 2, 1) := dk_32 (dk_at dksX0_isIn_0 1 rfl rfl)
theorem dX0_isIn_2 : decode cX0_isIn 2 = .ok (.lcmp, 1) := dk_148 (dk_at dksX0_isIn_0 2 rfl rfl)
theorem dX0_isIn_3 : decode cX0_isIn 3 = .ok (.ifCond .lt 14, 3) := dk_155 0 14 (dk_at dksX0_isIn_0 3 rfl rfl)
theorem dX0_isIn_6 : decode cX0_isIn 6 = .ok (.lload_n 0, 1) := dk_30 (dk_at dksX0_isIn_0 6 rfl rfl)
theorem dX0_isIn_7 : decode cX0_isIn 7 = .ok (.lload 4, 2) := dk_22 4 (dk_at dksX0_isIn_0 7 rfl rfl)
theorem dX0_isIn_9 : decode cX0_isIn 9 = .ok (.lcmp, 1) := dk_148 (dk_at dksX0_isIn_0 9 rfl rfl)
theorem dX0_isIn_10 : decode cX0_isIn 10 = .ok (.ifCond .gt 7, 3) := dk_157 0 7 (dk_at dksX0_isIn_0 10 rfl rfl)
theorem dX0_isIn_13 : decode cX0_isIn 13 = .ok (.iconst 1, 1) := dk_4 (dk_at dksX0_isIn_0 13 rfl rfl)
theorem dX0_isIn_14 : decode cX0_isIn 14 = .ok (.goto 4, 3) := dk_167 0 4 (dk_at dksX0_isIn_0 14 rfl rfl)
theorem dX0_isIn_17 : decode cX0_isIn 17 = .ok (.iconst 0, 1) := dk_3 (dk_at dksX0_isIn_0 17 rfl rfl)
theorem dX0_isIn_18 : decode cX0_isIn 18 = .ok (.ireturn, 1) := dk_172 (dk_at dksX0_isIn_0 18 rfl rfl)
abbrev cX0_newLane : ByteArray := prog_1_method_10_code
def yX0_newLane : MethodName := ⟨RX0, "newLane", "(II)Ljava/lang/Object;"⟩
def dkwX0_newLane_1 : List UInt8 := [176]
abbrev dktX0_newLane_1 : List UInt8 := dkwX0_newLane_1 ++ []
def dkwX0_newLane_0 : List UInt8 := [26, 154, 0, 9, 27, 188, 8, 167, 0, 17, 26, 4, 160, 0, 9, 27, 188, 9, 167, 0, 6, 27, 188, 10]
abbrev dktX0_newLane_0 : List UInt8 := dkwX0_newLane_0 ++ dktX0_newLane_1
theorem dksX0_newLane_0 : cX0_newLane.data.toList.drop 0 = dktX0_newLane_0 := by decide +kernel
theorem dksX0_newLane_1 : cX0_newLane.data.toList.drop 24 = dktX0_newLane_1 := dk_seg dksX0_newLane_0 24 rfl rfl
theorem dX0_newLane_0 : decode cX0_newLane 0 = .ok (.iload_n 0, 1) := dk_26 (dk_at dksX0_newLane_0 0 rfl rfl)
theorem dX0_newLane_1 : decode cX0_newLane 1 = .ok (.ifCond .ne 9, 3) := dk_154 0 9 (dk_at dksX0_newLane_0 1 rfl rfl)
theorem dX0_newLane_4 : decode cX0_newLane 4 = .ok (.iload_n 1, 1) := dk_27 (dk_at dksX0_newLane_0 4 rfl rfl)
theorem dX0_newLane_5 : decode cX0_newLane 5 = .ok (.newarray .byte, 2) := dk_188_8 (dk_at dksX0_newLane_0 5 rfl rfl)
theorem dX0_newLane_7 : decode cX0_newLane 7 = .ok (.goto 17, 3) := dk_167 0 17 (dk_at dksX0_newLane_0 7 rfl rfl)
theorem dX0_newLane_10 : decode cX0_newLane 10 = .ok (.iload_n 0, 1) := dk_26 (dk_at dksX0_newLane_0 10 rfl rfl)
theorem dX0_newLane_11 : decode cX0_newLane 11 = .ok (.iconst 1, 1) := dk_4 (dk_at dksX0_newLane_0 11 rfl rfl)
theorem dX0_newLane_12 : decode cX0_newLane 12 = .ok (.if_icmp .ne 9, 3) := dk_160 0 9 (dk_at dksX0_newLane_0 12 rfl rfl)
theorem dX0_newLane_15 : decode cX0_newLane 15 = .ok (.iload_n 1, 1) := dk_27 (dk_at dksX0_newLane_0 15 rfl rfl)
theorem dX0_newLane_16 : decode cX0_newLane 16 = .ok (.newarray .short, 2) := dk_188_9 (dk_at dksX0_newLane_0 16 rfl rfl)
theorem dX0_newLane_18 : decode cX0_newLane 18 = .ok (.goto 6, 3) := dk_167 0 6 (dk_at dksX0_newLane_0 18 rfl rfl)
theorem dX0_newLane_21 : decode cX0_newLane 21 = .ok (.iload_n 1, 1) := dk_27 (dk_at dksX0_newLane_0 21 rfl rfl)
theorem dX0_newLane_22 : decode cX0_newLane 22 = .ok (.newarray .int, 2) := dk_188_10 (dk_at dksX0_newLane_0 22 rfl rfl)
theorem dX0_newLane_24 : decode cX0_newLane 24 = .ok (.areturn, 1) := dk_176 (dk_at dksX0_newLane_1 0 rfl rfl)
abbrev cX0_well : ByteArray := prog_1_method_8_code
def yX0_well : MethodName := ⟨RX0, "well", "(I)I"⟩
def dkwX0_well_0 : List UInt8 := [42, 3, 181, 0, 77, 27, 172]
abbrev dktX0_well_0 : List UInt8 := dkwX0_well_0 ++ []
theorem dksX0_well_0 : cX0_well.data.toList.drop 0 = dktX0_well_0 := by decide +kernel
theorem dX0_well_0 : decode cX0_well 0 = .ok (.aload_n 0, 1) := dk_42 (dk_at dksX0_well_0 0 rfl rfl)
theorem dX0_well_1 : decode cX0_well 1 = .ok (.iconst 0, 1) := dk_3 (dk_at dksX0_well_0 1 rfl rfl)
theorem dX0_well_2 : decode cX0_well 2 = .ok (.putfield 77, 3) := dk_181 0 77 (dk_at dksX0_well_0 2 rfl rfl)
theorem dX0_well_5 : decode cX0_well 5 = .ok (.iload_n 1, 1) := dk_27 (dk_at dksX0_well_0 5 rfl rfl)
theorem dX0_well_6 : decode cX0_well 6 = .ok (.ireturn, 1) := dk_172 (dk_at dksX0_well_0 6 rfl rfl)
abbrev cX0_found : ByteArray := prog_1_method_7_code
def yX0_found : MethodName := ⟨RX0, "found", "(I)I"⟩
def dkwX0_found_0 : List UInt8 := [42, 27, 181, 0, 77, 18, 81, 27, 100, 172]
abbrev dktX0_found_0 : List UInt8 := dkwX0_found_0 ++ []
theorem dksX0_found_0 : cX0_found.data.toList.drop 0 = dktX0_found_0 := by decide +kernel
theorem dX0_found_0 : decode cX0_found 0 = .ok (.aload_n 0, 1) := dk_42 (dk_at dksX0_found_0 0 rfl rfl)
theorem dX0_found_1 : decode cX0_found 1 = .ok (.iload_n 1, 1) := dk_27 (dk_at dksX0_found_0 1 rfl rfl)
theorem dX0_found_2 : decode cX0_found 2 = .ok (.putfield 77, 3) := dk_181 0 77 (dk_at dksX0_found_0 2 rfl rfl)
theorem dX0_found_5 : decode cX0_found 5 = .ok (.ldc 81, 2) := dk_18 81 (dk_at dksX0_found_0 5 rfl rfl)
theorem dX0_found_7 : decode cX0_found 7 = .ok (.iload_n 1, 1) := dk_27 (dk_at dksX0_found_0 7 rfl rfl)
theorem dX0_found_8 : decode cX0_found 8 = .ok (.isub, 1) := dk_100 (dk_at dksX0_found_0 8 rfl rfl)
theorem dX0_found_9 : decode cX0_found 9 = .ok (.ireturn, 1) := dk_172 (dk_at dksX0_found_0 9 rfl rfl)
abbrev cX0_set : ByteArray := prog_1_method_12_code
def yX0_set : MethodName := ⟨RX0, "set", "(III)I"⟩
def dkwX0_set_1 : List UInt8 := [182, 0, 103, 172, 58, 4, 42, 4, 182, 0, 109, 172, 58, 4, 42, 5, 182, 0, 109, 172]
abbrev dktX0_set_1 : List UInt8 := dkwX0_set_1 ++ []
def dkwX0_set_0 : List UInt8 := [27, 184, 0, 88, 154, 0, 6, 18, 94, 172, 42, 42, 180, 0, 35, 27, 50, 28, 29, 182, 0, 112]
abbrev dktX0_set_0 : List UInt8 := dkwX0_set_0 ++ dktX0_set_1
theorem dksX0_set_0 : cX0_set.data.toList.drop 0 = dktX0_set_0 := by decide +kernel
theorem dksX0_set_1 : cX0_set.data.toList.drop 22 = dktX0_set_1 := dk_seg dksX0_set_0 22 rfl rfl
theorem dX0_set_0 : decode cX0_set 0 = .ok (.iload_n 1, 1) := dk_27 (dk_at dksX0_set_0 0 rfl rfl)
theorem dX0_set_1 : decode cX0_set 1 = .ok (.invokestatic 88, 3) := dk_184 0 88 (dk_at dksX0_set_0 1 rfl rfl)
theorem dX0_set_4 : decode cX0_set 4 = .ok (.ifCond .ne 6, 3) := dk_154 0 6 (dk_at dksX0_set_0 4 rfl rfl)
theorem dX0_set_7 : decode cX0_set 7 = .ok (.ldc 94, 2) := dk_18 94 (dk_at dksX0_set_0 7 rfl rfl)
theorem dX0_set_9 : decode cX0_set 9 = .ok (.ireturn, 1) := dk_172 (dk_at dksX0_set_0 9 rfl rfl)
theorem dX0_set_10 : decode cX0_set 10 = .ok (.aload_n 0, 1) := dk_42 (dk_at dksX0_set_0 10 rfl rfl)
theorem dX0_set_11 : decode cX0_set 11 = .ok (.aload_n 0, 1) := dk_42 (dk_at dksX0_set_0 11 rfl rfl)
theorem dX0_set_12 : decode cX0_set 12 = .ok (.getfield 35, 3) := dk_180 0 35 (dk_at dksX0_set_0 12 rfl rfl)
theorem dX0_set_15 : decode cX0_set 15 = .ok (.iload_n 1, 1) := dk_27 (dk_at dksX0_set_0 15 rfl rfl)
theorem dX0_set_16 : decode cX0_set 16 = .ok (.aaload, 1) := dk_50 (dk_at dksX0_set_0 16 rfl rfl)
theorem dX0_set_17 : decode cX0_set 17 = .ok (.iload_n 2, 1) := dk_28 (dk_at dksX0_set_0 17 rfl rfl)
theorem dX0_set_18 : decode cX0_set 18 = .ok (.iload_n 3, 1) := dk_29 (dk_at dksX0_set_0 18 rfl rfl)
theorem dX0_set_19 : decode cX0_set 19 = .ok (.invokevirtual 112, 3) := dk_182 0 112 (dk_at dksX0_set_0 19 rfl rfl)
theorem dX0_set_22 : decode cX0_set 22 = .ok (.invokevirtual 103, 3) := dk_182 0 103 (dk_at dksX0_set_1 0 rfl rfl)
theorem dX0_set_25 : decode cX0_set 25 = .ok (.ireturn, 1) := dk_172 (dk_at dksX0_set_1 3 rfl rfl)
theorem dX0_set_26 : decode cX0_set 26 = .ok (.astore 4, 2) := dk_58 4 (dk_at dksX0_set_1 4 rfl rfl)
theorem dX0_set_28 : decode cX0_set 28 = .ok (.aload_n 0, 1) := dk_42 (dk_at dksX0_set_1 6 rfl rfl)
theorem dX0_set_29 : decode cX0_set 29 = .ok (.iconst 1, 1) := dk_4 (dk_at dksX0_set_1 7 rfl rfl)
theorem dX0_set_30 : decode cX0_set 30 = .ok (.invokevirtual 109, 3) := dk_182 0 109 (dk_at dksX0_set_1 8 rfl rfl)
theorem dX0_set_33 : decode cX0_set 33 = .ok (.ireturn, 1) := dk_172 (dk_at dksX0_set_1 11 rfl rfl)
theorem dX0_set_34 : decode cX0_set 34 = .ok (.astore 4, 2) := dk_58 4 (dk_at dksX0_set_1 12 rfl rfl)
theorem dX0_set_36 : decode cX0_set 36 = .ok (.aload_n 0, 1) := dk_42 (dk_at dksX0_set_1 14 rfl rfl)
theorem dX0_set_37 : decode cX0_set 37 = .ok (.iconst 2, 1) := dk_5 (dk_at dksX0_set_1 15 rfl rfl)
theorem dX0_set_38 : decode cX0_set 38 = .ok (.invokevirtual 109, 3) := dk_182 0 109 (dk_at dksX0_set_1 16 rfl rfl)
theorem dX0_set_41 : decode cX0_set 41 = .ok (.ireturn, 1) := dk_172 (dk_at dksX0_set_1 19 rfl rfl)
abbrev cX0_copy : ByteArray := prog_1_method_13_code
def yX0_copy : MethodName := ⟨RX0, "copy", "(IIIII)I"⟩
def dkwX0_copy_3 : List UInt8 := [182, 0, 109, 172]
abbrev dktX0_copy_3 : List UInt8 := dkwX0_copy_3 ++ []
def dkwX0_copy_2 : List UInt8 := [182, 0, 103, 172, 58, 6, 42, 4, 182, 0, 109, 172, 58, 6, 42, 8, 182, 0, 109, 172, 58, 6, 42, 5]
abbrev dktX0_copy_2 : List UInt8 := dkwX0_copy_2 ++ dktX0_copy_3
def dkwX0_copy_1 : List UInt8 := [180, 0, 99, 28, 42, 180, 0, 35, 29, 50, 180, 0, 99, 21, 4, 21, 5, 184, 0, 120, 42, 21, 5]
abbrev dktX0_copy_1 : List UInt8 := dkwX0_copy_1 ++ dktX0_copy_2
def dkwX0_copy_0 : List UInt8 := [27, 184, 0, 88, 153, 0, 10, 29, 184, 0, 88, 154, 0, 6, 18, 94, 172, 42, 180, 0, 35, 27, 50]
abbrev dktX0_copy_0 : List UInt8 := dkwX0_copy_0 ++ dktX0_copy_1
theorem dksX0_copy_0 : cX0_copy.data.toList.drop 0 = dktX0_copy_0 := by decide +kernel
theorem dksX0_copy_1 : cX0_copy.data.toList.drop 23 = dktX0_copy_1 := dk_seg dksX0_copy_0 23 rfl rfl
theorem dksX0_copy_2 : cX0_copy.data.toList.drop 46 = dktX0_copy_2 := dk_seg dksX0_copy_1 23 rfl rfl
theorem dksX0_copy_3 : cX0_copy.data.toList.drop 70 = dktX0_copy_3 := dk_seg dksX0_copy_2 24 rfl rfl
theorem dX0_copy_0 : decode cX0_copy 0 = .ok (.iload_n 1, 1) := dk_27 (dk_at dksX0_copy_0 0 rfl rfl)
theorem dX0_copy_1 : decode cX0_copy 1 = .ok (.invokestatic 88, 3) := dk_184 0 88 (dk_at dksX0_copy_0 1 rfl rfl)
theorem dX0_copy_4 : decode cX0_copy 4 = .ok (.ifCond .eq 10, 3) := dk_153 0 10 (dk_at dksX0_copy_0 4 rfl rfl)
theorem dX0_copy_7 : decode cX0_copy 7 = .ok (.iload_n 3, 1) := dk_29 (dk_at dksX0_copy_0 7 rfl rfl)
theorem dX0_copy_8 : decode cX0_copy 8 = .ok (.invokestatic 88, 3) := dk_184 0 88 (dk_at dksX0_copy_0 8 rfl rfl)
theorem dX0_copy_11 : decode cX0_copy 11 = .ok (.ifCond .ne 6, 3) := dk_154 0 6 (dk_at dksX0_copy_0 11 rfl rfl)
theorem dX0_copy_14 : decode cX0_copy 14 = .ok (.ldc 94, 2) := dk_18 94 (dk_at dksX0_copy_0 14 rfl rfl)
theorem dX0_copy_16 : decode cX0_copy 16 = .ok (.ireturn, 1) := dk_172 (dk_at dksX0_copy_0 16 rfl rfl)
theorem dX0_copy_17 : decode cX0_copy 17 = .ok (.aload_n 0, 1) := dk_42 (dk_at dksX0_copy_0 17 rfl rfl)
theorem dX0_copy_18 : decode cX0_copy 18 = .ok (.getfield 35, 3) := dk_180 0 35 (dk_at dksX0_copy_0 18 rfl rfl)
theorem dX0_copy_21 : decode cX0_copy 21 = .ok (.iload_n 1, 1) := dk_27 (dk_at dksX0_copy_0 21 rfl rfl)
theorem dX0_copy_22 : decode cX0_copy 22 = .ok (.aaload, 1) := dk_50 (dk_at dksX0_copy_0 22 rfl rfl)
theorem dX0_copy_23 : decode cX0_copy 23 = .ok (.getfield 99, 3) := dk_180 0 99 (dk_at dksX0_copy_1 0 rfl rfl)
theorem dX0_copy_26 : decode cX0_copy 26 = .ok (.iload_n 2, 1) := dk_28 (dk_at dksX0_copy_1 3 rfl rfl)
theorem dX0_copy_27 : decode cX0_copy 27 = .ok (.aload_n 0, 1) := dk_42 (dk_at dksX0_copy_1 4 rfl rfl)
theorem dX0_copy_28 : decode cX0_copy 28 = .ok (.getfield 35, 3) := dk_180 0 35 (dk_at dksX0_copy_1 5 rfl rfl)
theorem dX0_copy_31 : decode cX0_copy 31 = .ok (.iload_n 3, 1) := dk_29 (dk_at dksX0_copy_1 8 rfl rfl)
theorem dX0_copy_32 : decode cX0_copy 32 = .ok (.aaload, 1) := dk_50 (dk_at dksX0_copy_1 9 rfl rfl)
theorem dX0_copy_33 : decode cX0_copy 33 = .ok (.getfield 99, 3) := dk_180 0 99 (dk_at dksX0_copy_1 10 rfl rfl)
theorem dX0_copy_36 : decode cX0_copy 36 = .ok (.iload 4, 2) := dk_21 4 (dk_at dksX0_copy_1 13 rfl rfl)
theorem dX0_copy_38 : decode cX0_copy 38 = .ok (.iload 5, 2) := dk_21 5 (dk_at dksX0_copy_1 15 rfl rfl)
theorem dX0_copy_40 : decode cX0_copy 40 = .ok (.invokestatic 120, 3) := dk_184 0 120 (dk_at dksX0_copy_1 17 rfl rfl)
theorem dX0_copy_43 : decode cX0_copy 43 = .ok (.aload_n 0, 1) := dk_42 (dk_at dksX0_copy_1 20 rfl rfl)
theorem dX0_copy_44 : decode cX0_copy 44 = .ok (.iload 5, 2) := dk_21 5 (dk_at dksX0_copy_1 21 rfl rfl)
theorem dX0_copy_46 : decode cX0_copy 46 = .ok (.invokevirtual 103, 3) := dk_182 0 103 (dk_at dksX0_copy_2 0 rfl rfl)
theorem dX0_copy_49 : decode cX0_copy 49 = .ok (.ireturn, 1) := dk_172 (dk_at dksX0_copy_2 3 rfl rfl)
theorem dX0_copy_50 : decode cX0_copy 50 = .ok (.astore 6, 2) := dk_58 6 (dk_at dksX0_copy_2 4 rfl rfl)
theorem dX0_copy_52 : decode cX0_copy 52 = .ok (.aload_n 0, 1) := dk_42 (dk_at dksX0_copy_2 6 rfl rfl)
theorem dX0_copy_53 : decode cX0_copy 53 = .ok (.iconst 1, 1) := dk_4 (dk_at dksX0_copy_2 7 rfl rfl)
theorem dX0_copy_54 : decode cX0_copy 54 = .ok (.invokevirtual 109, 3) := dk_182 0 109 (dk_at dksX0_copy_2 8 rfl rfl)
theorem dX0_copy_57 : decode cX0_copy 57 = .ok (.ireturn, 1) := dk_172 (dk_at dksX0_copy_2 11 rfl rfl)
theorem dX0_copy_58 : decode cX0_copy 58 = .ok (.astore 6, 2) := dk_58 6 (dk_at dksX0_copy_2 12 rfl rfl)
theorem dX0_copy_60 : decode cX0_copy 60 = .ok (.aload_n 0, 1) := dk_42 (dk_at dksX0_copy_2 14 rfl rfl)
theorem dX0_copy_61 : decode cX0_copy 61 = .ok (.iconst 5, 1) := dk_8 (dk_at dksX0_copy_2 15 rfl rfl)
theorem dX0_copy_62 : decode cX0_copy 62 = .ok (.invokevirtual 109, 3) := dk_182 0 109 (dk_at dksX0_copy_2 16 rfl rfl)
theorem dX0_copy_65 : decode cX0_copy 65 = .ok (.ireturn, 1) := dk_172 (dk_at dksX0_copy_2 19 rfl rfl)
theorem dX0_copy_66 : decode cX0_copy 66 = .ok (.astore 6, 2) := dk_58 6 (dk_at dksX0_copy_2 20 rfl rfl)
theorem dX0_copy_68 : decode cX0_copy 68 = .ok (.aload_n 0, 1) := dk_42 (dk_at dksX0_copy_2 22 rfl rfl)
theorem dX0_copy_69 : decode cX0_copy 69 = .ok (.iconst 2, 1) := dk_5 (dk_at dksX0_copy_2 23 rfl rfl)
theorem dX0_copy_70 : decode cX0_copy 70 = .ok (.invokevirtual 109, 3) := dk_182 0 109 (dk_at dksX0_copy_3 0 rfl rfl)
theorem dX0_copy_73 : decode cX0_copy 73 = .ok (.ireturn, 1) := dk_172 (dk_at dksX0_copy_3 3 rfl rfl)
abbrev cX0_drop : ByteArray := prog_1_method_14_code
def yX0_drop : MethodName := ⟨RX0, "drop", "(I)I"⟩
def dkwX0_drop_2 : List UInt8 := [50, 1, 181, 0, 99, 29, 172, 58, 4, 42, 180, 0, 35, 27, 50, 1, 181, 0, 99, 25, 4, 191]
abbrev dktX0_drop_2 : List UInt8 := dkwX0_drop_2 ++ []
def dkwX0_drop_1 : List UInt8 := [42, 180, 0, 35, 27, 50, 1, 181, 0, 99, 28, 172, 77, 42, 4, 182, 0, 109, 62, 42, 180, 0, 35, 27]
abbrev dktX0_drop_1 : List UInt8 := dkwX0_drop_1 ++ dktX0_drop_2
def dkwX0_drop_0 : List UInt8 := [27, 184, 0, 88, 154, 0, 6, 18, 94, 172, 42, 42, 180, 0, 35, 27, 50, 182, 0, 130, 182, 0, 103, 61]
abbrev dktX0_drop_0 : List UInt8 := dkwX0_drop_0 ++ dktX0_drop_1
theorem dksX0_drop_0 : cX0_drop.data.toList.drop 0 = dktX0_drop_0 := by decide +kernel
theorem dksX0_drop_1 : cX0_drop.data.toList.drop 24 = dktX0_drop_1 := dk_seg dksX0_drop_0 24 rfl rfl
theorem dksX0_drop_2 : cX0_drop.data.toList.drop 48 = dktX0_drop_2 := dk_seg dksX0_drop_1 24 rfl rfl
theorem dX0_drop_0 : decode cX0_drop 0 = .ok (.iload_n 1, 1) := dk_27 (dk_at dksX0_drop_0 0 rfl rfl)
theorem dX0_drop_1 : decode cX0_drop 1 = .ok (.invokestatic 88, 3) := dk_184 0 88 (dk_at dksX0_drop_0 1 rfl rfl)
theorem dX0_drop_4 : decode cX0_drop 4 = .ok (.ifCond .ne 6, 3) := dk_154 0 6 (dk_at dksX0_drop_0 4 rfl rfl)
theorem dX0_drop_7 : decode cX0_drop 7 = .ok (.ldc 94, 2) := dk_18 94 (dk_at dksX0_drop_0 7 rfl rfl)
theorem dX0_drop_9 : decode cX0_drop 9 = .ok (.ireturn, 1) := dk_172 (dk_at dksX0_drop_0 9 rfl rfl)
theorem dX0_drop_10 : decode cX0_drop 10 = .ok (.aload_n 0, 1) := dk_42 (dk_at dksX0_drop_0 10 rfl rfl)
theorem dX0_drop_11 : decode cX0_drop 11 = .ok (.aload_n 0, 1) := dk_42 (dk_at dksX0_drop_0 11 rfl rfl)
theorem dX0_drop_12 : decode cX0_drop 12 = .ok (.getfield 35, 3) := dk_180 0 35 (dk_at dksX0_drop_0 12 rfl rfl)
theorem dX0_drop_15 : decode cX0_drop 15 = .ok (.iload_n 1, 1) := dk_27 (dk_at dksX0_drop_0 15 rfl rfl)
theorem dX0_drop_16 : decode cX0_drop 16 = .ok (.aaload, 1) := dk_50 (dk_at dksX0_drop_0 16 rfl rfl)
theorem dX0_drop_17 : decode cX0_drop 17 = .ok (.invokevirtual 130, 3) := dk_182 0 130 (dk_at dksX0_drop_0 17 rfl rfl)
theorem dX0_drop_20 : decode cX0_drop 20 = .ok (.invokevirtual 103, 3) := dk_182 0 103 (dk_at dksX0_drop_0 20 rfl rfl)
theorem dX0_drop_23 : decode cX0_drop 23 = .ok (.istore_n 2, 1) := dk_61 (dk_at dksX0_drop_0 23 rfl rfl)
theorem dX0_drop_24 : decode cX0_drop 24 = .ok (.aload_n 0, 1) := dk_42 (dk_at dksX0_drop_1 0 rfl rfl)
theorem dX0_drop_25 : decode cX0_drop 25 = .ok (.getfield 35, 3) := dk_180 0 35 (dk_at dksX0_drop_1 1 rfl rfl)
theorem dX0_drop_28 : decode cX0_drop 28 = .ok (.iload_n 1, 1) := dk_27 (dk_at dksX0_drop_1 4 rfl rfl)
theorem dX0_drop_29 : decode cX0_drop 29 = .ok (.aaload, 1) := dk_50 (dk_at dksX0_drop_1 5 rfl rfl)
theorem dX0_drop_30 : decode cX0_drop 30 = .ok (.aconst_null, 1) := dk_1 (dk_at dksX0_drop_1 6 rfl rfl)
theorem dX0_drop_31 : decode cX0_drop 31 = .ok (.putfield 99, 3) := dk_181 0 99 (dk_at dksX0_drop_1 7 rfl rfl)
theorem dX0_drop_34 : decode cX0_drop 34 = .ok (.iload_n 2, 1) := dk_28 (dk_at dksX0_drop_1 10 rfl rfl)
theorem dX0_drop_35 : decode cX0_drop 35 = .ok (.ireturn, 1) := dk_172 (dk_at dksX0_drop_1 11 rfl rfl)
theorem dX0_drop_36 : decode cX0_drop 36 = .ok (.astore_n 2, 1) := dk_77 (dk_at dksX0_drop_1 12 rfl rfl)
theorem dX0_drop_37 : decode cX0_drop 37 = .ok (.aload_n 0, 1) := dk_42 (dk_at dksX0_drop_1 13 rfl rfl)
theorem dX0_drop_38 : decode cX0_drop 38 = .ok (.iconst 1, 1) := dk_4 (dk_at dksX0_drop_1 14 rfl rfl)
theorem dX0_drop_39 : decode cX0_drop 39 = .ok (.invokevirtual 109, 3) := dk_182 0 109 (dk_at dksX0_drop_1 15 rfl rfl)
theorem dX0_drop_42 : decode cX0_drop 42 = .ok (.istore_n 3, 1) := dk_62 (dk_at dksX0_drop_1 18 rfl rfl)
theorem dX0_drop_43 : decode cX0_drop 43 = .ok (.aload_n 0, 1) := dk_42 (dk_at dksX0_drop_1 19 rfl rfl)
theorem dX0_drop_44 : decode cX0_drop 44 = .ok (.getfield 35, 3) := dk_180 0 35 (dk_at dksX0_drop_1 20 rfl rfl)
theorem dX0_drop_47 : decode cX0_drop 47 = .ok (.iload_n 1, 1) := dk_27 (dk_at dksX0_drop_1 23 rfl rfl)
theorem dX0_drop_48 : decode cX0_drop 48 = .ok (.aaload, 1) := dk_50 (dk_at dksX0_drop_2 0 rfl rfl)
theorem dX0_drop_49 : decode cX0_drop 49 = .ok (.aconst_null, 1) := dk_1 (dk_at dksX0_drop_2 1 rfl rfl)
theorem dX0_drop_50 : decode cX0_drop 50 = .ok (.putfield 99, 3) := dk_181 0 99 (dk_at dksX0_drop_2 2 rfl rfl)
theorem dX0_drop_53 : decode cX0_drop 53 = .ok (.iload_n 3, 1) := dk_29 (dk_at dksX0_drop_2 5 rfl rfl)
theorem dX0_drop_54 : decode cX0_drop 54 = .ok (.ireturn, 1) := dk_172 (dk_at dksX0_drop_2 6 rfl rfl)
theorem dX0_drop_55 : decode cX0_drop 55 = .ok (.astore 4, 2) := dk_58 4 (dk_at dksX0_drop_2 7 rfl rfl)
theorem dX0_drop_57 : decode cX0_drop 57 = .ok (.aload_n 0, 1) := dk_42 (dk_at dksX0_drop_2 9 rfl rfl)
theorem dX0_drop_58 : decode cX0_drop 58 = .ok (.getfield 35, 3) := dk_180 0 35 (dk_at dksX0_drop_2 10 rfl rfl)
theorem dX0_drop_61 : decode cX0_drop 61 = .ok (.iload_n 1, 1) := dk_27 (dk_at dksX0_drop_2 13 rfl rfl)
theorem dX0_drop_62 : decode cX0_drop 62 = .ok (.aaload, 1) := dk_50 (dk_at dksX0_drop_2 14 rfl rfl)
theorem dX0_drop_63 : decode cX0_drop 63 = .ok (.aconst_null, 1) := dk_1 (dk_at dksX0_drop_2 15 rfl rfl)
theorem dX0_drop_64 : decode cX0_drop 64 = .ok (.putfield 99, 3) := dk_181 0 99 (dk_at dksX0_drop_2 16 rfl rfl)
theorem dX0_drop_67 : decode cX0_drop 67 = .ok (.aload 4, 2) := dk_25 4 (dk_at dksX0_drop_2 19 rfl rfl)
theorem dX0_drop_69 : decode cX0_drop 69 = .ok (.athrow, 1) := dk_191 (dk_at dksX0_drop_2 21 rfl rfl)
abbrev cX0_feed : ByteArray := prog_1_method_16_code
def yX0_feed : MethodName := ⟨RX0, "feed", "(I)I"⟩
def dkwX0_feed_2 : List UInt8 := [180, 0, 140, 172]
abbrev dktX0_feed_2 : List UInt8 := dkwX0_feed_2 ++ []
def dkwX0_feed_1 : List UInt8 := [18, 143, 172, 42, 180, 0, 39, 42, 89, 180, 0, 140, 90, 4, 96, 181, 0, 140, 27, 145, 84, 42]
abbrev dktX0_feed_1 : List UInt8 := dkwX0_feed_1 ++ dktX0_feed_2
def dkwX0_feed_0 : List UInt8 := [27, 133, 9, 20, 0, 138, 184, 0, 84, 154, 0, 6, 18, 94, 172, 42, 180, 0, 140, 16, 120, 160, 0, 6]
abbrev dktX0_feed_0 : List UInt8 := dkwX0_feed_0 ++ dktX0_feed_1
theorem dksX0_feed_0 : cX0_feed.data.toList.drop 0 = dktX0_feed_0 := by decide +kernel
theorem dksX0_feed_1 : cX0_feed.data.toList.drop 24 = dktX0_feed_1 := dk_seg dksX0_feed_0 24 rfl rfl
theorem dksX0_feed_2 : cX0_feed.data.toList.drop 46 = dktX0_feed_2 := dk_seg dksX0_feed_1 22 rfl rfl
theorem dX0_feed_0 : decode cX0_feed 0 = .ok (.iload_n 1, 1) := dk_27 (dk_at dksX0_feed_0 0 rfl rfl)
theorem dX0_feed_1 : decode cX0_feed 1 = .ok (.i2l, 1) := dk_133 (dk_at dksX0_feed_0 1 rfl rfl)
theorem dX0_feed_2 : decode cX0_feed 2 = .ok (.lconst 0, 1) := dk_9 (dk_at dksX0_feed_0 2 rfl rfl)
theorem dX0_feed_3 : decode cX0_feed 3 = .ok (.ldc2_w 138, 3) := dk_20 0 138 (dk_at dksX0_feed_0 3 rfl rfl)
theorem dX0_feed_6 : decode cX0_feed 6 = .ok (.invokestatic 84, 3) := dk_184 0 84 (dk_at dksX0_feed_0 6 rfl rfl)
theorem dX0_feed_9 : decode cX0_feed 9 = .ok (.ifCond .ne 6, 3) := dk_154 0 6 (dk_at dksX0_feed_0 9 rfl rfl)
theorem dX0_feed_12 : decode cX0_feed 12 = .ok (.ldc 94, 2) := dk_18 94 (dk_at dksX0_feed_0 12 rfl rfl)
theorem dX0_feed_14 : decode cX0_feed 14 = .ok (.ireturn, 1) := dk_172 (dk_at dksX0_feed_0 14 rfl rfl)
theorem dX0_feed_15 : decode cX0_feed 15 = .ok (.aload_n 0, 1) := dk_42 (dk_at dksX0_feed_0 15 rfl rfl)
theorem dX0_feed_16 : decode cX0_feed 16 = .ok (.getfield 140, 3) := dk_180 0 140 (dk_at dksX0_feed_0 16 rfl rfl)
theorem dX0_feed_19 : decode cX0_feed 19 = .ok (.bipush 120, 2) := dk_16 120 (dk_at dksX0_feed_0 19 rfl rfl)
theorem dX0_feed_21 : decode cX0_feed 21 = .ok (.if_icmp .ne 6, 3) := dk_160 0 6 (dk_at dksX0_feed_0 21 rfl rfl)
theorem dX0_feed_24 : decode cX0_feed 24 = .ok (.ldc 143, 2) := dk_18 143 (dk_at dksX0_feed_1 0 rfl rfl)
theorem dX0_feed_26 : decode cX0_feed 26 = .ok (.ireturn, 1) := dk_172 (dk_at dksX0_feed_1 2 rfl rfl)
theorem dX0_feed_27 : decode cX0_feed 27 = .ok (.aload_n 0, 1) := dk_42 (dk_at dksX0_feed_1 3 rfl rfl)
theorem dX0_feed_28 : decode cX0_feed 28 = .ok (.getfield 39, 3) := dk_180 0 39 (dk_at dksX0_feed_1 4 rfl rfl)
theorem dX0_feed_31 : decode cX0_feed 31 = .ok (.aload_n 0, 1) := dk_42 (dk_at dksX0_feed_1 7 rfl rfl)
theorem dX0_feed_32 : decode cX0_feed 32 = .ok (.dup, 1) := dk_89 (dk_at dksX0_feed_1 8 rfl rfl)
theorem dX0_feed_33 : decode cX0_feed 33 = .ok (.getfield 140, 3) := dk_180 0 140 (dk_at dksX0_feed_1 9 rfl rfl)
theorem dX0_feed_36 : decode cX0_feed 36 = .ok (.dup_x1, 1) := dk_90 (dk_at dksX0_feed_1 12 rfl rfl)
theorem dX0_feed_37 : decode cX0_feed 37 = .ok (.iconst 1, 1) := dk_4 (dk_at dksX0_feed_1 13 rfl rfl)
theorem dX0_feed_38 : decode cX0_feed 38 = .ok (.iadd, 1) := dk_96 (dk_at dksX0_feed_1 14 rfl rfl)
theorem dX0_feed_39 : decode cX0_feed 39 = .ok (.putfield 140, 3) := dk_181 0 140 (dk_at dksX0_feed_1 15 rfl rfl)
theorem dX0_feed_42 : decode cX0_feed 42 = .ok (.iload_n 1, 1) := dk_27 (dk_at dksX0_feed_1 18 rfl rfl)
theorem dX0_feed_43 : decode cX0_feed 43 = .ok (.i2b, 1) := dk_145 (dk_at dksX0_feed_1 19 rfl rfl)
theorem dX0_feed_44 : decode cX0_feed 44 = .ok (.bastore, 1) := dk_84 (dk_at dksX0_feed_1 20 rfl rfl)
theorem dX0_feed_45 : decode cX0_feed 45 = .ok (.aload_n 0, 1) := dk_42 (dk_at dksX0_feed_1 21 rfl rfl)
theorem dX0_feed_46 : decode cX0_feed 46 = .ok (.getfield 140, 3) := dk_180 0 140 (dk_at dksX0_feed_2 0 rfl rfl)
theorem dX0_feed_49 : decode cX0_feed 49 = .ok (.ireturn, 1) := dk_172 (dk_at dksX0_feed_2 3 rfl rfl)
abbrev cX0_town : ByteArray := prog_1_method_17_code
def yX0_town : MethodName := ⟨RX0, "town", "()I"⟩
def dkwX0_town_3 : List UInt8 := [182, 0, 167, 42, 3, 181, 0, 171, 42, 180, 0, 46, 180, 0, 174, 172]
abbrev dktX0_town_3 : List UInt8 := dkwX0_town_3 ++ []
def dkwX0_town_2 : List UInt8 := [3, 181, 0, 140, 29, 172, 58, 4, 42, 3, 181, 0, 140, 25, 4, 191, 42, 180, 0, 46, 43, 180, 0, 164]
abbrev dktX0_town_2 : List UInt8 := dkwX0_town_2 ++ dktX0_town_3
def dkwX0_town_1 : List UInt8 := [181, 0, 140, 167, 0, 37, 77, 42, 44, 180, 0, 154, 181, 0, 157, 18, 160, 44, 180, 0, 161, 100, 62, 42]
abbrev dktX0_town_1 : List UInt8 := dkwX0_town_1 ++ dktX0_town_2
def dkwX0_town_0 : List UInt8 := [187, 0, 144, 89, 42, 180, 0, 39, 42, 180, 0, 140, 183, 0, 146, 76, 43, 182, 0, 149, 42, 3]
abbrev dktX0_town_0 : List UInt8 := dkwX0_town_0 ++ dktX0_town_1
theorem dksX0_town_0 : cX0_town.data.toList.drop 0 = dktX0_town_0 := by decide +kernel
theorem dksX0_town_1 : cX0_town.data.toList.drop 22 = dktX0_town_1 := dk_seg dksX0_town_0 22 rfl rfl
theorem dksX0_town_2 : cX0_town.data.toList.drop 46 = dktX0_town_2 := dk_seg dksX0_town_1 24 rfl rfl
theorem dksX0_town_3 : cX0_town.data.toList.drop 70 = dktX0_town_3 := dk_seg dksX0_town_2 24 rfl rfl
theorem dX0_town_0 : decode cX0_town 0 = .ok (.new 144, 3) := dk_187 0 144 (dk_at dksX0_town_0 0 rfl rfl)
theorem dX0_town_3 : decode cX0_town 3 = .ok (.dup, 1) := dk_89 (dk_at dksX0_town_0 3 rfl rfl)
theorem dX0_town_4 : decode cX0_town 4 = .ok (.aload_n 0, 1) := dk_42 (dk_at dksX0_town_0 4 rfl rfl)
theorem dX0_town_5 : decode cX0_town 5 = .ok (.getfield 39, 3) := dk_180 0 39 (dk_at dksX0_town_0 5 rfl rfl)
theorem dX0_town_8 : decode cX0_town 8 = .ok (.aload_n 0, 1) := dk_42 (dk_at dksX0_town_0 8 rfl rfl)
theorem dX0_town_9 : decode cX0_town 9 = .ok (.getfield 140, 3) := dk_180 0 140 (dk_at dksX0_town_0 9 rfl rfl)
theorem dX0_town_12 : decode cX0_town 12 = .ok (.invokespecial 146, 3) := dk_183 0 146 (dk_at dksX0_town_0 12 rfl rfl)
theorem dX0_town_15 : decode cX0_town 15 = .ok (.astore_n 1, 1) := dk_76 (dk_at dksX0_town_0 15 rfl rfl)
theorem dX0_town_16 : decode cX0_town 16 = .ok (.aload_n 1, 1) := dk_43 (dk_at dksX0_town_0 16 rfl rfl)
theorem dX0_town_17 : decode cX0_town 17 = .ok (.invokevirtual 149, 3) := dk_182 0 149 (dk_at dksX0_town_0 17 rfl rfl)
theorem dX0_town_20 : decode cX0_town 20 = .ok (.aload_n 0, 1) := dk_42 (dk_at dksX0_town_0 20 rfl rfl)
theorem dX0_town_21 : decode cX0_town 21 = .ok (.iconst 0, 1) := dk_3 (dk_at dksX0_town_0 21 rfl rfl)
theorem dX0_town_22 : decode cX0_town 22 = .ok (.putfield 140, 3) := dk_181 0 140 (dk_at dksX0_town_1 0 rfl rfl)
theorem dX0_town_25 : decode cX0_town 25 = .ok (.goto 37, 3) := dk_167 0 37 (dk_at dksX0_town_1 3 rfl rfl)
theorem dX0_town_28 : decode cX0_town 28 = .ok (.astore_n 2, 1) := dk_77 (dk_at dksX0_town_1 6 rfl rfl)
theorem dX0_town_29 : decode cX0_town 29 = .ok (.aload_n 0, 1) := dk_42 (dk_at dksX0_town_1 7 rfl rfl)
theorem dX0_town_30 : decode cX0_town 30 = .ok (.aload_n 2, 1) := dk_44 (dk_at dksX0_town_1 8 rfl rfl)
theorem dX0_town_31 : decode cX0_town 31 = .ok (.getfield 154, 3) := dk_180 0 154 (dk_at dksX0_town_1 9 rfl rfl)
theorem dX0_town_34 : decode cX0_town 34 = .ok (.putfield 157, 3) := dk_181 0 157 (dk_at dksX0_town_1 12 rfl rfl)
theorem dX0_town_37 : decode cX0_town 37 = .ok (.ldc 160, 2) := dk_18 160 (dk_at dksX0_town_1 15 rfl rfl)
theorem dX0_town_39 : decode cX0_town 39 = .ok (.aload_n 2, 1) := dk_44 (dk_at dksX0_town_1 17 rfl rfl)
theorem dX0_town_40 : decode cX0_town 40 = .ok (.getfield 161, 3) := dk_180 0 161 (dk_at dksX0_town_1 18 rfl rfl)
theorem dX0_town_43 : decode cX0_town 43 = .ok (.isub, 1) := dk_100 (dk_at dksX0_town_1 21 rfl rfl)
theorem dX0_town_44 : decode cX0_town 44 = .ok (.istore_n 3, 1) := dk_62 (dk_at dksX0_town_1 22 rfl rfl)
theorem dX0_town_45 : decode cX0_town 45 = .ok (.aload_n 0, 1) := dk_42 (dk_at dksX0_town_1 23 rfl rfl)
theorem dX0_town_46 : decode cX0_town 46 = .ok (.iconst 0, 1) := dk_3 (dk_at dksX0_town_2 0 rfl rfl)
theorem dX0_town_47 : decode cX0_town 47 = .ok (.putfield 140, 3) := dk_181 0 140 (dk_at dksX0_town_2 1 rfl rfl)
theorem dX0_town_50 : decode cX0_town 50 = .ok (.iload_n 3, 1) := dk_29 (dk_at dksX0_town_2 4 rfl rfl)
theorem dX0_town_51 : decode cX0_town 51 = .ok (.ireturn, 1) := dk_172 (dk_at dksX0_town_2 5 rfl rfl)
theorem dX0_town_52 : decode cX0_town 52 = .ok (.astore 4, 2) := dk_58 4 (dk_at dksX0_town_2 6 rfl rfl)
theorem dX0_town_54 : decode cX0_town 54 = .ok (.aload_n 0, 1) := dk_42 (dk_at dksX0_town_2 8 rfl rfl)
theorem dX0_town_55 : decode cX0_town 55 = .ok (.iconst 0, 1) := dk_3 (dk_at dksX0_town_2 9 rfl rfl)
theorem dX0_town_56 : decode cX0_town 56 = .ok (.putfield 140, 3) := dk_181 0 140 (dk_at dksX0_town_2 10 rfl rfl)
theorem dX0_town_59 : decode cX0_town 59 = .ok (.aload 4, 2) := dk_25 4 (dk_at dksX0_town_2 13 rfl rfl)
theorem dX0_town_61 : decode cX0_town 61 = .ok (.athrow, 1) := dk_191 (dk_at dksX0_town_2 15 rfl rfl)
theorem dX0_town_62 : decode cX0_town 62 = .ok (.aload_n 0, 1) := dk_42 (dk_at dksX0_town_2 16 rfl rfl)
theorem dX0_town_63 : decode cX0_town 63 = .ok (.getfield 46, 3) := dk_180 0 46 (dk_at dksX0_town_2 17 rfl rfl)
theorem dX0_town_66 : decode cX0_town 66 = .ok (.aload_n 1, 1) := dk_43 (dk_at dksX0_town_2 20 rfl rfl)
theorem dX0_town_67 : decode cX0_town 67 = .ok (.getfield 164, 3) := dk_180 0 164 (dk_at dksX0_town_2 21 rfl rfl)
theorem dX0_town_70 : decode cX0_town 70 = .ok (.invokevirtual 167, 3) := dk_182 0 167 (dk_at dksX0_town_3 0 rfl rfl)
theorem dX0_town_73 : decode cX0_town 73 = .ok (.aload_n 0, 1) := dk_42 (dk_at dksX0_town_3 3 rfl rfl)
theorem dX0_town_74 : decode cX0_town 74 = .ok (.iconst 0, 1) := dk_3 (dk_at dksX0_town_3 4 rfl rfl)
theorem dX0_town_75 : decode cX0_town 75 = .ok (.putfield 171, 3) := dk_181 0 171 (dk_at dksX0_town_3 5 rfl rfl)
theorem dX0_town_78 : decode cX0_town 78 = .ok (.aload_n 0, 1) := dk_42 (dk_at dksX0_town_3 8 rfl rfl)
theorem dX0_town_79 : decode cX0_town 79 = .ok (.getfield 46, 3) := dk_180 0 46 (dk_at dksX0_town_3 9 rfl rfl)
theorem dX0_town_82 : decode cX0_town 82 = .ok (.getfield 174, 3) := dk_180 0 174 (dk_at dksX0_town_3 12 rfl rfl)
theorem dX0_town_85 : decode cX0_town 85 = .ok (.ireturn, 1) := dk_172 (dk_at dksX0_town_3 15 rfl rfl)
abbrev cX0_cornerBy : ByteArray := prog_1_method_3_code
def yX0_cornerBy : MethodName := ⟨RX0, "cornerBy", "(III)LMoodFare$Corner;"⟩
def dkwX0_cornerBy_4 : List UInt8 := [183, 0, 18, 176]
abbrev dktX0_cornerBy_4 : List UInt8 := dkwX0_cornerBy_4 ++ []
def dkwX0_cornerBy_3 : List UInt8 := [27, 28, 183, 0, 12, 176, 187, 0, 13, 89, 27, 28, 183, 0, 15, 176, 187, 0, 16, 89, 27, 28]
abbrev dktX0_cornerBy_3 : List UInt8 := dkwX0_cornerBy_3 ++ dktX0_cornerBy_4
def dkwX0_cornerBy_2 : List UInt8 := [187, 0, 1, 89, 27, 28, 183, 0, 3, 176, 187, 0, 7, 89, 27, 28, 183, 0, 9, 176, 187, 0, 10, 89]
abbrev dktX0_cornerBy_2 : List UInt8 := dkwX0_cornerBy_2 ++ dktX0_cornerBy_3
def dkwX0_cornerBy_1 : List UInt8 := [170, 0, 0, 0, 0, 0, 71, 0, 0, 0, 1, 0, 0, 0, 4, 0, 0, 0, 31, 0, 0, 0, 41, 0, 0, 0, 51, 0, 0, 0, 61]
abbrev dktX0_cornerBy_1 : List UInt8 := dkwX0_cornerBy_1 ++ dktX0_cornerBy_2
def dkwX0_cornerBy_0 : List UInt8 := [26]
abbrev dktX0_cornerBy_0 : List UInt8 := dkwX0_cornerBy_0 ++ dktX0_cornerBy_1
theorem dksX0_cornerBy_0 : cX0_cornerBy.data.toList.drop 0 = dktX0_cornerBy_0 := by decide +kernel
theorem dksX0_cornerBy_1 : cX0_cornerBy.data.toList.drop 1 = dktX0_cornerBy_1 := dk_seg dksX0_cornerBy_0 1 rfl rfl
theorem dksX0_cornerBy_2 : cX0_cornerBy.data.toList.drop 32 = dktX0_cornerBy_2 := dk_seg dksX0_cornerBy_1 31 rfl rfl
theorem dksX0_cornerBy_3 : cX0_cornerBy.data.toList.drop 56 = dktX0_cornerBy_3 := dk_seg dksX0_cornerBy_2 24 rfl rfl
theorem dksX0_cornerBy_4 : cX0_cornerBy.data.toList.drop 78 = dktX0_cornerBy_4 := dk_seg dksX0_cornerBy_3 22 rfl rfl
theorem dX0_cornerBy_0 : decode cX0_cornerBy 0 = .ok (.iload_n 0, 1) := dk_26 (dk_at dksX0_cornerBy_0 0 rfl rfl)
theorem dX0_cornerBy_1 : decode cX0_cornerBy 1 = .ok (.tableswitch 71 1 4 #[31, 41, 51, 61], 31) := by decide +kernel
theorem dX0_cornerBy_32 : decode cX0_cornerBy 32 = .ok (.new 1, 3) := dk_187 0 1 (dk_at dksX0_cornerBy_2 0 rfl rfl)
theorem dX0_cornerBy_35 : decode cX0_cornerBy 35 = .ok (.dup, 1) := dk_89 (dk_at dksX0_cornerBy_2 3 rfl rfl)
theorem dX0_cornerBy_36 : decode cX0_cornerBy 36 = .ok (.iload_n 1, 1) := dk_27 (dk_at dksX0_cornerBy_2 4 rfl rfl)
theorem dX0_cornerBy_37 : decode cX0_cornerBy 37 = .ok (.iload_n 2, 1) := dk_28 (dk_at dksX0_cornerBy_2 5 rfl rfl)
theorem dX0_cornerBy_38 : decode cX0_cornerBy 38 = .ok (.invokespecial 3, 3) := dk_183 0 3 (dk_at dksX0_cornerBy_2 6 rfl rfl)
theorem dX0_cornerBy_41 : decode cX0_cornerBy 41 = .ok (.areturn, 1) := dk_176 (dk_at dksX0_cornerBy_2 9 rfl rfl)
theorem dX0_cornerBy_42 : decode cX0_cornerBy 42 = .ok (.new 7, 3) := dk_187 0 7 (dk_at dksX0_cornerBy_2 10 rfl rfl)
theorem dX0_cornerBy_45 : decode cX0_cornerBy 45 = .ok (.dup, 1) := dk_89 (dk_at dksX0_cornerBy_2 13 rfl rfl)
theorem dX0_cornerBy_46 : decode cX0_cornerBy 46 = .ok (.iload_n 1, 1) := dk_27 (dk_at dksX0_cornerBy_2 14 rfl rfl)
theorem dX0_cornerBy_47 : decode cX0_cornerBy 47 = .ok (.iload_n 2, 1) := dk_28 (dk_at dksX0_cornerBy_2 15 rfl rfl)
theorem dX0_cornerBy_48 : decode cX0_cornerBy 48 = .ok (.invokespecial 9, 3) := dk_183 0 9 (dk_at dksX0_cornerBy_2 16 rfl rfl)
theorem dX0_cornerBy_51 : decode cX0_cornerBy 51 = .ok (.areturn, 1) := dk_176 (dk_at dksX0_cornerBy_2 19 rfl rfl)
theorem dX0_cornerBy_52 : decode cX0_cornerBy 52 = .ok (.new 10, 3) := dk_187 0 10 (dk_at dksX0_cornerBy_2 20 rfl rfl)
theorem dX0_cornerBy_55 : decode cX0_cornerBy 55 = .ok (.dup, 1) := dk_89 (dk_at dksX0_cornerBy_2 23 rfl rfl)
theorem dX0_cornerBy_56 : decode cX0_cornerBy 56 = .ok (.iload_n 1, 1) := dk_27 (dk_at dksX0_cornerBy_3 0 rfl rfl)
theorem dX0_cornerBy_57 : decode cX0_cornerBy 57 = .ok (.iload_n 2, 1) := dk_28 (dk_at dksX0_cornerBy_3 1 rfl rfl)
theorem dX0_cornerBy_58 : decode cX0_cornerBy 58 = .ok (.invokespecial 12, 3) := dk_183 0 12 (dk_at dksX0_cornerBy_3 2 rfl rfl)
theorem dX0_cornerBy_61 : decode cX0_cornerBy 61 = .ok (.areturn, 1) := dk_176 (dk_at dksX0_cornerBy_3 5 rfl rfl)
theorem dX0_cornerBy_62 : decode cX0_cornerBy 62 = .ok (.new 13, 3) := dk_187 0 13 (dk_at dksX0_cornerBy_3 6 rfl rfl)
theorem dX0_cornerBy_65 : decode cX0_cornerBy 65 = .ok (.dup, 1) := dk_89 (dk_at dksX0_cornerBy_3 9 rfl rfl)
theorem dX0_cornerBy_66 : decode cX0_cornerBy 66 = .ok (.iload_n 1, 1) := dk_27 (dk_at dksX0_cornerBy_3 10 rfl rfl)
theorem dX0_cornerBy_67 : decode cX0_cornerBy 67 = .ok (.iload_n 2, 1) := dk_28 (dk_at dksX0_cornerBy_3 11 rfl rfl)
theorem dX0_cornerBy_68 : decode cX0_cornerBy 68 = .ok (.invokespecial 15, 3) := dk_183 0 15 (dk_at dksX0_cornerBy_3 12 rfl rfl)
theorem dX0_cornerBy_71 : decode cX0_cornerBy 71 = .ok (.areturn, 1) := dk_176 (dk_at dksX0_cornerBy_3 15 rfl rfl)
theorem dX0_cornerBy_72 : decode cX0_cornerBy 72 = .ok (.new 16, 3) := dk_187 0 16 (dk_at dksX0_cornerBy_3 16 rfl rfl)
theorem dX0_cornerBy_75 : decode cX0_cornerBy 75 = .ok (.dup, 1) := dk_89 (dk_at dksX0_cornerBy_3 19 rfl rfl)
theorem dX0_cornerBy_76 : decode cX0_cornerBy 76 = .ok (.iload_n 1, 1) := dk_27 (dk_at dksX0_cornerBy_3 20 rfl rfl)
theorem dX0_cornerBy_77 : decode cX0_cornerBy 77 = .ok (.iload_n 2, 1) := dk_28 (dk_at dksX0_cornerBy_3 21 rfl rfl)
theorem dX0_cornerBy_78 : decode cX0_cornerBy 78 = .ok (.invokespecial 18, 3) := dk_183 0 18 (dk_at dksX0_cornerBy_4 0 rfl rfl)
theorem dX0_cornerBy_81 : decode cX0_cornerBy 81 = .ok (.areturn, 1) := dk_176 (dk_at dksX0_cornerBy_4 3 rfl rfl)
abbrev cX0_fault : ByteArray := prog_1_method_18_code
def yX0_fault : MethodName := ⟨RX0, "fault", "()I"⟩
theorem dX0_fault_0 : decode cX0_fault 0 = .ok (.aload_n 0, 1) := by decide +kernel
theorem dX0_fault_1 : decode cX0_fault 1 = .ok (.getfield 157, 3) := by decide +kernel
theorem dX0_fault_4 : decode cX0_fault 4 = .ok (.ireturn, 1) := by decide +kernel
abbrev cX0_ride : ByteArray := prog_1_method_24_code
def yX0_ride : MethodName := ⟨RX0, "ride", "(I)I"⟩
def dkwX0_ride_2 : List UInt8 := [180, 0, 46, 27, 182, 0, 194, 87, 42, 180, 0, 46, 180, 0, 197, 172]
abbrev dktX0_ride_2 : List UInt8 := dkwX0_ride_2 ++ []
def dkwX0_ride_1 : List UInt8 := [172, 42, 180, 0, 46, 180, 0, 188, 17, 3, 231, 160, 0, 6, 18, 143, 172, 42, 182, 0, 191, 42]
abbrev dktX0_ride_1 : List UInt8 := dkwX0_ride_1 ++ dktX0_ride_2
def dkwX0_ride_0 : List UInt8 := [42, 27, 182, 0, 181, 154, 0, 6, 18, 94, 172, 42, 180, 0, 46, 27, 182, 0, 184, 154, 0, 6, 18, 187]
abbrev dktX0_ride_0 : List UInt8 := dkwX0_ride_0 ++ dktX0_ride_1
theorem dksX0_ride_0 : cX0_ride.data.toList.drop 0 = dktX0_ride_0 := by decide +kernel
theorem dksX0_ride_1 : cX0_ride.data.toList.drop 24 = dktX0_ride_1 := dk_seg dksX0_ride_0 24 rfl rfl
theorem dksX0_ride_2 : cX0_ride.data.toList.drop 46 = dktX0_ride_2 := dk_seg dksX0_ride_1 22 rfl rfl
theorem dX0_ride_0 : decode cX0_ride 0 = .ok (.aload_n 0, 1) := dk_42 (dk_at dksX0_ride_0 0 rfl rfl)
theorem dX0_ride_1 : decode cX0_ride 1 = .ok (.iload_n 1, 1) := dk_27 (dk_at dksX0_ride_0 1 rfl rfl)
theorem dX0_ride_2 : decode cX0_ride 2 = .ok (.invokevirtual 181, 3) := dk_182 0 181 (dk_at dksX0_ride_0 2 rfl rfl)
theorem dX0_ride_5 : decode cX0_ride 5 = .ok (.ifCond .ne 6, 3) := dk_154 0 6 (dk_at dksX0_ride_0 5 rfl rfl)
theorem dX0_ride_8 : decode cX0_ride 8 = .ok (.ldc 94, 2) := dk_18 94 (dk_at dksX0_ride_0 8 rfl rfl)
theorem dX0_ride_10 : decode cX0_ride 10 = .ok (.ireturn, 1) := dk_172 (dk_at dksX0_ride_0 10 rfl rfl)
theorem dX0_ride_11 : decode cX0_ride 11 = .ok (.aload_n 0, 1) := dk_42 (dk_at dksX0_ride_0 11 rfl rfl)
theorem dX0_ride_12 : decode cX0_ride 12 = .ok (.getfield 46, 3) := dk_180 0 46 (dk_at dksX0_ride_0 12 rfl rfl)
theorem dX0_ride_15 : decode cX0_ride 15 = .ok (.iload_n 1, 1) := dk_27 (dk_at dksX0_ride_0 15 rfl rfl)
theorem dX0_ride_16 : decode cX0_ride 16 = .ok (.invokevirtual 184, 3) := dk_182 0 184 (dk_at dksX0_ride_0 16 rfl rfl)
theorem dX0_ride_19 : decode cX0_ride 19 = .ok (.ifCond .ne 6, 3) := dk_154 0 6 (dk_at dksX0_ride_0 19 rfl rfl)
theorem dX0_ride_22 : decode cX0_ride 22 = .ok (.ldc 187, 2) := dk_18 187 (dk_at dksX0_ride_0 22 rfl rfl)
theorem dX0_ride_24 : decode cX0_ride 24 = .ok (.ireturn, 1) := dk_172 (dk_at dksX0_ride_1 0 rfl rfl)
theorem dX0_ride_25 : decode cX0_ride 25 = .ok (.aload_n 0, 1) := dk_42 (dk_at dksX0_ride_1 1 rfl rfl)
theorem dX0_ride_26 : decode cX0_ride 26 = .ok (.getfield 46, 3) := dk_180 0 46 (dk_at dksX0_ride_1 2 rfl rfl)
theorem dX0_ride_29 : decode cX0_ride 29 = .ok (.getfield 188, 3) := dk_180 0 188 (dk_at dksX0_ride_1 5 rfl rfl)
theorem dX0_ride_32 : decode cX0_ride 32 = .ok (.sipush 999, 3) := dk_17 3 231 (dk_at dksX0_ride_1 8 rfl rfl)
theorem dX0_ride_35 : decode cX0_ride 35 = .ok (.if_icmp .ne 6, 3) := dk_160 0 6 (dk_at dksX0_ride_1 11 rfl rfl)
theorem dX0_ride_38 : decode cX0_ride 38 = .ok (.ldc 143, 2) := dk_18 143 (dk_at dksX0_ride_1 14 rfl rfl)
theorem dX0_ride_40 : decode cX0_ride 40 = .ok (.ireturn, 1) := dk_172 (dk_at dksX0_ride_1 16 rfl rfl)
theorem dX0_ride_41 : decode cX0_ride 41 = .ok (.aload_n 0, 1) := dk_42 (dk_at dksX0_ride_1 17 rfl rfl)
theorem dX0_ride_42 : decode cX0_ride 42 = .ok (.invokevirtual 191, 3) := dk_182 0 191 (dk_at dksX0_ride_1 18 rfl rfl)
theorem dX0_ride_45 : decode cX0_ride 45 = .ok (.aload_n 0, 1) := dk_42 (dk_at dksX0_ride_1 21 rfl rfl)
theorem dX0_ride_46 : decode cX0_ride 46 = .ok (.getfield 46, 3) := dk_180 0 46 (dk_at dksX0_ride_2 0 rfl rfl)
theorem dX0_ride_49 : decode cX0_ride 49 = .ok (.iload_n 1, 1) := dk_27 (dk_at dksX0_ride_2 3 rfl rfl)
theorem dX0_ride_50 : decode cX0_ride 50 = .ok (.invokevirtual 194, 3) := dk_182 0 194 (dk_at dksX0_ride_2 4 rfl rfl)
theorem dX0_ride_53 : decode cX0_ride 53 = .ok (.pop, 1) := dk_87 (dk_at dksX0_ride_2 7 rfl rfl)
theorem dX0_ride_54 : decode cX0_ride 54 = .ok (.aload_n 0, 1) := dk_42 (dk_at dksX0_ride_2 8 rfl rfl)
theorem dX0_ride_55 : decode cX0_ride 55 = .ok (.getfield 46, 3) := dk_180 0 46 (dk_at dksX0_ride_2 9 rfl rfl)
theorem dX0_ride_58 : decode cX0_ride 58 = .ok (.getfield 197, 3) := dk_180 0 197 (dk_at dksX0_ride_2 12 rfl rfl)
theorem dX0_ride_61 : decode cX0_ride 61 = .ok (.ireturn, 1) := dk_172 (dk_at dksX0_ride_2 15 rfl rfl)
abbrev cX0_isStreet : ByteArray := prog_1_method_21_code
def yX0_isStreet : MethodName := ⟨RX0, "isStreet", "(I)Z"⟩
def dkwX0_isStreet_0 : List UInt8 := [27, 133, 9, 42, 180, 0, 46, 180, 0, 174, 4, 100, 133, 184, 0, 84, 172]
abbrev dktX0_isStreet_0 : List UInt8 := dkwX0_isStreet_0 ++ []
theorem dksX0_isStreet_0 : cX0_isStreet.data.toList.drop 0 = dktX0_isStreet_0 := by decide +kernel
theorem dX0_isStreet_0 : decode cX0_isStreet 0 = .ok (.iload_n 1, 1) := dk_27 (dk_at dksX0_isStreet_0 0 rfl rfl)
theorem dX0_isStreet_1 : decode cX0_isStreet 1 = .ok (.i2l, 1) := dk_133 (dk_at dksX0_isStreet_0 1 rfl rfl)
theorem dX0_isStreet_2 : decode cX0_isStreet 2 = .ok (.lconst 0, 1) := dk_9 (dk_at dksX0_isStreet_0 2 rfl rfl)
theorem dX0_isStreet_3 : decode cX0_isStreet 3 = .ok (.aload_n 0, 1) := dk_42 (dk_at dksX0_isStreet_0 3 rfl rfl)
theorem dX0_isStreet_4 : decode cX0_isStreet 4 = .ok (.getfield 46, 3) := dk_180 0 46 (dk_at dksX0_isStreet_0 4 rfl rfl)
theorem dX0_isStreet_7 : decode cX0_isStreet 7 = .ok (.getfield 174, 3) := dk_180 0 174 (dk_at dksX0_isStreet_0 7 rfl rfl)
theorem dX0_isStreet_10 : decode cX0_isStreet 10 = .ok (.iconst 1, 1) := dk_4 (dk_at dksX0_isStreet_0 10 rfl rfl)
theorem dX0_isStreet_11 : decode cX0_isStreet 11 = .ok (.isub, 1) := dk_100 (dk_at dksX0_isStreet_0 11 rfl rfl)
theorem dX0_isStreet_12 : decode cX0_isStreet 12 = .ok (.i2l, 1) := dk_133 (dk_at dksX0_isStreet_0 12 rfl rfl)
theorem dX0_isStreet_13 : decode cX0_isStreet 13 = .ok (.invokestatic 84, 3) := dk_184 0 84 (dk_at dksX0_isStreet_0 13 rfl rfl)
theorem dX0_isStreet_16 : decode cX0_isStreet 16 = .ok (.ireturn, 1) := dk_172 (dk_at dksX0_isStreet_0 16 rfl rfl)
abbrev cX0_has : ByteArray := prog_1_method_2_code
def yX0_has : MethodName := ⟨RX0, "has", "(II)Z"⟩
def dkwX0_has_0 : List UInt8 := [26, 27, 122, 4, 126, 4, 160, 0, 7, 4, 167, 0, 4, 3, 172]
abbrev dktX0_has_0 : List UInt8 := dkwX0_has_0 ++ []
theorem dksX0_has_0 : cX0_has.data.toList.drop 0 = dktX0_has_0 := by decide +kernel
theorem dX0_has_0 : decode cX0_has 0 = .ok (.iload_n 0, 1) := dk_26 (dk_at dksX0_has_0 0 rfl rfl)
theorem dX0_has_1 : decode cX0_has 1 = .ok (.iload_n 1, 1) := dk_27 (dk_at dksX0_has_0 1 rfl rfl)
theorem dX0_has_2 : decode cX0_has 2 = .ok (.ishr, 1) := dk_122 (dk_at dksX0_has_0 2 rfl rfl)
theorem dX0_has_3 : decode cX0_has 3 = .ok (.iconst 1, 1) := dk_4 (dk_at dksX0_has_0 3 rfl rfl)
theorem dX0_has_4 : decode cX0_has 4 = .ok (.iand, 1) := dk_126 (dk_at dksX0_has_0 4 rfl rfl)
theorem dX0_has_5 : decode cX0_has 5 = .ok (.iconst 1, 1) := dk_4 (dk_at dksX0_has_0 5 rfl rfl)
theorem dX0_has_6 : decode cX0_has 6 = .ok (.if_icmp .ne 7, 3) := dk_160 0 7 (dk_at dksX0_has_0 6 rfl rfl)
theorem dX0_has_9 : decode cX0_has 9 = .ok (.iconst 1, 1) := dk_4 (dk_at dksX0_has_0 9 rfl rfl)
theorem dX0_has_10 : decode cX0_has 10 = .ok (.goto 4, 3) := dk_167 0 4 (dk_at dksX0_has_0 10 rfl rfl)
theorem dX0_has_13 : decode cX0_has 13 = .ok (.iconst 0, 1) := dk_3 (dk_at dksX0_has_0 13 rfl rfl)
theorem dX0_has_14 : decode cX0_has 14 = .ok (.ireturn, 1) := dk_172 (dk_at dksX0_has_0 14 rfl rfl)
abbrev cX0_keep : ByteArray := prog_1_method_23_code
def yX0_keep : MethodName := ⟨RX0, "keep", "()V"⟩
def dkwX0_keep_4 : List UInt8 := [180, 0, 171, 50, 42, 180, 0, 46, 182, 0, 167, 42, 89, 180, 0, 171, 4, 96, 181, 0, 171, 177]
abbrev dktX0_keep_4 : List UInt8 := dkwX0_keep_4 ++ []
def dkwX0_keep_3 : List UInt8 := [199, 0, 19, 42, 180, 0, 53, 42, 180, 0, 171, 187, 0, 43, 89, 183, 0, 45, 83, 42, 180, 0, 53, 42]
abbrev dktX0_keep_3 : List UInt8 := dkwX0_keep_3 ++ dktX0_keep_4
def dkwX0_keep_2 : List UInt8 := [16, 23, 43, 83, 42, 89, 180, 0, 171, 4, 100, 181, 0, 171, 42, 180, 0, 53, 42, 180, 0, 171, 50]
abbrev dktX0_keep_2 : List UInt8 := dkwX0_keep_2 ++ dktX0_keep_3
def dkwX0_keep_1 : List UInt8 := [42, 180, 0, 53, 28, 4, 100, 42, 180, 0, 53, 28, 50, 83, 132, 2, 1, 167, 255, 233, 42, 180, 0, 53]
abbrev dktX0_keep_1 : List UInt8 := dkwX0_keep_1 ++ dktX0_keep_2
def dkwX0_keep_0 : List UInt8 := [42, 180, 0, 171, 16, 24, 160, 0, 56, 42, 180, 0, 53, 3, 50, 76, 4, 61, 28, 16, 24, 162, 0, 23]
abbrev dktX0_keep_0 : List UInt8 := dkwX0_keep_0 ++ dktX0_keep_1
theorem dksX0_keep_0 : cX0_keep.data.toList.drop 0 = dktX0_keep_0 := by decide +kernel
theorem dksX0_keep_1 : cX0_keep.data.toList.drop 24 = dktX0_keep_1 := dk_seg dksX0_keep_0 24 rfl rfl
theorem dksX0_keep_2 : cX0_keep.data.toList.drop 48 = dktX0_keep_2 := dk_seg dksX0_keep_1 24 rfl rfl
theorem dksX0_keep_3 : cX0_keep.data.toList.drop 71 = dktX0_keep_3 := dk_seg dksX0_keep_2 23 rfl rfl
theorem dksX0_keep_4 : cX0_keep.data.toList.drop 95 = dktX0_keep_4 := dk_seg dksX0_keep_3 24 rfl rfl
theorem dX0_keep_0 : decode cX0_keep 0 = .ok (.aload_n 0, 1) := dk_42 (dk_at dksX0_keep_0 0 rfl rfl)
theorem dX0_keep_1 : decode cX0_keep 1 = .ok (.getfield 171, 3) := dk_180 0 171 (dk_at dksX0_keep_0 1 rfl rfl)
theorem dX0_keep_4 : decode cX0_keep 4 = .ok (.bipush 24, 2) := dk_16 24 (dk_at dksX0_keep_0 4 rfl rfl)
theorem dX0_keep_6 : decode cX0_keep 6 = .ok (.if_icmp .ne 56, 3) := dk_160 0 56 (dk_at dksX0_keep_0 6 rfl rfl)
theorem dX0_keep_9 : decode cX0_keep 9 = .ok (.aload_n 0, 1) := dk_42 (dk_at dksX0_keep_0 9 rfl rfl)
theorem dX0_keep_10 : decode cX0_keep 10 = .ok (.getfield 53, 3) := dk_180 0 53 (dk_at dksX0_keep_0 10 rfl rfl)
theorem dX0_keep_13 : decode cX0_keep 13 = .ok (.iconst 0, 1) := dk_3 (dk_at dksX0_keep_0 13 rfl rfl)
theorem dX0_keep_14 : decode cX0_keep 14 = .ok (.aaload, 1) := dk_50 (dk_at dksX0_keep_0 14 rfl rfl)
theorem dX0_keep_15 : decode cX0_keep 15 = .ok (.astore_n 1, 1) := dk_76 (dk_at dksX0_keep_0 15 rfl rfl)
theorem dX0_keep_16 : decode cX0_keep 16 = .ok (.iconst 1, 1) := dk_4 (dk_at dksX0_keep_0 16 rfl rfl)
theorem dX0_keep_17 : decode cX0_keep 17 = .ok (.istore_n 2, 1) := dk_61 (dk_at dksX0_keep_0 17 rfl rfl)
theorem dX0_keep_18 : decode cX0_keep 18 = .ok (.iload_n 2, 1) := dk_28 (dk_at dksX0_keep_0 18 rfl rfl)
theorem dX0_keep_19 : decode cX0_keep 19 = .ok (.bipush 24, 2) := dk_16 24 (dk_at dksX0_keep_0 19 rfl rfl)
theorem dX0_keep_21 : decode cX0_keep 21 = .ok (.if_icmp .ge 23, 3) := dk_162 0 23 (dk_at dksX0_keep_0 21 rfl rfl)
theorem dX0_keep_24 : decode cX0_keep 24 = .ok (.aload_n 0, 1) := dk_42 (dk_at dksX0_keep_1 0 rfl rfl)
theorem dX0_keep_25 : decode cX0_keep 25 = .ok (.getfield 53, 3) := dk_180 0 53 (dk_at dksX0_keep_1 1 rfl rfl)
theorem dX0_keep_28 : decode cX0_keep 28 = .ok (.iload_n 2, 1) := dk_28 (dk_at dksX0_keep_1 4 rfl rfl)
theorem dX0_keep_29 : decode cX0_keep 29 = .ok (.iconst 1, 1) := dk_4 (dk_at dksX0_keep_1 5 rfl rfl)
theorem dX0_keep_30 : decode cX0_keep 30 = .ok (.isub, 1) := dk_100 (dk_at dksX0_keep_1 6 rfl rfl)
theorem dX0_keep_31 : decode cX0_keep 31 = .ok (.aload_n 0, 1) := dk_42 (dk_at dksX0_keep_1 7 rfl rfl)
theorem dX0_keep_32 : decode cX0_keep 32 = .ok (.getfield 53, 3) := dk_180 0 53 (dk_at dksX0_keep_1 8 rfl rfl)
theorem dX0_keep_35 : decode cX0_keep 35 = .ok (.iload_n 2, 1) := dk_28 (dk_at dksX0_keep_1 11 rfl rfl)
theorem dX0_keep_36 : decode cX0_keep 36 = .ok (.aaload, 1) := dk_50 (dk_at dksX0_keep_1 12 rfl rfl)
theorem dX0_keep_37 : decode cX0_keep 37 = .ok (.aastore, 1) := dk_83 (dk_at dksX0_keep_1 13 rfl rfl)
theorem dX0_keep_38 : decode cX0_keep 38 = .ok (.iinc 2 1, 3) := dk_132 2 1 (dk_at dksX0_keep_1 14 rfl rfl)
theorem dX0_keep_41 : decode cX0_keep 41 = .ok (.goto (-23), 3) := dk_167 255 233 (dk_at dksX0_keep_1 17 rfl rfl)
theorem dX0_keep_44 : decode cX0_keep 44 = .ok (.aload_n 0, 1) := dk_42 (dk_at dksX0_keep_1 20 rfl rfl)
theorem dX0_keep_45 : decode cX0_keep 45 = .ok (.getfield 53, 3) := dk_180 0 53 (dk_at dksX0_keep_1 21 rfl rfl)
theorem dX0_keep_48 : decode cX0_keep 48 = .ok (.bipush 23, 2) := dk_16 23 (dk_at dksX0_keep_2 0 rfl rfl)
theorem dX0_keep_50 : decode cX0_keep 50 = .ok (.aload_n 1, 1) := dk_43 (dk_at dksX0_keep_2 2 rfl rfl)
theorem dX0_keep_51 : decode cX0_keep 51 = .ok (.aastore, 1) := dk_83 (dk_at dksX0_keep_2 3 rfl rfl)
theorem dX0_keep_52 : decode cX0_keep 52 = .ok (.aload_n 0, 1) := dk_42 (dk_at dksX0_keep_2 4 rfl rfl)
theorem dX0_keep_53 : decode cX0_keep 53 = .ok (.dup, 1) := dk_89 (dk_at dksX0_keep_2 5 rfl rfl)
theorem dX0_keep_54 : decode cX0_keep 54 = .ok (.getfield 171, 3) := dk_180 0 171 (dk_at dksX0_keep_2 6 rfl rfl)
theorem dX0_keep_57 : decode cX0_keep 57 = .ok (.iconst 1, 1) := dk_4 (dk_at dksX0_keep_2 9 rfl rfl)
theorem dX0_keep_58 : decode cX0_keep 58 = .ok (.isub, 1) := dk_100 (dk_at dksX0_keep_2 10 rfl rfl)
theorem dX0_keep_59 : decode cX0_keep 59 = .ok (.putfield 171, 3) := dk_181 0 171 (dk_at dksX0_keep_2 11 rfl rfl)
theorem dX0_keep_62 : decode cX0_keep 62 = .ok (.aload_n 0, 1) := dk_42 (dk_at dksX0_keep_2 14 rfl rfl)
theorem dX0_keep_63 : decode cX0_keep 63 = .ok (.getfield 53, 3) := dk_180 0 53 (dk_at dksX0_keep_2 15 rfl rfl)
theorem dX0_keep_66 : decode cX0_keep 66 = .ok (.aload_n 0, 1) := dk_42 (dk_at dksX0_keep_2 18 rfl rfl)
theorem dX0_keep_67 : decode cX0_keep 67 = .ok (.getfield 171, 3) := dk_180 0 171 (dk_at dksX0_keep_2 19 rfl rfl)
theorem dX0_keep_70 : decode cX0_keep 70 = .ok (.aaload, 1) := dk_50 (dk_at dksX0_keep_2 22 rfl rfl)
theorem dX0_keep_71 : decode cX0_keep 71 = .ok (.ifnonnull 19, 3) := dk_199 0 19 (dk_at dksX0_keep_3 0 rfl rfl)
theorem dX0_keep_74 : decode cX0_keep 74 = .ok (.aload_n 0, 1) := dk_42 (dk_at dksX0_keep_3 3 rfl rfl)
theorem dX0_keep_75 : decode cX0_keep 75 = .ok (.getfield 53, 3) := dk_180 0 53 (dk_at dksX0_keep_3 4 rfl rfl)
theorem dX0_keep_78 : decode cX0_keep 78 = .ok (.aload_n 0, 1) := dk_42 (dk_at dksX0_keep_3 7 rfl rfl)
theorem dX0_keep_79 : decode cX0_keep 79 = .ok (.getfield 171, 3) := dk_180 0 171 (dk_at dksX0_keep_3 8 rfl rfl)
theorem dX0_keep_82 : decode cX0_keep 82 = .ok (.new 43, 3) := dk_187 0 43 (dk_at dksX0_keep_3 11 rfl rfl)
theorem dX0_keep_85 : decode cX0_keep 85 = .ok (.dup, 1) := dk_89 (dk_at dksX0_keep_3 14 rfl rfl)
theorem dX0_keep_86 : decode cX0_keep 86 = .ok (.invokespecial 45, 3) := dk_183 0 45 (dk_at dksX0_keep_3 15 rfl rfl)
theorem dX0_keep_89 : decode cX0_keep 89 = .ok (.aastore, 1) := dk_83 (dk_at dksX0_keep_3 18 rfl rfl)
theorem dX0_keep_90 : decode cX0_keep 90 = .ok (.aload_n 0, 1) := dk_42 (dk_at dksX0_keep_3 19 rfl rfl)
theorem dX0_keep_91 : decode cX0_keep 91 = .ok (.getfield 53, 3) := dk_180 0 53 (dk_at dksX0_keep_3 20 rfl rfl)
theorem dX0_keep_94 : decode cX0_keep 94 = .ok (.aload_n 0, 1) := dk_42 (dk_at dksX0_keep_3 23 rfl rfl)
theorem dX0_keep_95 : decode cX0_keep 95 = .ok (.getfield 171, 3) := dk_180 0 171 (dk_at dksX0_keep_4 0 rfl rfl)
theorem dX0_keep_98 : decode cX0_keep 98 = .ok (.aaload, 1) := dk_50 (dk_at dksX0_keep_4 3 rfl rfl)
theorem dX0_keep_99 : decode cX0_keep 99 = .ok (.aload_n 0, 1) := dk_42 (dk_at dksX0_keep_4 4 rfl rfl)
theorem dX0_keep_100 : decode cX0_keep 100 = .ok (.getfield 46, 3) := dk_180 0 46 (dk_at dksX0_keep_4 5 rfl rfl)
theorem dX0_keep_103 : decode cX0_keep 103 = .ok (.invokevirtual 167, 3) := dk_182 0 167 (dk_at dksX0_keep_4 8 rfl rfl)
theorem dX0_keep_106 : decode cX0_keep 106 = .ok (.aload_n 0, 1) := dk_42 (dk_at dksX0_keep_4 11 rfl rfl)
theorem dX0_keep_107 : decode cX0_keep 107 = .ok (.dup, 1) := dk_89 (dk_at dksX0_keep_4 12 rfl rfl)
theorem dX0_keep_108 : decode cX0_keep 108 = .ok (.getfield 171, 3) := dk_180 0 171 (dk_at dksX0_keep_4 13 rfl rfl)
theorem dX0_keep_111 : decode cX0_keep 111 = .ok (.iconst 1, 1) := dk_4 (dk_at dksX0_keep_4 16 rfl rfl)
theorem dX0_keep_112 : decode cX0_keep 112 = .ok (.iadd, 1) := dk_96 (dk_at dksX0_keep_4 17 rfl rfl)
theorem dX0_keep_113 : decode cX0_keep 113 = .ok (.putfield 171, 3) := dk_181 0 171 (dk_at dksX0_keep_4 18 rfl rfl)
theorem dX0_keep_116 : decode cX0_keep 116 = .ok (.return_, 1) := dk_177 (dk_at dksX0_keep_4 21 rfl rfl)
abbrev cX0_lesson : ByteArray := prog_1_method_25_code
def yX0_lesson : MethodName := ⟨RX0, "lesson", "(II)I"⟩
def dkwX0_lesson_2 : List UInt8 := [172]
abbrev dktX0_lesson_2 : List UInt8 := dkwX0_lesson_2 ++ []
def dkwX0_lesson_1 : List UInt8 := [182, 0, 191, 42, 180, 0, 46, 180, 0, 205, 27, 46, 62, 42, 180, 0, 46, 180, 0, 205, 27, 28, 79, 29]
abbrev dktX0_lesson_1 : List UInt8 := dkwX0_lesson_1 ++ dktX0_lesson_2
def dkwX0_lesson_0 : List UInt8 := [42, 27, 182, 0, 200, 153, 0, 15, 28, 133, 9, 20, 0, 203, 184, 0, 84, 154, 0, 6, 18, 94, 172, 42]
abbrev dktX0_lesson_0 : List UInt8 := dkwX0_lesson_0 ++ dktX0_lesson_1
theorem dksX0_lesson_0 : cX0_lesson.data.toList.drop 0 = dktX0_lesson_0 := by decide +kernel
theorem dksX0_lesson_1 : cX0_lesson.data.toList.drop 24 = dktX0_lesson_1 := dk_seg dksX0_lesson_0 24 rfl rfl
theorem dksX0_lesson_2 : cX0_lesson.data.toList.drop 48 = dktX0_lesson_2 := dk_seg dksX0_lesson_1 24 rfl rfl
theorem dX0_lesson_0 : decode cX0_lesson 0 = .ok (.aload_n 0, 1) := dk_42 (dk_at dksX0_lesson_0 0 rfl rfl)
theorem dX0_lesson_1 : decode cX0_lesson 1 = .ok (.iload_n 1, 1) := dk_27 (dk_at dksX0_lesson_0 1 rfl rfl)
theorem dX0_lesson_2 : decode cX0_lesson 2 = .ok (.invokevirtual 200, 3) := dk_182 0 200 (dk_at dksX0_lesson_0 2 rfl rfl)
theorem dX0_lesson_5 : decode cX0_lesson 5 = .ok (.ifCond .eq 15, 3) := dk_153 0 15 (dk_at dksX0_lesson_0 5 rfl rfl)
theorem dX0_lesson_8 : decode cX0_lesson 8 = .ok (.iload_n 2, 1) := dk_28 (dk_at dksX0_lesson_0 8 rfl rfl)
theorem dX0_lesson_9 : decode cX0_lesson 9 = .ok (.i2l, 1) := dk_133 (dk_at dksX0_lesson_0 9 rfl rfl)
theorem dX0_lesson_10 : decode cX0_lesson 10 = .ok (.lconst 0, 1) := dk_9 (dk_at dksX0_lesson_0 10 rfl rfl)
theorem dX0_lesson_11 : decode cX0_lesson 11 = .ok (.ldc2_w 203, 3) := dk_20 0 203 (dk_at dksX0_lesson_0 11 rfl rfl)
theorem dX0_lesson_14 : decode cX0_lesson 14 = .ok (.invokestatic 84, 3) := dk_184 0 84 (dk_at dksX0_lesson_0 14 rfl rfl)
theorem dX0_lesson_17 : decode cX0_lesson 17 = .ok (.ifCond .ne 6, 3) := dk_154 0 6 (dk_at dksX0_lesson_0 17 rfl rfl)
theorem dX0_lesson_20 : decode cX0_lesson 20 = .ok (.ldc 94, 2) := dk_18 94 (dk_at dksX0_lesson_0 20 rfl rfl)
theorem dX0_lesson_22 : decode cX0_lesson 22 = .ok (.ireturn, 1) := dk_172 (dk_at dksX0_lesson_0 22 rfl rfl)
theorem dX0_lesson_23 : decode cX0_lesson 23 = .ok (.aload_n 0, 1) := dk_42 (dk_at dksX0_lesson_0 23 rfl rfl)
theorem dX0_lesson_24 : decode cX0_lesson 24 = .ok (.invokevirtual 191, 3) := dk_182 0 191 (dk_at dksX0_lesson_1 0 rfl rfl)
theorem dX0_lesson_27 : decode cX0_lesson 27 = .ok (.aload_n 0, 1) := dk_42 (dk_at dksX0_lesson_1 3 rfl rfl)
theorem dX0_lesson_28 : decode cX0_lesson 28 = .ok (.getfield 46, 3) := dk_180 0 46 (dk_at dksX0_lesson_1 4 rfl rfl)
theorem dX0_lesson_31 : decode cX0_lesson 31 = .ok (.getfield 205, 3) := dk_180 0 205 (dk_at dksX0_lesson_1 7 rfl rfl)
theorem dX0_lesson_34 : decode cX0_lesson 34 = .ok (.iload_n 1, 1) := dk_27 (dk_at dksX0_lesson_1 10 rfl rfl)
theorem dX0_lesson_35 : decode cX0_lesson 35 = .ok (.iaload, 1) := dk_46 (dk_at dksX0_lesson_1 11 rfl rfl)
theorem dX0_lesson_36 : decode cX0_lesson 36 = .ok (.istore_n 3, 1) := dk_62 (dk_at dksX0_lesson_1 12 rfl rfl)
theorem dX0_lesson_37 : decode cX0_lesson 37 = .ok (.aload_n 0, 1) := dk_42 (dk_at dksX0_lesson_1 13 rfl rfl)
theorem dX0_lesson_38 : decode cX0_lesson 38 = .ok (.getfield 46, 3) := dk_180 0 46 (dk_at dksX0_lesson_1 14 rfl rfl)
theorem dX0_lesson_41 : decode cX0_lesson 41 = .ok (.getfield 205, 3) := dk_180 0 205 (dk_at dksX0_lesson_1 17 rfl rfl)
theorem dX0_lesson_44 : decode cX0_lesson 44 = .ok (.iload_n 1, 1) := dk_27 (dk_at dksX0_lesson_1 20 rfl rfl)
theorem dX0_lesson_45 : decode cX0_lesson 45 = .ok (.iload_n 2, 1) := dk_28 (dk_at dksX0_lesson_1 21 rfl rfl)
theorem dX0_lesson_46 : decode cX0_lesson 46 = .ok (.iastore, 1) := dk_79 (dk_at dksX0_lesson_1 22 rfl rfl)
theorem dX0_lesson_47 : decode cX0_lesson 47 = .ok (.iload_n 3, 1) := dk_29 (dk_at dksX0_lesson_1 23 rfl rfl)
theorem dX0_lesson_48 : decode cX0_lesson 48 = .ok (.ireturn, 1) := dk_172 (dk_at dksX0_lesson_2 0 rfl rfl)
abbrev cX0_isCorner : ByteArray := prog_1_method_20_code
def yX0_isCorner : MethodName := ⟨RX0, "isCorner", "(I)Z"⟩
def dkwX0_isCorner_0 : List UInt8 := [27, 133, 9, 42, 180, 0, 46, 182, 0, 180, 4, 100, 133, 184, 0, 84, 172]
abbrev dktX0_isCorner_0 : List UInt8 := dkwX0_isCorner_0 ++ []
theorem dksX0_isCorner_0 : cX0_isCorner.data.toList.drop 0 = dktX0_isCorner_0 := by decide +kernel
theorem dX0_isCorner_0 : decode cX0_isCorner 0 = .ok (.iload_n 1, 1) := dk_27 (dk_at dksX0_isCorner_0 0 rfl rfl)
theorem dX0_isCorner_1 : decode cX0_isCorner 1 = .ok (.i2l, 1) := dk_133 (dk_at dksX0_isCorner_0 1 rfl rfl)
theorem dX0_isCorner_2 : decode cX0_isCorner 2 = .ok (.lconst 0, 1) := dk_9 (dk_at dksX0_isCorner_0 2 rfl rfl)
theorem dX0_isCorner_3 : decode cX0_isCorner 3 = .ok (.aload_n 0, 1) := dk_42 (dk_at dksX0_isCorner_0 3 rfl rfl)
theorem dX0_isCorner_4 : decode cX0_isCorner 4 = .ok (.getfield 46, 3) := dk_180 0 46 (dk_at dksX0_isCorner_0 4 rfl rfl)
theorem dX0_isCorner_7 : decode cX0_isCorner 7 = .ok (.invokevirtual 180, 3) := dk_182 0 180 (dk_at dksX0_isCorner_0 7 rfl rfl)
theorem dX0_isCorner_10 : decode cX0_isCorner 10 = .ok (.iconst 1, 1) := dk_4 (dk_at dksX0_isCorner_0 10 rfl rfl)
theorem dX0_isCorner_11 : decode cX0_isCorner 11 = .ok (.isub, 1) := dk_100 (dk_at dksX0_isCorner_0 11 rfl rfl)
theorem dX0_isCorner_12 : decode cX0_isCorner 12 = .ok (.i2l, 1) := dk_133 (dk_at dksX0_isCorner_0 12 rfl rfl)
theorem dX0_isCorner_13 : decode cX0_isCorner 13 = .ok (.invokestatic 84, 3) := dk_184 0 84 (dk_at dksX0_isCorner_0 13 rfl rfl)
theorem dX0_isCorner_16 : decode cX0_isCorner 16 = .ok (.ireturn, 1) := dk_172 (dk_at dksX0_isCorner_0 16 rfl rfl)
abbrev cX0_reset : ByteArray := prog_1_method_26_code
def yX0_reset : MethodName := ⟨RX0, "reset", "()I"⟩
def dkwX0_reset_1 : List UInt8 := [180, 0, 46, 3, 181, 0, 212, 27, 172]
abbrev dktX0_reset_1 : List UInt8 := dkwX0_reset_1 ++ []
def dkwX0_reset_0 : List UInt8 := [42, 182, 0, 208, 154, 0, 6, 18, 187, 172, 42, 182, 0, 191, 42, 180, 0, 46, 180, 0, 212, 60, 42]
abbrev dktX0_reset_0 : List UInt8 := dkwX0_reset_0 ++ dktX0_reset_1
theorem dksX0_reset_0 : cX0_reset.data.toList.drop 0 = dktX0_reset_0 := by decide +kernel
theorem dksX0_reset_1 : cX0_reset.data.toList.drop 23 = dktX0_reset_1 := dk_seg dksX0_reset_0 23 rfl rfl
theorem dX0_reset_0 : decode cX0_reset 0 = .ok (.aload_n 0, 1) := dk_42 (dk_at dksX0_reset_0 0 rfl rfl)
theorem dX0_reset_1 : decode cX0_reset 1 = .ok (.invokevirtual 208, 3) := dk_182 0 208 (dk_at dksX0_reset_0 1 rfl rfl)
theorem dX0_reset_4 : decode cX0_reset 4 = .ok (.ifCond .ne 6, 3) := dk_154 0 6 (dk_at dksX0_reset_0 4 rfl rfl)
theorem dX0_reset_7 : decode cX0_reset 7 = .ok (.ldc 187, 2) := dk_18 187 (dk_at dksX0_reset_0 7 rfl rfl)
theorem dX0_reset_9 : decode cX0_reset 9 = .ok (.ireturn, 1) := dk_172 (dk_at dksX0_reset_0 9 rfl rfl)
theorem dX0_reset_10 : decode cX0_reset 10 = .ok (.aload_n 0, 1) := dk_42 (dk_at dksX0_reset_0 10 rfl rfl)
theorem dX0_reset_11 : decode cX0_reset 11 = .ok (.invokevirtual 191, 3) := dk_182 0 191 (dk_at dksX0_reset_0 11 rfl rfl)
theorem dX0_reset_14 : decode cX0_reset 14 = .ok (.aload_n 0, 1) := dk_42 (dk_at dksX0_reset_0 14 rfl rfl)
theorem dX0_reset_15 : decode cX0_reset 15 = .ok (.getfield 46, 3) := dk_180 0 46 (dk_at dksX0_reset_0 15 rfl rfl)
theorem dX0_reset_18 : decode cX0_reset 18 = .ok (.getfield 212, 3) := dk_180 0 212 (dk_at dksX0_reset_0 18 rfl rfl)
theorem dX0_reset_21 : decode cX0_reset 21 = .ok (.istore_n 1, 1) := dk_60 (dk_at dksX0_reset_0 21 rfl rfl)
theorem dX0_reset_22 : decode cX0_reset 22 = .ok (.aload_n 0, 1) := dk_42 (dk_at dksX0_reset_0 22 rfl rfl)
theorem dX0_reset_23 : decode cX0_reset 23 = .ok (.getfield 46, 3) := dk_180 0 46 (dk_at dksX0_reset_1 0 rfl rfl)
theorem dX0_reset_26 : decode cX0_reset 26 = .ok (.iconst 0, 1) := dk_3 (dk_at dksX0_reset_1 3 rfl rfl)
theorem dX0_reset_27 : decode cX0_reset 27 = .ok (.putfield 212, 3) := dk_181 0 212 (dk_at dksX0_reset_1 4 rfl rfl)
theorem dX0_reset_30 : decode cX0_reset 30 = .ok (.iload_n 1, 1) := dk_27 (dk_at dksX0_reset_1 7 rfl rfl)
theorem dX0_reset_31 : decode cX0_reset 31 = .ok (.ireturn, 1) := dk_172 (dk_at dksX0_reset_1 8 rfl rfl)
abbrev cX0_isThere : ByteArray := prog_1_method_19_code
def yX0_isThere : MethodName := ⟨RX0, "isThere", "()Z"⟩
def dkwX0_isThere_0 : List UInt8 := [42, 180, 0, 46, 180, 0, 177, 158, 0, 7, 4, 167, 0, 4, 3, 172]
abbrev dktX0_isThere_0 : List UInt8 := dkwX0_isThere_0 ++ []
theorem dksX0_isThere_0 : cX0_isThere.data.toList.drop 0 = dktX0_isThere_0 := by decide +kernel
theorem dX0_isThere_0 : decode cX0_isThere 0 = .ok (.aload_n 0, 1) := dk_42 (dk_at dksX0_isThere_0 0 rfl rfl)
theorem dX0_isThere_1 : decode cX0_isThere 1 = .ok (.getfield 46, 3) := dk_180 0 46 (dk_at dksX0_isThere_0 1 rfl rfl)
theorem dX0_isThere_4 : decode cX0_isThere 4 = .ok (.getfield 177, 3) := dk_180 0 177 (dk_at dksX0_isThere_0 4 rfl rfl)
theorem dX0_isThere_7 : decode cX0_isThere 7 = .ok (.ifCond .le 7, 3) := dk_158 0 7 (dk_at dksX0_isThere_0 7 rfl rfl)
theorem dX0_isThere_10 : decode cX0_isThere 10 = .ok (.iconst 1, 1) := dk_4 (dk_at dksX0_isThere_0 10 rfl rfl)
theorem dX0_isThere_11 : decode cX0_isThere 11 = .ok (.goto 4, 3) := dk_167 0 4 (dk_at dksX0_isThere_0 11 rfl rfl)
theorem dX0_isThere_14 : decode cX0_isThere 14 = .ok (.iconst 0, 1) := dk_3 (dk_at dksX0_isThere_0 14 rfl rfl)
theorem dX0_isThere_15 : decode cX0_isThere 15 = .ok (.ireturn, 1) := dk_172 (dk_at dksX0_isThere_0 15 rfl rfl)
abbrev cX0_street : ByteArray := prog_1_method_27_code
def yX0_street : MethodName := ⟨RX0, "street", "(II)I"⟩
def dkwX0_street_3 : List UInt8 := [180, 0, 218, 172]
abbrev dktX0_street_3 : List UInt8 := dkwX0_street_3 ++ []
def dkwX0_street_2 : List UInt8 := [182, 0, 191, 42, 180, 0, 46, 89, 180, 0, 218, 4, 27, 120, 130, 181, 0, 218, 42, 180, 0, 46]
abbrev dktX0_street_2 : List UInt8 := dkwX0_street_2 ++ dktX0_street_3
def dkwX0_street_1 : List UInt8 := [180, 0, 218, 27, 184, 0, 221, 28, 4, 160, 0, 7, 4, 167, 0, 4, 3, 160, 0, 6, 18, 187, 172, 42]
abbrev dktX0_street_1 : List UInt8 := dkwX0_street_1 ++ dktX0_street_2
def dkwX0_street_0 : List UInt8 := [42, 27, 182, 0, 181, 153, 0, 10, 28, 184, 0, 215, 154, 0, 6, 18, 94, 172, 42, 180, 0, 46]
abbrev dktX0_street_0 : List UInt8 := dkwX0_street_0 ++ dktX0_street_1
theorem dksX0_street_0 : cX0_street.data.toList.drop 0 = dktX0_street_0 := by decide +kernel
theorem dksX0_street_1 : cX0_street.data.toList.drop 22 = dktX0_street_1 := dk_seg dksX0_street_0 22 rfl rfl
theorem dksX0_street_2 : cX0_street.data.toList.drop 46 = dktX0_street_2 := dk_seg dksX0_street_1 24 rfl rfl
theorem dksX0_street_3 : cX0_street.data.toList.drop 68 = dktX0_street_3 := dk_seg dksX0_street_2 22 rfl rfl
theorem dX0_street_0 : decode cX0_street 0 = .ok (.aload_n 0, 1) := dk_42 (dk_at dksX0_street_0 0 rfl rfl)
theorem dX0_street_1 : decode cX0_street 1 = .ok (.iload_n 1, 1) := dk_27 (dk_at dksX0_street_0 1 rfl rfl)
theorem dX0_street_2 : decode cX0_street 2 = .ok (.invokevirtual 181, 3) := dk_182 0 181 (dk_at dksX0_street_0 2 rfl rfl)
theorem dX0_street_5 : decode cX0_street 5 = .ok (.ifCond .eq 10, 3) := dk_153 0 10 (dk_at dksX0_street_0 5 rfl rfl)
theorem dX0_street_8 : decode cX0_street 8 = .ok (.iload_n 2, 1) := dk_28 (dk_at dksX0_street_0 8 rfl rfl)
theorem dX0_street_9 : decode cX0_street 9 = .ok (.invokestatic 215, 3) := dk_184 0 215 (dk_at dksX0_street_0 9 rfl rfl)
theorem dX0_street_12 : decode cX0_street 12 = .ok (.ifCond .ne 6, 3) := dk_154 0 6 (dk_at dksX0_street_0 12 rfl rfl)
theorem dX0_street_15 : decode cX0_street 15 = .ok (.ldc 94, 2) := dk_18 94 (dk_at dksX0_street_0 15 rfl rfl)
theorem dX0_street_17 : decode cX0_street 17 = .ok (.ireturn, 1) := dk_172 (dk_at dksX0_street_0 17 rfl rfl)
theorem dX0_street_18 : decode cX0_street 18 = .ok (.aload_n 0, 1) := dk_42 (dk_at dksX0_street_0 18 rfl rfl)
theorem dX0_street_19 : decode cX0_street 19 = .ok (.getfield 46, 3) := dk_180 0 46 (dk_at dksX0_street_0 19 rfl rfl)
theorem dX0_street_22 : decode cX0_street 22 = .ok (.getfield 218, 3) := dk_180 0 218 (dk_at dksX0_street_1 0 rfl rfl)
theorem dX0_street_25 : decode cX0_street 25 = .ok (.iload_n 1, 1) := dk_27 (dk_at dksX0_street_1 3 rfl rfl)
theorem dX0_street_26 : decode cX0_street 26 = .ok (.invokestatic 221, 3) := dk_184 0 221 (dk_at dksX0_street_1 4 rfl rfl)
theorem dX0_street_29 : decode cX0_street 29 = .ok (.iload_n 2, 1) := dk_28 (dk_at dksX0_street_1 7 rfl rfl)
theorem dX0_street_30 : decode cX0_street 30 = .ok (.iconst 1, 1) := dk_4 (dk_at dksX0_street_1 8 rfl rfl)
theorem dX0_street_31 : decode cX0_street 31 = .ok (.if_icmp .ne 7, 3) := dk_160 0 7 (dk_at dksX0_street_1 9 rfl rfl)
theorem dX0_street_34 : decode cX0_street 34 = .ok (.iconst 1, 1) := dk_4 (dk_at dksX0_street_1 12 rfl rfl)
theorem dX0_street_35 : decode cX0_street 35 = .ok (.goto 4, 3) := dk_167 0 4 (dk_at dksX0_street_1 13 rfl rfl)
theorem dX0_street_38 : decode cX0_street 38 = .ok (.iconst 0, 1) := dk_3 (dk_at dksX0_street_1 16 rfl rfl)
theorem dX0_street_39 : decode cX0_street 39 = .ok (.if_icmp .ne 6, 3) := dk_160 0 6 (dk_at dksX0_street_1 17 rfl rfl)
theorem dX0_street_42 : decode cX0_street 42 = .ok (.ldc 187, 2) := dk_18 187 (dk_at dksX0_street_1 20 rfl rfl)
theorem dX0_street_44 : decode cX0_street 44 = .ok (.ireturn, 1) := dk_172 (dk_at dksX0_street_1 22 rfl rfl)
theorem dX0_street_45 : decode cX0_street 45 = .ok (.aload_n 0, 1) := dk_42 (dk_at dksX0_street_1 23 rfl rfl)
theorem dX0_street_46 : decode cX0_street 46 = .ok (.invokevirtual 191, 3) := dk_182 0 191 (dk_at dksX0_street_2 0 rfl rfl)
theorem dX0_street_49 : decode cX0_street 49 = .ok (.aload_n 0, 1) := dk_42 (dk_at dksX0_street_2 3 rfl rfl)
theorem dX0_street_50 : decode cX0_street 50 = .ok (.getfield 46, 3) := dk_180 0 46 (dk_at dksX0_street_2 4 rfl rfl)
theorem dX0_street_53 : decode cX0_street 53 = .ok (.dup, 1) := dk_89 (dk_at dksX0_street_2 7 rfl rfl)
theorem dX0_street_54 : decode cX0_street 54 = .ok (.getfield 218, 3) := dk_180 0 218 (dk_at dksX0_street_2 8 rfl rfl)
theorem dX0_street_57 : decode cX0_street 57 = .ok (.iconst 1, 1) := dk_4 (dk_at dksX0_street_2 11 rfl rfl)
theorem dX0_street_58 : decode cX0_street 58 = .ok (.iload_n 1, 1) := dk_27 (dk_at dksX0_street_2 12 rfl rfl)
theorem dX0_street_59 : decode cX0_street 59 = .ok (.ishl, 1) := dk_120 (dk_at dksX0_street_2 13 rfl rfl)
theorem dX0_street_60 : decode cX0_street 60 = .ok (.ixor, 1) := dk_130 (dk_at dksX0_street_2 14 rfl rfl)
theorem dX0_street_61 : decode cX0_street 61 = .ok (.putfield 218, 3) := dk_181 0 218 (dk_at dksX0_street_2 15 rfl rfl)
theorem dX0_street_64 : decode cX0_street 64 = .ok (.aload_n 0, 1) := dk_42 (dk_at dksX0_street_2 18 rfl rfl)
theorem dX0_street_65 : decode cX0_street 65 = .ok (.getfield 46, 3) := dk_180 0 46 (dk_at dksX0_street_2 19 rfl rfl)
theorem dX0_street_68 : decode cX0_street 68 = .ok (.getfield 218, 3) := dk_180 0 218 (dk_at dksX0_street_3 0 rfl rfl)
theorem dX0_street_71 : decode cX0_street 71 = .ok (.ireturn, 1) := dk_172 (dk_at dksX0_street_3 3 rfl rfl)
abbrev cX0_isHalf : ByteArray := prog_1_method_22_code
def yX0_isHalf : MethodName := ⟨RX0, "isHalf", "(I)Z"⟩
def dkwX0_isHalf_0 : List UInt8 := [26, 133, 9, 10, 184, 0, 84, 172]
abbrev dktX0_isHalf_0 : List UInt8 := dkwX0_isHalf_0 ++ []
theorem dksX0_isHalf_0 : cX0_isHalf.data.toList.drop 0 = dktX0_isHalf_0 := by decide +kernel
theorem dX0_isHalf_0 : decode cX0_isHalf 0 = .ok (.iload_n 0, 1) := dk_26 (dk_at dksX0_isHalf_0 0 rfl rfl)
theorem dX0_isHalf_1 : decode cX0_isHalf 1 = .ok (.i2l, 1) := dk_133 (dk_at dksX0_isHalf_0 1 rfl rfl)
theorem dX0_isHalf_2 : decode cX0_isHalf 2 = .ok (.lconst 0, 1) := dk_9 (dk_at dksX0_isHalf_0 2 rfl rfl)
theorem dX0_isHalf_3 : decode cX0_isHalf 3 = .ok (.lconst 1, 1) := dk_10 (dk_at dksX0_isHalf_0 3 rfl rfl)
theorem dX0_isHalf_4 : decode cX0_isHalf 4 = .ok (.invokestatic 84, 3) := dk_184 0 84 (dk_at dksX0_isHalf_0 4 rfl rfl)
theorem dX0_isHalf_7 : decode cX0_isHalf 7 = .ok (.ireturn, 1) := dk_172 (dk_at dksX0_isHalf_0 7 rfl rfl)
abbrev cX0_undo : ByteArray := prog_1_method_28_code
def yX0_undo : MethodName := ⟨RX0, "undo", "()I"⟩
def dkwX0_undo_1 : List UInt8 := [42, 180, 0, 53, 42, 180, 0, 171, 50, 182, 0, 167, 42, 180, 0, 171, 172]
abbrev dktX0_undo_1 : List UInt8 := dkwX0_undo_1 ++ []
def dkwX0_undo_0 : List UInt8 := [42, 180, 0, 171, 154, 0, 6, 18, 187, 172, 42, 89, 180, 0, 171, 4, 100, 181, 0, 171, 42, 180, 0, 46]
abbrev dktX0_undo_0 : List UInt8 := dkwX0_undo_0 ++ dktX0_undo_1
theorem dksX0_undo_0 : cX0_undo.data.toList.drop 0 = dktX0_undo_0 := by decide +kernel
theorem dksX0_undo_1 : cX0_undo.data.toList.drop 24 = dktX0_undo_1 := dk_seg dksX0_undo_0 24 rfl rfl
theorem dX0_undo_0 : decode cX0_undo 0 = .ok (.aload_n 0, 1) := dk_42 (dk_at dksX0_undo_0 0 rfl rfl)
theorem dX0_undo_1 : decode cX0_undo 1 = .ok (.getfield 171, 3) := dk_180 0 171 (dk_at dksX0_undo_0 1 rfl rfl)
theorem dX0_undo_4 : decode cX0_undo 4 = .ok (.ifCond .ne 6, 3) := dk_154 0 6 (dk_at dksX0_undo_0 4 rfl rfl)
theorem dX0_undo_7 : decode cX0_undo 7 = .ok (.ldc 187, 2) := dk_18 187 (dk_at dksX0_undo_0 7 rfl rfl)
theorem dX0_undo_9 : decode cX0_undo 9 = .ok (.ireturn, 1) := dk_172 (dk_at dksX0_undo_0 9 rfl rfl)
theorem dX0_undo_10 : decode cX0_undo 10 = .ok (.aload_n 0, 1) := dk_42 (dk_at dksX0_undo_0 10 rfl rfl)
theorem dX0_undo_11 : decode cX0_undo 11 = .ok (.dup, 1) := dk_89 (dk_at dksX0_undo_0 11 rfl rfl)
theorem dX0_undo_12 : decode cX0_undo 12 = .ok (.getfield 171, 3) := dk_180 0 171 (dk_at dksX0_undo_0 12 rfl rfl)
theorem dX0_undo_15 : decode cX0_undo 15 = .ok (.iconst 1, 1) := dk_4 (dk_at dksX0_undo_0 15 rfl rfl)
theorem dX0_undo_16 : decode cX0_undo 16 = .ok (.isub, 1) := dk_100 (dk_at dksX0_undo_0 16 rfl rfl)
theorem dX0_undo_17 : decode cX0_undo 17 = .ok (.putfield 171, 3) := dk_181 0 171 (dk_at dksX0_undo_0 17 rfl rfl)
theorem dX0_undo_20 : decode cX0_undo 20 = .ok (.aload_n 0, 1) := dk_42 (dk_at dksX0_undo_0 20 rfl rfl)
theorem dX0_undo_21 : decode cX0_undo 21 = .ok (.getfield 46, 3) := dk_180 0 46 (dk_at dksX0_undo_0 21 rfl rfl)
theorem dX0_undo_24 : decode cX0_undo 24 = .ok (.aload_n 0, 1) := dk_42 (dk_at dksX0_undo_1 0 rfl rfl)
theorem dX0_undo_25 : decode cX0_undo 25 = .ok (.getfield 53, 3) := dk_180 0 53 (dk_at dksX0_undo_1 1 rfl rfl)
theorem dX0_undo_28 : decode cX0_undo 28 = .ok (.aload_n 0, 1) := dk_42 (dk_at dksX0_undo_1 4 rfl rfl)
theorem dX0_undo_29 : decode cX0_undo 29 = .ok (.getfield 171, 3) := dk_180 0 171 (dk_at dksX0_undo_1 5 rfl rfl)
theorem dX0_undo_32 : decode cX0_undo 32 = .ok (.aaload, 1) := dk_50 (dk_at dksX0_undo_1 8 rfl rfl)
theorem dX0_undo_33 : decode cX0_undo 33 = .ok (.invokevirtual 167, 3) := dk_182 0 167 (dk_at dksX0_undo_1 9 rfl rfl)
theorem dX0_undo_36 : decode cX0_undo 36 = .ok (.aload_n 0, 1) := dk_42 (dk_at dksX0_undo_1 12 rfl rfl)
theorem dX0_undo_37 : decode cX0_undo 37 = .ok (.getfield 171, 3) := dk_180 0 171 (dk_at dksX0_undo_1 13 rfl rfl)
theorem dX0_undo_40 : decode cX0_undo 40 = .ok (.ireturn, 1) := dk_172 (dk_at dksX0_undo_1 16 rfl rfl)
abbrev cX0_corner : ByteArray := prog_1_method_30_code
def yX0_corner : MethodName := ⟨RX0, "corner", "(II)I"⟩
def dkwX0_corner_4 : List UInt8 := [180, 0, 46, 180, 0, 245, 27, 182, 0, 241, 172, 42, 180, 0, 46, 27, 182, 0, 248, 172, 18, 94, 172]
abbrev dktX0_corner_4 : List UInt8 := dkwX0_corner_4 ++ []
def dkwX0_corner_3 : List UInt8 := [192, 0, 19, 182, 0, 235, 172, 42, 42, 180, 0, 46, 180, 0, 238, 27, 182, 0, 241, 172, 42, 42]
abbrev dktX0_corner_3 : List UInt8 := dkwX0_corner_3 ++ dktX0_corner_4
def dkwX0_corner_2 : List UInt8 := [42, 180, 0, 46, 180, 0, 205, 27, 46, 172, 42, 180, 0, 46, 180, 0, 225, 27, 185, 0, 229, 2, 0]
abbrev dktX0_corner_2 : List UInt8 := dkwX0_corner_2 ++ dktX0_corner_3
def dkwX0_corner_1 : List UInt8 := [170, 0, 0, 0, 0, 0, 0, 101, 0, 0, 0, 0, 0, 0, 0, 4, 0, 0, 0, 36, 0, 0, 0, 46, 0, 0, 0, 66, 0, 0, 0, 79, 0, 0, 0, 92]
abbrev dktX0_corner_1 : List UInt8 := dkwX0_corner_1 ++ dktX0_corner_2
def dkwX0_corner_0 : List UInt8 := [42, 27, 182, 0, 200, 154, 0, 6, 18, 94, 172, 28]
abbrev dktX0_corner_0 : List UInt8 := dkwX0_corner_0 ++ dktX0_corner_1
theorem dksX0_corner_0 : cX0_corner.data.toList.drop 0 = dktX0_corner_0 := by decide +kernel
theorem dksX0_corner_1 : cX0_corner.data.toList.drop 12 = dktX0_corner_1 := dk_seg dksX0_corner_0 12 rfl rfl
theorem dksX0_corner_2 : cX0_corner.data.toList.drop 48 = dktX0_corner_2 := dk_seg dksX0_corner_1 36 rfl rfl
theorem dksX0_corner_3 : cX0_corner.data.toList.drop 71 = dktX0_corner_3 := dk_seg dksX0_corner_2 23 rfl rfl
theorem dksX0_corner_4 : cX0_corner.data.toList.drop 93 = dktX0_corner_4 := dk_seg dksX0_corner_3 22 rfl rfl
theorem dX0_corner_0 : decode cX0_corner 0 = .ok (.aload_n 0, 1) := dk_42 (dk_at dksX0_corner_0 0 rfl rfl)
theorem dX0_corner_1 : decode cX0_corner 1 = .ok (.iload_n 1, 1) := dk_27 (dk_at dksX0_corner_0 1 rfl rfl)
theorem dX0_corner_2 : decode cX0_corner 2 = .ok (.invokevirtual 200, 3) := dk_182 0 200 (dk_at dksX0_corner_0 2 rfl rfl)
theorem dX0_corner_5 : decode cX0_corner 5 = .ok (.ifCond .ne 6, 3) := dk_154 0 6 (dk_at dksX0_corner_0 5 rfl rfl)
theorem dX0_corner_8 : decode cX0_corner 8 = .ok (.ldc 94, 2) := dk_18 94 (dk_at dksX0_corner_0 8 rfl rfl)
theorem dX0_corner_10 : decode cX0_corner 10 = .ok (.ireturn, 1) := dk_172 (dk_at dksX0_corner_0 10 rfl rfl)
theorem dX0_corner_11 : decode cX0_corner 11 = .ok (.iload_n 2, 1) := dk_28 (dk_at dksX0_corner_0 11 rfl rfl)
theorem dX0_corner_12 : decode cX0_corner 12 = .ok (.tableswitch 101 0 4 #[36, 46, 66, 79, 92], 36) := by decide +kernel
theorem dX0_corner_48 : decode cX0_corner 48 = .ok (.aload_n 0, 1) := dk_42 (dk_at dksX0_corner_2 0 rfl rfl)
theorem dX0_corner_49 : decode cX0_corner 49 = .ok (.getfield 46, 3) := dk_180 0 46 (dk_at dksX0_corner_2 1 rfl rfl)
theorem dX0_corner_52 : decode cX0_corner 52 = .ok (.getfield 205, 3) := dk_180 0 205 (dk_at dksX0_corner_2 4 rfl rfl)
theorem dX0_corner_55 : decode cX0_corner 55 = .ok (.iload_n 1, 1) := dk_27 (dk_at dksX0_corner_2 7 rfl rfl)
theorem dX0_corner_56 : decode cX0_corner 56 = .ok (.iaload, 1) := dk_46 (dk_at dksX0_corner_2 8 rfl rfl)
theorem dX0_corner_57 : decode cX0_corner 57 = .ok (.ireturn, 1) := dk_172 (dk_at dksX0_corner_2 9 rfl rfl)
theorem dX0_corner_58 : decode cX0_corner 58 = .ok (.aload_n 0, 1) := dk_42 (dk_at dksX0_corner_2 10 rfl rfl)
theorem dX0_corner_59 : decode cX0_corner 59 = .ok (.getfield 46, 3) := dk_180 0 46 (dk_at dksX0_corner_2 11 rfl rfl)
theorem dX0_corner_62 : decode cX0_corner 62 = .ok (.getfield 225, 3) := dk_180 0 225 (dk_at dksX0_corner_2 14 rfl rfl)
theorem dX0_corner_65 : decode cX0_corner 65 = .ok (.iload_n 1, 1) := dk_27 (dk_at dksX0_corner_2 17 rfl rfl)
theorem dX0_corner_66 : decode cX0_corner 66 = .ok (.invokeinterface 229 2, 5) := by decide +kernel
theorem dX0_corner_71 : decode cX0_corner 71 = .ok (.checkcast 19, 3) := dk_192 0 19 (dk_at dksX0_corner_3 0 rfl rfl)
theorem dX0_corner_74 : decode cX0_corner 74 = .ok (.invokevirtual 235, 3) := dk_182 0 235 (dk_at dksX0_corner_3 3 rfl rfl)
theorem dX0_corner_77 : decode cX0_corner 77 = .ok (.ireturn, 1) := dk_172 (dk_at dksX0_corner_3 6 rfl rfl)
theorem dX0_corner_78 : decode cX0_corner 78 = .ok (.aload_n 0, 1) := dk_42 (dk_at dksX0_corner_3 7 rfl rfl)
theorem dX0_corner_79 : decode cX0_corner 79 = .ok (.aload_n 0, 1) := dk_42 (dk_at dksX0_corner_3 8 rfl rfl)
theorem dX0_corner_80 : decode cX0_corner 80 = .ok (.getfield 46, 3) := dk_180 0 46 (dk_at dksX0_corner_3 9 rfl rfl)
theorem dX0_corner_83 : decode cX0_corner 83 = .ok (.getfield 238, 3) := dk_180 0 238 (dk_at dksX0_corner_3 12 rfl rfl)
theorem dX0_corner_86 : decode cX0_corner 86 = .ok (.iload_n 1, 1) := dk_27 (dk_at dksX0_corner_3 15 rfl rfl)
theorem dX0_corner_87 : decode cX0_corner 87 = .ok (.invokevirtual 241, 3) := dk_182 0 241 (dk_at dksX0_corner_3 16 rfl rfl)
theorem dX0_corner_90 : decode cX0_corner 90 = .ok (.ireturn, 1) := dk_172 (dk_at dksX0_corner_3 19 rfl rfl)
theorem dX0_corner_91 : decode cX0_corner 91 = .ok (.aload_n 0, 1) := dk_42 (dk_at dksX0_corner_3 20 rfl rfl)
theorem dX0_corner_92 : decode cX0_corner 92 = .ok (.aload_n 0, 1) := dk_42 (dk_at dksX0_corner_3 21 rfl rfl)
theorem dX0_corner_93 : decode cX0_corner 93 = .ok (.getfield 46, 3) := dk_180 0 46 (dk_at dksX0_corner_4 0 rfl rfl)
theorem dX0_corner_96 : decode cX0_corner 96 = .ok (.getfield 245, 3) := dk_180 0 245 (dk_at dksX0_corner_4 3 rfl rfl)
theorem dX0_corner_99 : decode cX0_corner 99 = .ok (.iload_n 1, 1) := dk_27 (dk_at dksX0_corner_4 6 rfl rfl)
theorem dX0_corner_100 : decode cX0_corner 100 = .ok (.invokevirtual 241, 3) := dk_182 0 241 (dk_at dksX0_corner_4 7 rfl rfl)
theorem dX0_corner_103 : decode cX0_corner 103 = .ok (.ireturn, 1) := dk_172 (dk_at dksX0_corner_4 10 rfl rfl)
theorem dX0_corner_104 : decode cX0_corner 104 = .ok (.aload_n 0, 1) := dk_42 (dk_at dksX0_corner_4 11 rfl rfl)
theorem dX0_corner_105 : decode cX0_corner 105 = .ok (.getfield 46, 3) := dk_180 0 46 (dk_at dksX0_corner_4 12 rfl rfl)
theorem dX0_corner_108 : decode cX0_corner 108 = .ok (.iload_n 1, 1) := dk_27 (dk_at dksX0_corner_4 15 rfl rfl)
theorem dX0_corner_109 : decode cX0_corner 109 = .ok (.invokevirtual 248, 3) := dk_182 0 248 (dk_at dksX0_corner_4 16 rfl rfl)
theorem dX0_corner_112 : decode cX0_corner 112 = .ok (.ireturn, 1) := dk_172 (dk_at dksX0_corner_4 19 rfl rfl)
theorem dX0_corner_113 : decode cX0_corner 113 = .ok (.ldc 94, 2) := dk_18 94 (dk_at dksX0_corner_4 20 rfl rfl)
theorem dX0_corner_115 : decode cX0_corner 115 = .ok (.ireturn, 1) := dk_172 (dk_at dksX0_corner_4 22 rfl rfl)
abbrev cX0_streetsAt : ByteArray := prog_1_method_29_code
def yX0_streetsAt : MethodName := ⟨RX0, "streetsAt", "([II)I"⟩
def dkwX0_streetsAt_1 : List UInt8 := [160, 0, 10, 4, 21, 4, 120, 167, 0, 4, 3, 128, 62, 132, 4, 1, 167, 255, 222, 29, 172]
abbrev dktX0_streetsAt_1 : List UInt8 := dkwX0_streetsAt_1 ++ []
def dkwX0_streetsAt_0 : List UInt8 := [3, 62, 3, 54, 4, 21, 4, 42, 180, 0, 46, 180, 0, 174, 162, 0, 28, 29, 43, 21, 4, 46, 28]
abbrev dktX0_streetsAt_0 : List UInt8 := dkwX0_streetsAt_0 ++ dktX0_streetsAt_1
theorem dksX0_streetsAt_0 : cX0_streetsAt.data.toList.drop 0 = dktX0_streetsAt_0 := by decide +kernel
theorem dksX0_streetsAt_1 : cX0_streetsAt.data.toList.drop 23 = dktX0_streetsAt_1 := dk_seg dksX0_streetsAt_0 23 rfl rfl
theorem dX0_streetsAt_0 : decode cX0_streetsAt 0 = .ok (.iconst 0, 1) := dk_3 (dk_at dksX0_streetsAt_0 0 rfl rfl)
theorem dX0_streetsAt_1 : decode cX0_streetsAt 1 = .ok (.istore_n 3, 1) := dk_62 (dk_at dksX0_streetsAt_0 1 rfl rfl)
theorem dX0_streetsAt_2 : decode cX0_streetsAt 2 = .ok (.iconst 0, 1) := dk_3 (dk_at dksX0_streetsAt_0 2 rfl rfl)
theorem dX0_streetsAt_3 : decode cX0_streetsAt 3 = .ok (.istore 4, 2) := dk_54 4 (dk_at dksX0_streetsAt_0 3 rfl rfl)
theorem dX0_streetsAt_5 : decode cX0_streetsAt 5 = .ok (.iload 4, 2) := dk_21 4 (dk_at dksX0_streetsAt_0 5 rfl rfl)
theorem dX0_streetsAt_7 : decode cX0_streetsAt 7 = .ok (.aload_n 0, 1) := dk_42 (dk_at dksX0_streetsAt_0 7 rfl rfl)
theorem dX0_streetsAt_8 : decode cX0_streetsAt 8 = .ok (.getfield 46, 3) := dk_180 0 46 (dk_at dksX0_streetsAt_0 8 rfl rfl)
theorem dX0_streetsAt_11 : decode cX0_streetsAt 11 = .ok (.getfield 174, 3) := dk_180 0 174 (dk_at dksX0_streetsAt_0 11 rfl rfl)
theorem dX0_streetsAt_14 : decode cX0_streetsAt 14 = .ok (.if_icmp .ge 28, 3) := dk_162 0 28 (dk_at dksX0_streetsAt_0 14 rfl rfl)
theorem dX0_streetsAt_17 : decode cX0_streetsAt 17 = .ok (.iload_n 3, 1) := dk_29 (dk_at dksX0_streetsAt_0 17 rfl rfl)
theorem dX0_streetsAt_18 : decode cX0_streetsAt 18 = .ok (.aload_n 1, 1) := dk_43 (dk_at dksX0_streetsAt_0 18 rfl rfl)
theorem dX0_streetsAt_19 : decode cX0_streetsAt 19 = .ok (.iload 4, 2) := dk_21 4 (dk_at dksX0_streetsAt_0 19 rfl rfl)
theorem dX0_streetsAt_21 : decode cX0_streetsAt 21 = .ok (.iaload, 1) := dk_46 (dk_at dksX0_streetsAt_0 21 rfl rfl)
theorem dX0_streetsAt_22 : decode cX0_streetsAt 22 = .ok (.iload_n 2, 1) := dk_28 (dk_at dksX0_streetsAt_0 22 rfl rfl)
theorem dX0_streetsAt_23 : decode cX0_streetsAt 23 = .ok (.if_icmp .ne 10, 3) := dk_160 0 10 (dk_at dksX0_streetsAt_1 0 rfl rfl)
theorem dX0_streetsAt_26 : decode cX0_streetsAt 26 = .ok (.iconst 1, 1) := dk_4 (dk_at dksX0_streetsAt_1 3 rfl rfl)
theorem dX0_streetsAt_27 : decode cX0_streetsAt 27 = .ok (.iload 4, 2) := dk_21 4 (dk_at dksX0_streetsAt_1 4 rfl rfl)
theorem dX0_streetsAt_29 : decode cX0_streetsAt 29 = .ok (.ishl, 1) := dk_120 (dk_at dksX0_streetsAt_1 6 rfl rfl)
theorem dX0_streetsAt_30 : decode cX0_streetsAt 30 = .ok (.goto 4, 3) := dk_167 0 4 (dk_at dksX0_streetsAt_1 7 rfl rfl)
theorem dX0_streetsAt_33 : decode cX0_streetsAt 33 = .ok (.iconst 0, 1) := dk_3 (dk_at dksX0_streetsAt_1 10 rfl rfl)
theorem dX0_streetsAt_34 : decode cX0_streetsAt 34 = .ok (.ior, 1) := dk_128 (dk_at dksX0_streetsAt_1 11 rfl rfl)
theorem dX0_streetsAt_35 : decode cX0_streetsAt 35 = .ok (.istore_n 3, 1) := dk_62 (dk_at dksX0_streetsAt_1 12 rfl rfl)
theorem dX0_streetsAt_36 : decode cX0_streetsAt 36 = .ok (.iinc 4 1, 3) := dk_132 4 1 (dk_at dksX0_streetsAt_1 13 rfl rfl)
theorem dX0_streetsAt_39 : decode cX0_streetsAt 39 = .ok (.goto (-34), 3) := dk_167 255 222 (dk_at dksX0_streetsAt_1 16 rfl rfl)
theorem dX0_streetsAt_42 : decode cX0_streetsAt 42 = .ok (.iload_n 3, 1) := dk_29 (dk_at dksX0_streetsAt_1 19 rfl rfl)
theorem dX0_streetsAt_43 : decode cX0_streetsAt 43 = .ok (.ireturn, 1) := dk_172 (dk_at dksX0_streetsAt_1 20 rfl rfl)
abbrev cX0_way : ByteArray := prog_1_method_31_code
def yX0_way : MethodName := ⟨RX0, "way", "(II)I"⟩
def dkwX0_way_3 : List UInt8 := [180, 0, 218, 27, 184, 0, 221, 153, 0, 7, 4, 167, 0, 4, 3, 172, 18, 94, 172]
abbrev dktX0_way_3 : List UInt8 := dkwX0_way_3 ++ []
def dkwX0_way_2 : List UInt8 := [42, 180, 0, 46, 180, 0, 238, 27, 46, 172, 42, 180, 0, 46, 180, 0, 245, 27, 46, 172, 42, 180, 0, 46]
abbrev dktX0_way_2 : List UInt8 := dkwX0_way_2 ++ dktX0_way_3
def dkwX0_way_1 : List UInt8 := [170, 0, 0, 0, 0, 0, 0, 68, 0, 0, 0, 0, 0, 0, 0, 2, 0, 0, 0, 28, 0, 0, 0, 38, 0, 0, 0, 48]
abbrev dktX0_way_1 : List UInt8 := dkwX0_way_1 ++ dktX0_way_2
def dkwX0_way_0 : List UInt8 := [42, 27, 182, 0, 181, 154, 0, 6, 18, 94, 172, 28]
abbrev dktX0_way_0 : List UInt8 := dkwX0_way_0 ++ dktX0_way_1
theorem dksX0_way_0 : cX0_way.data.toList.drop 0 = dktX0_way_0 := by decide +kernel
theorem dksX0_way_1 : cX0_way.data.toList.drop 12 = dktX0_way_1 := dk_seg dksX0_way_0 12 rfl rfl
theorem dksX0_way_2 : cX0_way.data.toList.drop 40 = dktX0_way_2 := dk_seg dksX0_way_1 28 rfl rfl
theorem dksX0_way_3 : cX0_way.data.toList.drop 64 = dktX0_way_3 := dk_seg dksX0_way_2 24 rfl rfl
theorem dX0_way_0 : decode cX0_way 0 = .ok (.aload_n 0, 1) := dk_42 (dk_at dksX0_way_0 0 rfl rfl)
theorem dX0_way_1 : decode cX0_way 1 = .ok (.iload_n 1, 1) := dk_27 (dk_at dksX0_way_0 1 rfl rfl)
theorem dX0_way_2 : decode cX0_way 2 = .ok (.invokevirtual 181, 3) := dk_182 0 181 (dk_at dksX0_way_0 2 rfl rfl)
theorem dX0_way_5 : decode cX0_way 5 = .ok (.ifCond .ne 6, 3) := dk_154 0 6 (dk_at dksX0_way_0 5 rfl rfl)
theorem dX0_way_8 : decode cX0_way 8 = .ok (.ldc 94, 2) := dk_18 94 (dk_at dksX0_way_0 8 rfl rfl)
theorem dX0_way_10 : decode cX0_way 10 = .ok (.ireturn, 1) := dk_172 (dk_at dksX0_way_0 10 rfl rfl)
theorem dX0_way_11 : decode cX0_way 11 = .ok (.iload_n 2, 1) := dk_28 (dk_at dksX0_way_0 11 rfl rfl)
theorem dX0_way_12 : decode cX0_way 12 = .ok (.tableswitch 68 0 2 #[28, 38, 48], 28) := by decide +kernel
theorem dX0_way_40 : decode cX0_way 40 = .ok (.aload_n 0, 1) := dk_42 (dk_at dksX0_way_2 0 rfl rfl)
theorem dX0_way_41 : decode cX0_way 41 = .ok (.getfield 46, 3) := dk_180 0 46 (dk_at dksX0_way_2 1 rfl rfl)
theorem dX0_way_44 : decode cX0_way 44 = .ok (.getfield 238, 3) := dk_180 0 238 (dk_at dksX0_way_2 4 rfl rfl)
theorem dX0_way_47 : decode cX0_way 47 = .ok (.iload_n 1, 1) := dk_27 (dk_at dksX0_way_2 7 rfl rfl)
theorem dX0_way_48 : decode cX0_way 48 = .ok (.iaload, 1) := dk_46 (dk_at dksX0_way_2 8 rfl rfl)
theorem dX0_way_49 : decode cX0_way 49 = .ok (.ireturn, 1) := dk_172 (dk_at dksX0_way_2 9 rfl rfl)
theorem dX0_way_50 : decode cX0_way 50 = .ok (.aload_n 0, 1) := dk_42 (dk_at dksX0_way_2 10 rfl rfl)
theorem dX0_way_51 : decode cX0_way 51 = .ok (.getfield 46, 3) := dk_180 0 46 (dk_at dksX0_way_2 11 rfl rfl)
theorem dX0_way_54 : decode cX0_way 54 = .ok (.getfield 245, 3) := dk_180 0 245 (dk_at dksX0_way_2 14 rfl rfl)
theorem dX0_way_57 : decode cX0_way 57 = .ok (.iload_n 1, 1) := dk_27 (dk_at dksX0_way_2 17 rfl rfl)
theorem dX0_way_58 : decode cX0_way 58 = .ok (.iaload, 1) := dk_46 (dk_at dksX0_way_2 18 rfl rfl)
theorem dX0_way_59 : decode cX0_way 59 = .ok (.ireturn, 1) := dk_172 (dk_at dksX0_way_2 19 rfl rfl)
theorem dX0_way_60 : decode cX0_way 60 = .ok (.aload_n 0, 1) := dk_42 (dk_at dksX0_way_2 20 rfl rfl)
theorem dX0_way_61 : decode cX0_way 61 = .ok (.getfield 46, 3) := dk_180 0 46 (dk_at dksX0_way_2 21 rfl rfl)
theorem dX0_way_64 : decode cX0_way 64 = .ok (.getfield 218, 3) := dk_180 0 218 (dk_at dksX0_way_3 0 rfl rfl)
theorem dX0_way_67 : decode cX0_way 67 = .ok (.iload_n 1, 1) := dk_27 (dk_at dksX0_way_3 3 rfl rfl)
theorem dX0_way_68 : decode cX0_way 68 = .ok (.invokestatic 221, 3) := dk_184 0 221 (dk_at dksX0_way_3 4 rfl rfl)
theorem dX0_way_71 : decode cX0_way 71 = .ok (.ifCond .eq 7, 3) := dk_153 0 7 (dk_at dksX0_way_3 7 rfl rfl)
theorem dX0_way_74 : decode cX0_way 74 = .ok (.iconst 1, 1) := dk_4 (dk_at dksX0_way_3 10 rfl rfl)
theorem dX0_way_75 : decode cX0_way 75 = .ok (.goto 4, 3) := dk_167 0 4 (dk_at dksX0_way_3 11 rfl rfl)
theorem dX0_way_78 : decode cX0_way 78 = .ok (.iconst 0, 1) := dk_3 (dk_at dksX0_way_3 14 rfl rfl)
theorem dX0_way_79 : decode cX0_way 79 = .ok (.ireturn, 1) := dk_172 (dk_at dksX0_way_3 15 rfl rfl)
theorem dX0_way_80 : decode cX0_way 80 = .ok (.ldc 94, 2) := dk_18 94 (dk_at dksX0_way_3 16 rfl rfl)
theorem dX0_way_82 : decode cX0_way 82 = .ok (.ireturn, 1) := dk_172 (dk_at dksX0_way_3 18 rfl rfl)
abbrev cX0_would : ByteArray := prog_1_method_33_code
def yX0_would : MethodName := ⟨RX0, "would", "(II)I"⟩
def dkwX0_would_2 : List UInt8 := [27, 46, 182, 0, 248, 167, 0, 11, 42, 180, 0, 46, 27, 182, 0, 252, 172]
abbrev dktX0_would_2 : List UInt8 := dkwX0_would_2 ++ []
def dkwX0_would_1 : List UInt8 := [182, 0, 184, 154, 0, 6, 18, 251, 172, 28, 154, 0, 22, 42, 180, 0, 46, 42, 180, 0, 46, 180, 0, 245]
abbrev dktX0_would_1 : List UInt8 := dkwX0_would_1 ++ dktX0_would_2
def dkwX0_would_0 : List UInt8 := [42, 27, 182, 0, 181, 153, 0, 10, 28, 184, 0, 215, 154, 0, 6, 18, 94, 172, 42, 180, 0, 46, 27]
abbrev dktX0_would_0 : List UInt8 := dkwX0_would_0 ++ dktX0_would_1
theorem dksX0_would_0 : cX0_would.data.toList.drop 0 = dktX0_would_0 := by decide +kernel
theorem dksX0_would_1 : cX0_would.data.toList.drop 23 = dktX0_would_1 := dk_seg dksX0_would_0 23 rfl rfl
theorem dksX0_would_2 : cX0_would.data.toList.drop 47 = dktX0_would_2 := dk_seg dksX0_would_1 24 rfl rfl
theorem dX0_would_0 : decode cX0_would 0 = .ok (.aload_n 0, 1) := dk_42 (dk_at dksX0_would_0 0 rfl rfl)
theorem dX0_would_1 : decode cX0_would 1 = .ok (.iload_n 1, 1) := dk_27 (dk_at dksX0_would_0 1 rfl rfl)
theorem dX0_would_2 : decode cX0_would 2 = .ok (.invokevirtual 181, 3) := dk_182 0 181 (dk_at dksX0_would_0 2 rfl rfl)
theorem dX0_would_5 : decode cX0_would 5 = .ok (.ifCond .eq 10, 3) := dk_153 0 10 (dk_at dksX0_would_0 5 rfl rfl)
theorem dX0_would_8 : decode cX0_would 8 = .ok (.iload_n 2, 1) := dk_28 (dk_at dksX0_would_0 8 rfl rfl)
theorem dX0_would_9 : decode cX0_would 9 = .ok (.invokestatic 215, 3) := dk_184 0 215 (dk_at dksX0_would_0 9 rfl rfl)
theorem dX0_would_12 : decode cX0_would 12 = .ok (.ifCond .ne 6, 3) := dk_154 0 6 (dk_at dksX0_would_0 12 rfl rfl)
theorem dX0_would_15 : decode cX0_would 15 = .ok (.ldc 94, 2) := dk_18 94 (dk_at dksX0_would_0 15 rfl rfl)
theorem dX0_would_17 : decode cX0_would 17 = .ok (.ireturn, 1) := dk_172 (dk_at dksX0_would_0 17 rfl rfl)
theorem dX0_would_18 : decode cX0_would 18 = .ok (.aload_n 0, 1) := dk_42 (dk_at dksX0_would_0 18 rfl rfl)
theorem dX0_would_19 : decode cX0_would 19 = .ok (.getfield 46, 3) := dk_180 0 46 (dk_at dksX0_would_0 19 rfl rfl)
theorem dX0_would_22 : decode cX0_would 22 = .ok (.iload_n 1, 1) := dk_27 (dk_at dksX0_would_0 22 rfl rfl)
theorem dX0_would_23 : decode cX0_would 23 = .ok (.invokevirtual 184, 3) := dk_182 0 184 (dk_at dksX0_would_1 0 rfl rfl)
theorem dX0_would_26 : decode cX0_would 26 = .ok (.ifCond .ne 6, 3) := dk_154 0 6 (dk_at dksX0_would_1 3 rfl rfl)
theorem dX0_would_29 : decode cX0_would 29 = .ok (.ldc 251, 2) := dk_18 251 (dk_at dksX0_would_1 6 rfl rfl)
theorem dX0_would_31 : decode cX0_would 31 = .ok (.ireturn, 1) := dk_172 (dk_at dksX0_would_1 8 rfl rfl)
theorem dX0_would_32 : decode cX0_would 32 = .ok (.iload_n 2, 1) := dk_28 (dk_at dksX0_would_1 9 rfl rfl)
theorem dX0_would_33 : decode cX0_would 33 = .ok (.ifCond .ne 22, 3) := dk_154 0 22 (dk_at dksX0_would_1 10 rfl rfl)
theorem dX0_would_36 : decode cX0_would 36 = .ok (.aload_n 0, 1) := dk_42 (dk_at dksX0_would_1 13 rfl rfl)
theorem dX0_would_37 : decode cX0_would 37 = .ok (.getfield 46, 3) := dk_180 0 46 (dk_at dksX0_would_1 14 rfl rfl)
theorem dX0_would_40 : decode cX0_would 40 = .ok (.aload_n 0, 1) := dk_42 (dk_at dksX0_would_1 17 rfl rfl)
theorem dX0_would_41 : decode cX0_would 41 = .ok (.getfield 46, 3) := dk_180 0 46 (dk_at dksX0_would_1 18 rfl rfl)
theorem dX0_would_44 : decode cX0_would 44 = .ok (.getfield 245, 3) := dk_180 0 245 (dk_at dksX0_would_1 21 rfl rfl)
theorem dX0_would_47 : decode cX0_would 47 = .ok (.iload_n 1, 1) := dk_27 (dk_at dksX0_would_2 0 rfl rfl)
theorem dX0_would_48 : decode cX0_would 48 = .ok (.iaload, 1) := dk_46 (dk_at dksX0_would_2 1 rfl rfl)
theorem dX0_would_49 : decode cX0_would 49 = .ok (.invokevirtual 248, 3) := dk_182 0 248 (dk_at dksX0_would_2 2 rfl rfl)
theorem dX0_would_52 : decode cX0_would 52 = .ok (.goto 11, 3) := dk_167 0 11 (dk_at dksX0_would_2 5 rfl rfl)
theorem dX0_would_55 : decode cX0_would 55 = .ok (.aload_n 0, 1) := dk_42 (dk_at dksX0_would_2 8 rfl rfl)
theorem dX0_would_56 : decode cX0_would 56 = .ok (.getfield 46, 3) := dk_180 0 46 (dk_at dksX0_would_2 9 rfl rfl)
theorem dX0_would_59 : decode cX0_would 59 = .ok (.iload_n 1, 1) := dk_27 (dk_at dksX0_would_2 12 rfl rfl)
theorem dX0_would_60 : decode cX0_would 60 = .ok (.invokevirtual 252, 3) := dk_182 0 252 (dk_at dksX0_would_2 13 rfl rfl)
theorem dX0_would_63 : decode cX0_would 63 = .ok (.ireturn, 1) := dk_172 (dk_at dksX0_would_2 16 rfl rfl)
abbrev cX0_reach : ByteArray := prog_1_method_34_code
def yX0_reach : MethodName := ⟨RX0, "reach", "()I"⟩
def dkwX0_reach_4 : List UInt8 := [132, 2, 1, 167, 255, 184, 27, 172]
abbrev dktX0_reach_4 : List UInt8 := dkwX0_reach_4 ++ []
def dkwX0_reach_3 : List UInt8 := [153, 0, 17, 27, 4, 42, 180, 0, 46, 180, 0, 245, 29, 46, 120, 128, 60, 132, 3, 1, 167, 255, 198]
abbrev dktX0_reach_3 : List UInt8 := dkwX0_reach_3 ++ dktX0_reach_4
def dkwX0_reach_2 : List UInt8 := [180, 0, 218, 29, 184, 0, 221, 153, 0, 33, 27, 42, 180, 0, 46, 180, 0, 238, 29, 46, 184, 0, 221]
abbrev dktX0_reach_2 : List UInt8 := dkwX0_reach_2 ++ dktX0_reach_3
def dkwX0_reach_1 : List UInt8 := [16, 6, 162, 0, 72, 3, 62, 29, 42, 180, 0, 46, 180, 0, 174, 162, 0, 53, 42, 180, 0, 46]
abbrev dktX0_reach_1 : List UInt8 := dkwX0_reach_1 ++ dktX0_reach_2
def dkwX0_reach_0 : List UInt8 := [42, 182, 0, 208, 154, 0, 6, 18, 187, 172, 4, 42, 180, 0, 46, 180, 0, 255, 120, 60, 3, 61, 28]
abbrev dktX0_reach_0 : List UInt8 := dkwX0_reach_0 ++ dktX0_reach_1
theorem dksX0_reach_0 : cX0_reach.data.toList.drop 0 = dktX0_reach_0 := by decide +kernel
theorem dksX0_reach_1 : cX0_reach.data.toList.drop 23 = dktX0_reach_1 := dk_seg dksX0_reach_0 23 rfl rfl
theorem dksX0_reach_2 : cX0_reach.data.toList.drop 45 = dktX0_reach_2 := dk_seg dksX0_reach_1 22 rfl rfl
theorem dksX0_reach_3 : cX0_reach.data.toList.drop 68 = dktX0_reach_3 := dk_seg dksX0_reach_2 23 rfl rfl
theorem dksX0_reach_4 : cX0_reach.data.toList.drop 91 = dktX0_reach_4 := dk_seg dksX0_reach_3 23 rfl rfl
theorem dX0_reach_0 : decode cX0_reach 0 = .ok (.aload_n 0, 1) := dk_42 (dk_at dksX0_reach_0 0 rfl rfl)
theorem dX0_reach_1 : decode cX0_reach 1 = .ok (.invokevirtual 208, 3) := dk_182 0 208 (dk_at dksX0_reach_0 1 rfl rfl)
theorem dX0_reach_4 : decode cX0_reach 4 = .ok (.ifCond .ne 6, 3) := dk_154 0 6 (dk_at dksX0_reach_0 4 rfl rfl)
theorem dX0_reach_7 : decode cX0_reach 7 = .ok (.ldc 187, 2) := dk_18 187 (dk_at dksX0_reach_0 7 rfl rfl)
theorem dX0_reach_9 : decode cX0_reach 9 = .ok (.ireturn, 1) := dk_172 (dk_at dksX0_reach_0 9 rfl rfl)
theorem dX0_reach_10 : decode cX0_reach 10 = .ok (.iconst 1, 1) := dk_4 (dk_at dksX0_reach_0 10 rfl rfl)
theorem dX0_reach_11 : decode cX0_reach 11 = .ok (.aload_n 0, 1) := dk_42 (dk_at dksX0_reach_0 11 rfl rfl)
theorem dX0_reach_12 : decode cX0_reach 12 = .ok (.getfield 46, 3) := dk_180 0 46 (dk_at dksX0_reach_0 12 rfl rfl)
theorem dX0_reach_15 : decode cX0_reach 15 = .ok (.getfield 255, 3) := dk_180 0 255 (dk_at dksX0_reach_0 15 rfl rfl)
theorem dX0_reach_18 : decode cX0_reach 18 = .ok (.ishl, 1) := dk_120 (dk_at dksX0_reach_0 18 rfl rfl)
theorem dX0_reach_19 : decode cX0_reach 19 = .ok (.istore_n 1, 1) := dk_60 (dk_at dksX0_reach_0 19 rfl rfl)
theorem dX0_reach_20 : decode cX0_reach 20 = .ok (.iconst 0, 1) := dk_3 (dk_at dksX0_reach_0 20 rfl rfl)
theorem dX0_reach_21 : decode cX0_reach 21 = .ok (.istore_n 2, 1) := dk_61 (dk_at dksX0_reach_0 21 rfl rfl)
theorem dX0_reach_22 : decode cX0_reach 22 = .ok (.iload_n 2, 1) := dk_28 (dk_at dksX0_reach_0 22 rfl rfl)
theorem dX0_reach_23 : decode cX0_reach 23 = .ok (.bipush 6, 2) := dk_16 6 (dk_at dksX0_reach_1 0 rfl rfl)
theorem dX0_reach_25 : decode cX0_reach 25 = .ok (.if_icmp .ge 72, 3) := dk_162 0 72 (dk_at dksX0_reach_1 2 rfl rfl)
theorem dX0_reach_28 : decode cX0_reach 28 = .ok (.iconst 0, 1) := dk_3 (dk_at dksX0_reach_1 5 rfl rfl)
theorem dX0_reach_29 : decode cX0_reach 29 = .ok (.istore_n 3, 1) := dk_62 (dk_at dksX0_reach_1 6 rfl rfl)
theorem dX0_reach_30 : decode cX0_reach 30 = .ok (.iload_n 3, 1) := dk_29 (dk_at dksX0_reach_1 7 rfl rfl)
theorem dX0_reach_31 : decode cX0_reach 31 = .ok (.aload_n 0, 1) := dk_42 (dk_at dksX0_reach_1 8 rfl rfl)
theorem dX0_reach_32 : decode cX0_reach 32 = .ok (.getfield 46, 3) := dk_180 0 46 (dk_at dksX0_reach_1 9 rfl rfl)
theorem dX0_reach_35 : decode cX0_reach 35 = .ok (.getfield 174, 3) := dk_180 0 174 (dk_at dksX0_reach_1 12 rfl rfl)
theorem dX0_reach_38 : decode cX0_reach 38 = .ok (.if_icmp .ge 53, 3) := dk_162 0 53 (dk_at dksX0_reach_1 15 rfl rfl)
theorem dX0_reach_41 : decode cX0_reach 41 = .ok (.aload_n 0, 1) := dk_42 (dk_at dksX0_reach_1 18 rfl rfl)
theorem dX0_reach_42 : decode cX0_reach 42 = .ok (.getfield 46, 3) := dk_180 0 46 (dk_at dksX0_reach_1 19 rfl rfl)
theorem dX0_reach_45 : decode cX0_reach 45 = .ok (.getfield 218, 3) := dk_180 0 218 (dk_at dksX0_reach_2 0 rfl rfl)
theorem dX0_reach_48 : decode cX0_reach 48 = .ok (.iload_n 3, 1) := dk_29 (dk_at dksX0_reach_2 3 rfl rfl)
theorem dX0_reach_49 : decode cX0_reach 49 = .ok (.invokestatic 221, 3) := dk_184 0 221 (dk_at dksX0_reach_2 4 rfl rfl)
theorem dX0_reach_52 : decode cX0_reach 52 = .ok (.ifCond .eq 33, 3) := dk_153 0 33 (dk_at dksX0_reach_2 7 rfl rfl)
theorem dX0_reach_55 : decode cX0_reach 55 = .ok (.iload_n 1, 1) := dk_27 (dk_at dksX0_reach_2 10 rfl rfl)
theorem dX0_reach_56 : decode cX0_reach 56 = .ok (.aload_n 0, 1) := dk_42 (dk_at dksX0_reach_2 11 rfl rfl)
theorem dX0_reach_57 : decode cX0_reach 57 = .ok (.getfield 46, 3) := dk_180 0 46 (dk_at dksX0_reach_2 12 rfl rfl)
theorem dX0_reach_60 : decode cX0_reach 60 = .ok (.getfield 238, 3) := dk_180 0 238 (dk_at dksX0_reach_2 15 rfl rfl)
theorem dX0_reach_63 : decode cX0_reach 63 = .ok (.iload_n 3, 1) := dk_29 (dk_at dksX0_reach_2 18 rfl rfl)
theorem dX0_reach_64 : decode cX0_reach 64 = .ok (.iaload, 1) := dk_46 (dk_at dksX0_reach_2 19 rfl rfl)
theorem dX0_reach_65 : decode cX0_reach 65 = .ok (.invokestatic 221, 3) := dk_184 0 221 (dk_at dksX0_reach_2 20 rfl rfl)
theorem dX0_reach_68 : decode cX0_reach 68 = .ok (.ifCond .eq 17, 3) := dk_153 0 17 (dk_at dksX0_reach_3 0 rfl rfl)
theorem dX0_reach_71 : decode cX0_reach 71 = .ok (.iload_n 1, 1) := dk_27 (dk_at dksX0_reach_3 3 rfl rfl)
theorem dX0_reach_72 : decode cX0_reach 72 = .ok (.iconst 1, 1) := dk_4 (dk_at dksX0_reach_3 4 rfl rfl)
theorem dX0_reach_73 : decode cX0_reach 73 = .ok (.aload_n 0, 1) := dk_42 (dk_at dksX0_reach_3 5 rfl rfl)
theorem dX0_reach_74 : decode cX0_reach 74 = .ok (.getfield 46, 3) := dk_180 0 46 (dk_at dksX0_reach_3 6 rfl rfl)
theorem dX0_reach_77 : decode cX0_reach 77 = .ok (.getfield 245, 3) := dk_180 0 245 (dk_at dksX0_reach_3 9 rfl rfl)
theorem dX0_reach_80 : decode cX0_reach 80 = .ok (.iload_n 3, 1) := dk_29 (dk_at dksX0_reach_3 12 rfl rfl)
theorem dX0_reach_81 : decode cX0_reach 81 = .ok (.iaload, 1) := dk_46 (dk_at dksX0_reach_3 13 rfl rfl)
theorem dX0_reach_82 : decode cX0_reach 82 = .ok (.ishl, 1) := dk_120 (dk_at dksX0_reach_3 14 rfl rfl)
theorem dX0_reach_83 : decode cX0_reach 83 = .ok (.ior, 1) := dk_128 (dk_at dksX0_reach_3 15 rfl rfl)
theorem dX0_reach_84 : decode cX0_reach 84 = .ok (.istore_n 1, 1) := dk_60 (dk_at dksX0_reach_3 16 rfl rfl)
theorem dX0_reach_85 : decode cX0_reach 85 = .ok (.iinc 3 1, 3) := dk_132 3 1 (dk_at dksX0_reach_3 17 rfl rfl)
theorem dX0_reach_88 : decode cX0_reach 88 = .ok (.goto (-58), 3) := dk_167 255 198 (dk_at dksX0_reach_3 20 rfl rfl)
theorem dX0_reach_91 : decode cX0_reach 91 = .ok (.iinc 2 1, 3) := dk_132 2 1 (dk_at dksX0_reach_4 0 rfl rfl)
theorem dX0_reach_94 : decode cX0_reach 94 = .ok (.goto (-72), 3) := dk_167 255 184 (dk_at dksX0_reach_4 3 rfl rfl)
theorem dX0_reach_97 : decode cX0_reach 97 = .ok (.iload_n 1, 1) := dk_27 (dk_at dksX0_reach_4 6 rfl rfl)
theorem dX0_reach_98 : decode cX0_reach 98 = .ok (.ireturn, 1) := dk_172 (dk_at dksX0_reach_4 7 rfl rfl)
abbrev cX0_cheapest : ByteArray := prog_1_method_38_code
def yX0_cheapest : MethodName := ⟨RX0, "cheapest", "(II)I"⟩
def dkwX0_cheapest_3 : List UInt8 := [180, 1, 35, 162, 0, 12, 42, 180, 0, 74, 28, 46, 167, 0, 5, 18, 251, 172]
abbrev dktX0_cheapest_3 : List UInt8 := dkwX0_cheapest_3 ++ []
def dkwX0_cheapest_2 : List UInt8 := [160, 0, 8, 45, 180, 1, 33, 172, 28, 16, 254, 160, 0, 10, 45, 180, 1, 35, 167, 0, 22, 28, 45]
abbrev dktX0_cheapest_2 : List UInt8 := dkwX0_cheapest_2 ++ dktX0_cheapest_3
def dkwX0_cheapest_1 : List UInt8 := [172, 42, 182, 1, 25, 87, 42, 27, 182, 1, 29, 78, 45, 180, 1, 33, 18, 251, 159, 0, 8, 28, 2]
abbrev dktX0_cheapest_1 : List UInt8 := dkwX0_cheapest_1 ++ dktX0_cheapest_2
def dkwX0_cheapest_0 : List UInt8 := [42, 27, 182, 0, 200, 153, 0, 17, 28, 133, 20, 1, 23, 20, 0, 82, 184, 0, 84, 154, 0, 6, 18, 94]
abbrev dktX0_cheapest_0 : List UInt8 := dkwX0_cheapest_0 ++ dktX0_cheapest_1
theorem dksX0_cheapest_0 : cX0_cheapest.data.toList.drop 0 = dktX0_cheapest_0 := by decide +kernel
theorem dksX0_cheapest_1 : cX0_cheapest.data.toList.drop 24 = dktX0_cheapest_1 := dk_seg dksX0_cheapest_0 24 rfl rfl
theorem dksX0_cheapest_2 : cX0_cheapest.data.toList.drop 47 = dktX0_cheapest_2 := dk_seg dksX0_cheapest_1 23 rfl rfl
theorem dksX0_cheapest_3 : cX0_cheapest.data.toList.drop 70 = dktX0_cheapest_3 := dk_seg dksX0_cheapest_2 23 rfl rfl
theorem dX0_cheapest_0 : decode cX0_cheapest 0 = .ok (.aload_n 0, 1) := dk_42 (dk_at dksX0_cheapest_0 0 rfl rfl)
theorem dX0_cheapest_1 : decode cX0_cheapest 1 = .ok (.iload_n 1, 1) := dk_27 (dk_at dksX0_cheapest_0 1 rfl rfl)
theorem dX0_cheapest_2 : decode cX0_cheapest 2 = .ok (.invokevirtual 200, 3) := dk_182 0 200 (dk_at dksX0_cheapest_0 2 rfl rfl)
theorem dX0_cheapest_5 : decode cX0_cheapest 5 = .ok (.ifCond .eq 17, 3) := dk_153 0 17 (dk_at dksX0_cheapest_0 5 rfl rfl)
theorem dX0_cheapest_8 : decode cX0_cheapest 8 = .ok (.iload_n 2, 1) := dk_28 (dk_at dksX0_cheapest_0 8 rfl rfl)
theorem dX0_cheapest_9 : decode cX0_cheapest 9 = .ok (.i2l, 1) := dk_133 (dk_at dksX0_cheapest_0 9 rfl rfl)
theorem dX0_cheapest_10 : decode cX0_cheapest 10 = .ok (.ldc2_w 279, 3) := dk_20 1 23 (dk_at dksX0_cheapest_0 10 rfl rfl)
theorem dX0_cheapest_13 : decode cX0_cheapest 13 = .ok (.ldc2_w 82, 3) := dk_20 0 82 (dk_at dksX0_cheapest_0 13 rfl rfl)
theorem dX0_cheapest_16 : decode cX0_cheapest 16 = .ok (.invokestatic 84, 3) := dk_184 0 84 (dk_at dksX0_cheapest_0 16 rfl rfl)
theorem dX0_cheapest_19 : decode cX0_cheapest 19 = .ok (.ifCond .ne 6, 3) := dk_154 0 6 (dk_at dksX0_cheapest_0 19 rfl rfl)
theorem dX0_cheapest_22 : decode cX0_cheapest 22 = .ok (.ldc 94, 2) := dk_18 94 (dk_at dksX0_cheapest_0 22 rfl rfl)
theorem dX0_cheapest_24 : decode cX0_cheapest 24 = .ok (.ireturn, 1) := dk_172 (dk_at dksX0_cheapest_1 0 rfl rfl)
theorem dX0_cheapest_25 : decode cX0_cheapest 25 = .ok (.aload_n 0, 1) := dk_42 (dk_at dksX0_cheapest_1 1 rfl rfl)
theorem dX0_cheapest_26 : decode cX0_cheapest 26 = .ok (.invokevirtual 281, 3) := dk_182 1 25 (dk_at dksX0_cheapest_1 2 rfl rfl)
theorem dX0_cheapest_29 : decode cX0_cheapest 29 = .ok (.pop, 1) := dk_87 (dk_at dksX0_cheapest_1 5 rfl rfl)
theorem dX0_cheapest_30 : decode cX0_cheapest 30 = .ok (.aload_n 0, 1) := dk_42 (dk_at dksX0_cheapest_1 6 rfl rfl)
theorem dX0_cheapest_31 : decode cX0_cheapest 31 = .ok (.iload_n 1, 1) := dk_27 (dk_at dksX0_cheapest_1 7 rfl rfl)
theorem dX0_cheapest_32 : decode cX0_cheapest 32 = .ok (.invokevirtual 285, 3) := dk_182 1 29 (dk_at dksX0_cheapest_1 8 rfl rfl)
theorem dX0_cheapest_35 : decode cX0_cheapest 35 = .ok (.astore_n 3, 1) := dk_78 (dk_at dksX0_cheapest_1 11 rfl rfl)
theorem dX0_cheapest_36 : decode cX0_cheapest 36 = .ok (.aload_n 3, 1) := dk_45 (dk_at dksX0_cheapest_1 12 rfl rfl)
theorem dX0_cheapest_37 : decode cX0_cheapest 37 = .ok (.getfield 289, 3) := dk_180 1 33 (dk_at dksX0_cheapest_1 13 rfl rfl)
theorem dX0_cheapest_40 : decode cX0_cheapest 40 = .ok (.ldc 251, 2) := dk_18 251 (dk_at dksX0_cheapest_1 16 rfl rfl)
theorem dX0_cheapest_42 : decode cX0_cheapest 42 = .ok (.if_icmp .eq 8, 3) := dk_159 0 8 (dk_at dksX0_cheapest_1 18 rfl rfl)
theorem dX0_cheapest_45 : decode cX0_cheapest 45 = .ok (.iload_n 2, 1) := dk_28 (dk_at dksX0_cheapest_1 21 rfl rfl)
theorem dX0_cheapest_46 : decode cX0_cheapest 46 = .ok (.iconst (-1), 1) := dk_2 (dk_at dksX0_cheapest_1 22 rfl rfl)
theorem dX0_cheapest_47 : decode cX0_cheapest 47 = .ok (.if_icmp .ne 8, 3) := dk_160 0 8 (dk_at dksX0_cheapest_2 0 rfl rfl)
theorem dX0_cheapest_50 : decode cX0_cheapest 50 = .ok (.aload_n 3, 1) := dk_45 (dk_at dksX0_cheapest_2 3 rfl rfl)
theorem dX0_cheapest_51 : decode cX0_cheapest 51 = .ok (.getfield 289, 3) := dk_180 1 33 (dk_at dksX0_cheapest_2 4 rfl rfl)
theorem dX0_cheapest_54 : decode cX0_cheapest 54 = .ok (.ireturn, 1) := dk_172 (dk_at dksX0_cheapest_2 7 rfl rfl)
theorem dX0_cheapest_55 : decode cX0_cheapest 55 = .ok (.iload_n 2, 1) := dk_28 (dk_at dksX0_cheapest_2 8 rfl rfl)
theorem dX0_cheapest_56 : decode cX0_cheapest 56 = .ok (.bipush (-2), 2) := dk_16 254 (dk_at dksX0_cheapest_2 9 rfl rfl)
theorem dX0_cheapest_58 : decode cX0_cheapest 58 = .ok (.if_icmp .ne 10, 3) := dk_160 0 10 (dk_at dksX0_cheapest_2 11 rfl rfl)
theorem dX0_cheapest_61 : decode cX0_cheapest 61 = .ok (.aload_n 3, 1) := dk_45 (dk_at dksX0_cheapest_2 14 rfl rfl)
theorem dX0_cheapest_62 : decode cX0_cheapest 62 = .ok (.getfield 291, 3) := dk_180 1 35 (dk_at dksX0_cheapest_2 15 rfl rfl)
theorem dX0_cheapest_65 : decode cX0_cheapest 65 = .ok (.goto 22, 3) := dk_167 0 22 (dk_at dksX0_cheapest_2 18 rfl rfl)
theorem dX0_cheapest_68 : decode cX0_cheapest 68 = .ok (.iload_n 2, 1) := dk_28 (dk_at dksX0_cheapest_2 21 rfl rfl)
theorem dX0_cheapest_69 : decode cX0_cheapest 69 = .ok (.aload_n 3, 1) := dk_45 (dk_at dksX0_cheapest_2 22 rfl rfl)
theorem dX0_cheapest_70 : decode cX0_cheapest 70 = .ok (.getfield 291, 3) := dk_180 1 35 (dk_at dksX0_cheapest_3 0 rfl rfl)
theorem dX0_cheapest_73 : decode cX0_cheapest 73 = .ok (.if_icmp .ge 12, 3) := dk_162 0 12 (dk_at dksX0_cheapest_3 3 rfl rfl)
theorem dX0_cheapest_76 : decode cX0_cheapest 76 = .ok (.aload_n 0, 1) := dk_42 (dk_at dksX0_cheapest_3 6 rfl rfl)
theorem dX0_cheapest_77 : decode cX0_cheapest 77 = .ok (.getfield 74, 3) := dk_180 0 74 (dk_at dksX0_cheapest_3 7 rfl rfl)
theorem dX0_cheapest_80 : decode cX0_cheapest 80 = .ok (.iload_n 2, 1) := dk_28 (dk_at dksX0_cheapest_3 10 rfl rfl)
theorem dX0_cheapest_81 : decode cX0_cheapest 81 = .ok (.iaload, 1) := dk_46 (dk_at dksX0_cheapest_3 11 rfl rfl)
theorem dX0_cheapest_82 : decode cX0_cheapest 82 = .ok (.goto 5, 3) := dk_167 0 5 (dk_at dksX0_cheapest_3 12 rfl rfl)
theorem dX0_cheapest_85 : decode cX0_cheapest 85 = .ok (.ldc 251, 2) := dk_18 251 (dk_at dksX0_cheapest_3 15 rfl rfl)
theorem dX0_cheapest_87 : decode cX0_cheapest 87 = .ok (.ireturn, 1) := dk_172 (dk_at dksX0_cheapest_3 17 rfl rfl)
abbrev cX0_asNow : ByteArray := prog_1_method_32_code
def yX0_asNow : MethodName := ⟨RX0, "asNow", "()LMoodFare$Town;"⟩
def dkwX0_asNow_0 : List UInt8 := [42, 180, 0, 50, 42, 180, 0, 46, 182, 0, 167, 42, 180, 0, 50, 176]
abbrev dktX0_asNow_0 : List UInt8 := dkwX0_asNow_0 ++ []
theorem dksX0_asNow_0 : cX0_asNow.data.toList.drop 0 = dktX0_asNow_0 := by decide +kernel
theorem dX0_asNow_0 : decode cX0_asNow 0 = .ok (.aload_n 0, 1) := dk_42 (dk_at dksX0_asNow_0 0 rfl rfl)
theorem dX0_asNow_1 : decode cX0_asNow 1 = .ok (.getfield 50, 3) := dk_180 0 50 (dk_at dksX0_asNow_0 1 rfl rfl)
theorem dX0_asNow_4 : decode cX0_asNow 4 = .ok (.aload_n 0, 1) := dk_42 (dk_at dksX0_asNow_0 4 rfl rfl)
theorem dX0_asNow_5 : decode cX0_asNow 5 = .ok (.getfield 46, 3) := dk_180 0 46 (dk_at dksX0_asNow_0 5 rfl rfl)
theorem dX0_asNow_8 : decode cX0_asNow 8 = .ok (.invokevirtual 167, 3) := dk_182 0 167 (dk_at dksX0_asNow_0 8 rfl rfl)
theorem dX0_asNow_11 : decode cX0_asNow 11 = .ok (.aload_n 0, 1) := dk_42 (dk_at dksX0_asNow_0 11 rfl rfl)
theorem dX0_asNow_12 : decode cX0_asNow 12 = .ok (.getfield 50, 3) := dk_180 0 50 (dk_at dksX0_asNow_0 12 rfl rfl)
theorem dX0_asNow_15 : decode cX0_asNow 15 = .ok (.areturn, 1) := dk_176 (dk_at dksX0_asNow_0 15 rfl rfl)
abbrev cX0_cheapestTo : ByteArray := prog_1_method_37_code
def yX0_cheapestTo : MethodName := ⟨RX0, "cheapestTo", "(I)LMoodFare$Cheapest;"⟩
def dkwX0_cheapestTo_0 : List UInt8 := [187, 1, 18, 89, 27, 183, 1, 20, 77, 42, 3, 16, 8, 3, 44, 182, 1, 14, 44, 176]
abbrev dktX0_cheapestTo_0 : List UInt8 := dkwX0_cheapestTo_0 ++ []
theorem dksX0_cheapestTo_0 : cX0_cheapestTo.data.toList.drop 0 = dktX0_cheapestTo_0 := by decide +kernel
theorem dX0_cheapestTo_0 : decode cX0_cheapestTo 0 = .ok (.new 274, 3) := dk_187 1 18 (dk_at dksX0_cheapestTo_0 0 rfl rfl)
theorem dX0_cheapestTo_3 : decode cX0_cheapestTo 3 = .ok (.dup, 1) := dk_89 (dk_at dksX0_cheapestTo_0 3 rfl rfl)
theorem dX0_cheapestTo_4 : decode cX0_cheapestTo 4 = .ok (.iload_n 1, 1) := dk_27 (dk_at dksX0_cheapestTo_0 4 rfl rfl)
theorem dX0_cheapestTo_5 : decode cX0_cheapestTo 5 = .ok (.invokespecial 276, 3) := dk_183 1 20 (dk_at dksX0_cheapestTo_0 5 rfl rfl)
theorem dX0_cheapestTo_8 : decode cX0_cheapestTo 8 = .ok (.astore_n 2, 1) := dk_77 (dk_at dksX0_cheapestTo_0 8 rfl rfl)
theorem dX0_cheapestTo_9 : decode cX0_cheapestTo 9 = .ok (.aload_n 0, 1) := dk_42 (dk_at dksX0_cheapestTo_0 9 rfl rfl)
theorem dX0_cheapestTo_10 : decode cX0_cheapestTo 10 = .ok (.iconst 0, 1) := dk_3 (dk_at dksX0_cheapestTo_0 10 rfl rfl)
theorem dX0_cheapestTo_11 : decode cX0_cheapestTo 11 = .ok (.bipush 8, 2) := dk_16 8 (dk_at dksX0_cheapestTo_0 11 rfl rfl)
theorem dX0_cheapestTo_13 : decode cX0_cheapestTo 13 = .ok (.iconst 0, 1) := dk_3 (dk_at dksX0_cheapestTo_0 13 rfl rfl)
theorem dX0_cheapestTo_14 : decode cX0_cheapestTo 14 = .ok (.aload_n 2, 1) := dk_44 (dk_at dksX0_cheapestTo_0 14 rfl rfl)
theorem dX0_cheapestTo_15 : decode cX0_cheapestTo 15 = .ok (.invokevirtual 270, 3) := dk_182 1 14 (dk_at dksX0_cheapestTo_0 15 rfl rfl)
theorem dX0_cheapestTo_18 : decode cX0_cheapestTo 18 = .ok (.aload_n 2, 1) := dk_44 (dk_at dksX0_cheapestTo_0 18 rfl rfl)
theorem dX0_cheapestTo_19 : decode cX0_cheapestTo 19 = .ok (.areturn, 1) := dk_176 (dk_at dksX0_cheapestTo_0 19 rfl rfl)
abbrev cX0_rowsOf : ByteArray := prog_1_method_36_code
def yX0_rowsOf : MethodName := ⟨RX0, "rowsOf", "(IIILMoodFare$Worth;)V"⟩
def dkwX0_rowsOf_5 : List UInt8 := [25, 4, 182, 1, 14, 132, 5, 1, 167, 255, 185, 42, 180, 0, 50, 42, 27, 182, 1, 7, 182, 1, 11, 177]
abbrev dktX0_rowsOf_5 : List UInt8 := dkwX0_rowsOf_5 ++ []
def dkwX0_rowsOf_4 : List UInt8 := [180, 0, 70, 27, 21, 5, 79, 42, 27, 4, 96, 28, 29, 42, 180, 0, 50, 21, 5, 182, 0, 194, 96]
abbrev dktX0_rowsOf_4 : List UInt8 := dkwX0_rowsOf_4 ++ dktX0_rowsOf_5
def dkwX0_rowsOf_3 : List UInt8 := [182, 1, 7, 182, 1, 11, 42, 180, 0, 50, 21, 5, 182, 0, 184, 154, 0, 6, 167, 0, 32, 42]
abbrev dktX0_rowsOf_3 : List UInt8 := dkwX0_rowsOf_3 ++ dktX0_rowsOf_4
def dkwX0_rowsOf_2 : List UInt8 := [182, 1, 11, 3, 54, 5, 21, 5, 42, 180, 0, 46, 180, 0, 174, 162, 0, 65, 42, 180, 0, 50, 42, 27]
abbrev dktX0_rowsOf_2 : List UInt8 := dkwX0_rowsOf_2 ++ dktX0_rowsOf_3
def dkwX0_rowsOf_1 : List UInt8 := [180, 0, 74, 3, 16, 8, 184, 0, 120, 27, 28, 160, 0, 4, 177, 42, 27, 182, 1, 7, 42, 180, 0, 50]
abbrev dktX0_rowsOf_1 : List UInt8 := dkwX0_rowsOf_1 ++ dktX0_rowsOf_2
def dkwX0_rowsOf_0 : List UInt8 := [25, 4, 42, 180, 0, 50, 27, 29, 185, 1, 1, 4, 0, 153, 0, 18, 42, 180, 0, 70, 3, 42]
abbrev dktX0_rowsOf_0 : List UInt8 := dkwX0_rowsOf_0 ++ dktX0_rowsOf_1
theorem dksX0_rowsOf_0 : cX0_rowsOf.data.toList.drop 0 = dktX0_rowsOf_0 := by decide +kernel
theorem dksX0_rowsOf_1 : cX0_rowsOf.data.toList.drop 22 = dktX0_rowsOf_1 := dk_seg dksX0_rowsOf_0 22 rfl rfl
theorem dksX0_rowsOf_2 : cX0_rowsOf.data.toList.drop 46 = dktX0_rowsOf_2 := dk_seg dksX0_rowsOf_1 24 rfl rfl
theorem dksX0_rowsOf_3 : cX0_rowsOf.data.toList.drop 70 = dktX0_rowsOf_3 := dk_seg dksX0_rowsOf_2 24 rfl rfl
theorem dksX0_rowsOf_4 : cX0_rowsOf.data.toList.drop 92 = dktX0_rowsOf_4 := dk_seg dksX0_rowsOf_3 22 rfl rfl
theorem dksX0_rowsOf_5 : cX0_rowsOf.data.toList.drop 115 = dktX0_rowsOf_5 := dk_seg dksX0_rowsOf_4 23 rfl rfl
theorem dX0_rowsOf_0 : decode cX0_rowsOf 0 = .ok (.aload 4, 2) := dk_25 4 (dk_at dksX0_rowsOf_0 0 rfl rfl)
theorem dX0_rowsOf_2 : decode cX0_rowsOf 2 = .ok (.aload_n 0, 1) := dk_42 (dk_at dksX0_rowsOf_0 2 rfl rfl)
theorem dX0_rowsOf_3 : decode cX0_rowsOf 3 = .ok (.getfield 50, 3) := dk_180 0 50 (dk_at dksX0_rowsOf_0 3 rfl rfl)
theorem dX0_rowsOf_6 : decode cX0_rowsOf 6 = .ok (.iload_n 1, 1) := dk_27 (dk_at dksX0_rowsOf_0 6 rfl rfl)
theorem dX0_rowsOf_7 : decode cX0_rowsOf 7 = .ok (.iload_n 3, 1) := dk_29 (dk_at dksX0_rowsOf_0 7 rfl rfl)
theorem dX0_rowsOf_8 : decode cX0_rowsOf 8 = .ok (.invokeinterface 257 4, 5) := by decide +kernel
theorem dX0_rowsOf_13 : decode cX0_rowsOf 13 = .ok (.ifCond .eq 18, 3) := dk_153 0 18 (dk_at dksX0_rowsOf_0 13 rfl rfl)
theorem dX0_rowsOf_16 : decode cX0_rowsOf 16 = .ok (.aload_n 0, 1) := dk_42 (dk_at dksX0_rowsOf_0 16 rfl rfl)
theorem dX0_rowsOf_17 : decode cX0_rowsOf 17 = .ok (.getfield 70, 3) := dk_180 0 70 (dk_at dksX0_rowsOf_0 17 rfl rfl)
theorem dX0_rowsOf_20 : decode cX0_rowsOf 20 = .ok (.iconst 0, 1) := dk_3 (dk_at dksX0_rowsOf_0 20 rfl rfl)
theorem dX0_rowsOf_21 : decode cX0_rowsOf 21 = .ok (.aload_n 0, 1) := dk_42 (dk_at dksX0_rowsOf_0 21 rfl rfl)
theorem dX0_rowsOf_22 : decode cX0_rowsOf 22 = .ok (.getfield 74, 3) := dk_180 0 74 (dk_at dksX0_rowsOf_1 0 rfl rfl)
theorem dX0_rowsOf_25 : decode cX0_rowsOf 25 = .ok (.iconst 0, 1) := dk_3 (dk_at dksX0_rowsOf_1 3 rfl rfl)
theorem dX0_rowsOf_26 : decode cX0_rowsOf 26 = .ok (.bipush 8, 2) := dk_16 8 (dk_at dksX0_rowsOf_1 4 rfl rfl)
theorem dX0_rowsOf_28 : decode cX0_rowsOf 28 = .ok (.invokestatic 120, 3) := dk_184 0 120 (dk_at dksX0_rowsOf_1 6 rfl rfl)
theorem dX0_rowsOf_31 : decode cX0_rowsOf 31 = .ok (.iload_n 1, 1) := dk_27 (dk_at dksX0_rowsOf_1 9 rfl rfl)
theorem dX0_rowsOf_32 : decode cX0_rowsOf 32 = .ok (.iload_n 2, 1) := dk_28 (dk_at dksX0_rowsOf_1 10 rfl rfl)
theorem dX0_rowsOf_33 : decode cX0_rowsOf 33 = .ok (.if_icmp .ne 4, 3) := dk_160 0 4 (dk_at dksX0_rowsOf_1 11 rfl rfl)
theorem dX0_rowsOf_36 : decode cX0_rowsOf 36 = .ok (.return_, 1) := dk_177 (dk_at dksX0_rowsOf_1 14 rfl rfl)
theorem dX0_rowsOf_37 : decode cX0_rowsOf 37 = .ok (.aload_n 0, 1) := dk_42 (dk_at dksX0_rowsOf_1 15 rfl rfl)
theorem dX0_rowsOf_38 : decode cX0_rowsOf 38 = .ok (.iload_n 1, 1) := dk_27 (dk_at dksX0_rowsOf_1 16 rfl rfl)
theorem dX0_rowsOf_39 : decode cX0_rowsOf 39 = .ok (.invokevirtual 263, 3) := dk_182 1 7 (dk_at dksX0_rowsOf_1 17 rfl rfl)
theorem dX0_rowsOf_42 : decode cX0_rowsOf 42 = .ok (.aload_n 0, 1) := dk_42 (dk_at dksX0_rowsOf_1 20 rfl rfl)
theorem dX0_rowsOf_43 : decode cX0_rowsOf 43 = .ok (.getfield 50, 3) := dk_180 0 50 (dk_at dksX0_rowsOf_1 21 rfl rfl)
theorem dX0_rowsOf_46 : decode cX0_rowsOf 46 = .ok (.invokevirtual 267, 3) := dk_182 1 11 (dk_at dksX0_rowsOf_2 0 rfl rfl)
theorem dX0_rowsOf_49 : decode cX0_rowsOf 49 = .ok (.iconst 0, 1) := dk_3 (dk_at dksX0_rowsOf_2 3 rfl rfl)
theorem dX0_rowsOf_50 : decode cX0_rowsOf 50 = .ok (.istore 5, 2) := dk_54 5 (dk_at dksX0_rowsOf_2 4 rfl rfl)
theorem dX0_rowsOf_52 : decode cX0_rowsOf 52 = .ok (.iload 5, 2) := dk_21 5 (dk_at dksX0_rowsOf_2 6 rfl rfl)
theorem dX0_rowsOf_54 : decode cX0_rowsOf 54 = .ok (.aload_n 0, 1) := dk_42 (dk_at dksX0_rowsOf_2 8 rfl rfl)
theorem dX0_rowsOf_55 : decode cX0_rowsOf 55 = .ok (.getfield 46, 3) := dk_180 0 46 (dk_at dksX0_rowsOf_2 9 rfl rfl)
theorem dX0_rowsOf_58 : decode cX0_rowsOf 58 = .ok (.getfield 174, 3) := dk_180 0 174 (dk_at dksX0_rowsOf_2 12 rfl rfl)
theorem dX0_rowsOf_61 : decode cX0_rowsOf 61 = .ok (.if_icmp .ge 65, 3) := dk_162 0 65 (dk_at dksX0_rowsOf_2 15 rfl rfl)
theorem dX0_rowsOf_64 : decode cX0_rowsOf 64 = .ok (.aload_n 0, 1) := dk_42 (dk_at dksX0_rowsOf_2 18 rfl rfl)
theorem dX0_rowsOf_65 : decode cX0_rowsOf 65 = .ok (.getfield 50, 3) := dk_180 0 50 (dk_at dksX0_rowsOf_2 19 rfl rfl)
theorem dX0_rowsOf_68 : decode cX0_rowsOf 68 = .ok (.aload_n 0, 1) := dk_42 (dk_at dksX0_rowsOf_2 22 rfl rfl)
theorem dX0_rowsOf_69 : decode cX0_rowsOf 69 = .ok (.iload_n 1, 1) := dk_27 (dk_at dksX0_rowsOf_2 23 rfl rfl)
theorem dX0_rowsOf_70 : decode cX0_rowsOf 70 = .ok (.invokevirtual 263, 3) := dk_182 1 7 (dk_at dksX0_rowsOf_3 0 rfl rfl)
theorem dX0_rowsOf_73 : decode cX0_rowsOf 73 = .ok (.invokevirtual 267, 3) := dk_182 1 11 (dk_at dksX0_rowsOf_3 3 rfl rfl)
theorem dX0_rowsOf_76 : decode cX0_rowsOf 76 = .ok (.aload_n 0, 1) := dk_42 (dk_at dksX0_rowsOf_3 6 rfl rfl)
theorem dX0_rowsOf_77 : decode cX0_rowsOf 77 = .ok (.getfield 50, 3) := dk_180 0 50 (dk_at dksX0_rowsOf_3 7 rfl rfl)
theorem dX0_rowsOf_80 : decode cX0_rowsOf 80 = .ok (.iload 5, 2) := dk_21 5 (dk_at dksX0_rowsOf_3 10 rfl rfl)
theorem dX0_rowsOf_82 : decode cX0_rowsOf 82 = .ok (.invokevirtual 184, 3) := dk_182 0 184 (dk_at dksX0_rowsOf_3 12 rfl rfl)
theorem dX0_rowsOf_85 : decode cX0_rowsOf 85 = .ok (.ifCond .ne 6, 3) := dk_154 0 6 (dk_at dksX0_rowsOf_3 15 rfl rfl)
theorem dX0_rowsOf_88 : decode cX0_rowsOf 88 = .ok (.goto 32, 3) := dk_167 0 32 (dk_at dksX0_rowsOf_3 18 rfl rfl)
theorem dX0_rowsOf_91 : decode cX0_rowsOf 91 = .ok (.aload_n 0, 1) := dk_42 (dk_at dksX0_rowsOf_3 21 rfl rfl)
theorem dX0_rowsOf_92 : decode cX0_rowsOf 92 = .ok (.getfield 70, 3) := dk_180 0 70 (dk_at dksX0_rowsOf_4 0 rfl rfl)
theorem dX0_rowsOf_95 : decode cX0_rowsOf 95 = .ok (.iload_n 1, 1) := dk_27 (dk_at dksX0_rowsOf_4 3 rfl rfl)
theorem dX0_rowsOf_96 : decode cX0_rowsOf 96 = .ok (.iload 5, 2) := dk_21 5 (dk_at dksX0_rowsOf_4 4 rfl rfl)
theorem dX0_rowsOf_98 : decode cX0_rowsOf 98 = .ok (.iastore, 1) := dk_79 (dk_at dksX0_rowsOf_4 6 rfl rfl)
theorem dX0_rowsOf_99 : decode cX0_rowsOf 99 = .ok (.aload_n 0, 1) := dk_42 (dk_at dksX0_rowsOf_4 7 rfl rfl)
theorem dX0_rowsOf_100 : decode cX0_rowsOf 100 = .ok (.iload_n 1, 1) := dk_27 (dk_at dksX0_rowsOf_4 8 rfl rfl)
theorem dX0_rowsOf_101 : decode cX0_rowsOf 101 = .ok (.iconst 1, 1) := dk_4 (dk_at dksX0_rowsOf_4 9 rfl rfl)
theorem dX0_rowsOf_102 : decode cX0_rowsOf 102 = .ok (.iadd, 1) := dk_96 (dk_at dksX0_rowsOf_4 10 rfl rfl)
theorem dX0_rowsOf_103 : decode cX0_rowsOf 103 = .ok (.iload_n 2, 1) := dk_28 (dk_at dksX0_rowsOf_4 11 rfl rfl)
theorem dX0_rowsOf_104 : decode cX0_rowsOf 104 = .ok (.iload_n 3, 1) := dk_29 (dk_at dksX0_rowsOf_4 12 rfl rfl)
theorem dX0_rowsOf_105 : decode cX0_rowsOf 105 = .ok (.aload_n 0, 1) := dk_42 (dk_at dksX0_rowsOf_4 13 rfl rfl)
theorem dX0_rowsOf_106 : decode cX0_rowsOf 106 = .ok (.getfield 50, 3) := dk_180 0 50 (dk_at dksX0_rowsOf_4 14 rfl rfl)
theorem dX0_rowsOf_109 : decode cX0_rowsOf 109 = .ok (.iload 5, 2) := dk_21 5 (dk_at dksX0_rowsOf_4 17 rfl rfl)
theorem dX0_rowsOf_111 : decode cX0_rowsOf 111 = .ok (.invokevirtual 194, 3) := dk_182 0 194 (dk_at dksX0_rowsOf_4 19 rfl rfl)
theorem dX0_rowsOf_114 : decode cX0_rowsOf 114 = .ok (.iadd, 1) := dk_96 (dk_at dksX0_rowsOf_4 22 rfl rfl)
theorem dX0_rowsOf_115 : decode cX0_rowsOf 115 = .ok (.aload 4, 2) := dk_25 4 (dk_at dksX0_rowsOf_5 0 rfl rfl)
theorem dX0_rowsOf_117 : decode cX0_rowsOf 117 = .ok (.invokevirtual 270, 3) := dk_182 1 14 (dk_at dksX0_rowsOf_5 2 rfl rfl)
theorem dX0_rowsOf_120 : decode cX0_rowsOf 120 = .ok (.iinc 5 1, 3) := dk_132 5 1 (dk_at dksX0_rowsOf_5 5 rfl rfl)
theorem dX0_rowsOf_123 : decode cX0_rowsOf 123 = .ok (.goto (-71), 3) := dk_167 255 185 (dk_at dksX0_rowsOf_5 8 rfl rfl)
theorem dX0_rowsOf_126 : decode cX0_rowsOf 126 = .ok (.aload_n 0, 1) := dk_42 (dk_at dksX0_rowsOf_5 11 rfl rfl)
theorem dX0_rowsOf_127 : decode cX0_rowsOf 127 = .ok (.getfield 50, 3) := dk_180 0 50 (dk_at dksX0_rowsOf_5 12 rfl rfl)
theorem dX0_rowsOf_130 : decode cX0_rowsOf 130 = .ok (.aload_n 0, 1) := dk_42 (dk_at dksX0_rowsOf_5 15 rfl rfl)
theorem dX0_rowsOf_131 : decode cX0_rowsOf 131 = .ok (.iload_n 1, 1) := dk_27 (dk_at dksX0_rowsOf_5 16 rfl rfl)
theorem dX0_rowsOf_132 : decode cX0_rowsOf 132 = .ok (.invokevirtual 263, 3) := dk_182 1 7 (dk_at dksX0_rowsOf_5 17 rfl rfl)
theorem dX0_rowsOf_135 : decode cX0_rowsOf 135 = .ok (.invokevirtual 267, 3) := dk_182 1 11 (dk_at dksX0_rowsOf_5 20 rfl rfl)
theorem dX0_rowsOf_138 : decode cX0_rowsOf 138 = .ok (.return_, 1) := dk_177 (dk_at dksX0_rowsOf_5 23 rfl rfl)
abbrev cX0_rider : ByteArray := prog_1_method_35_code
def yX0_rider : MethodName := ⟨RX0, "rider", "(I)LMoodFare$Town;"⟩
def dkwX0_rider_1 : List UInt8 := [180, 0, 67, 27, 50, 176]
abbrev dktX0_rider_1 : List UInt8 := dkwX0_rider_1 ++ []
def dkwX0_rider_0 : List UInt8 := [42, 180, 0, 67, 27, 50, 199, 0, 16, 42, 180, 0, 67, 27, 187, 0, 43, 89, 183, 0, 45, 83, 42]
abbrev dktX0_rider_0 : List UInt8 := dkwX0_rider_0 ++ dktX0_rider_1
theorem dksX0_rider_0 : cX0_rider.data.toList.drop 0 = dktX0_rider_0 := by decide +kernel
theorem dksX0_rider_1 : cX0_rider.data.toList.drop 23 = dktX0_rider_1 := dk_seg dksX0_rider_0 23 rfl rfl
theorem dX0_rider_0 : decode cX0_rider 0 = .ok (.aload_n 0, 1) := dk_42 (dk_at dksX0_rider_0 0 rfl rfl)
theorem dX0_rider_1 : decode cX0_rider 1 = .ok (.getfield 67, 3) := dk_180 0 67 (dk_at dksX0_rider_0 1 rfl rfl)
theorem dX0_rider_4 : decode cX0_rider 4 = .ok (.iload_n 1, 1) := dk_27 (dk_at dksX0_rider_0 4 rfl rfl)
theorem dX0_rider_5 : decode cX0_rider 5 = .ok (.aaload, 1) := dk_50 (dk_at dksX0_rider_0 5 rfl rfl)
theorem dX0_rider_6 : decode cX0_rider 6 = .ok (.ifnonnull 16, 3) := dk_199 0 16 (dk_at dksX0_rider_0 6 rfl rfl)
theorem dX0_rider_9 : decode cX0_rider 9 = .ok (.aload_n 0, 1) := dk_42 (dk_at dksX0_rider_0 9 rfl rfl)
theorem dX0_rider_10 : decode cX0_rider 10 = .ok (.getfield 67, 3) := dk_180 0 67 (dk_at dksX0_rider_0 10 rfl rfl)
theorem dX0_rider_13 : decode cX0_rider 13 = .ok (.iload_n 1, 1) := dk_27 (dk_at dksX0_rider_0 13 rfl rfl)
theorem dX0_rider_14 : decode cX0_rider 14 = .ok (.new 43, 3) := dk_187 0 43 (dk_at dksX0_rider_0 14 rfl rfl)
theorem dX0_rider_17 : decode cX0_rider 17 = .ok (.dup, 1) := dk_89 (dk_at dksX0_rider_0 17 rfl rfl)
theorem dX0_rider_18 : decode cX0_rider 18 = .ok (.invokespecial 45, 3) := dk_183 0 45 (dk_at dksX0_rider_0 18 rfl rfl)
theorem dX0_rider_21 : decode cX0_rider 21 = .ok (.aastore, 1) := dk_83 (dk_at dksX0_rider_0 21 rfl rfl)
theorem dX0_rider_22 : decode cX0_rider 22 = .ok (.aload_n 0, 1) := dk_42 (dk_at dksX0_rider_0 22 rfl rfl)
theorem dX0_rider_23 : decode cX0_rider 23 = .ok (.getfield 67, 3) := dk_180 0 67 (dk_at dksX0_rider_1 0 rfl rfl)
theorem dX0_rider_26 : decode cX0_rider 26 = .ok (.iload_n 1, 1) := dk_27 (dk_at dksX0_rider_1 3 rfl rfl)
theorem dX0_rider_27 : decode cX0_rider 27 = .ok (.aaload, 1) := dk_50 (dk_at dksX0_rider_1 4 rfl rfl)
theorem dX0_rider_28 : decode cX0_rider 28 = .ok (.areturn, 1) := dk_176 (dk_at dksX0_rider_1 5 rfl rfl)
abbrev cX0_dearest : ByteArray := prog_1_method_39_code
def yX0_dearest : MethodName := ⟨RX0, "dearest", "(II)I"⟩
def dkwX0_dearest_4 : List UInt8 := [162, 0, 12, 42, 180, 0, 74, 28, 46, 167, 0, 5, 18, 251, 172]
abbrev dktX0_dearest_4 : List UInt8 := dkwX0_dearest_4 ++ []
def dkwX0_dearest_3 : List UInt8 := [160, 0, 8, 45, 180, 1, 42, 172, 28, 16, 254, 160, 0, 10, 45, 180, 1, 43, 167, 0, 19, 28, 27]
abbrev dktX0_dearest_3 : List UInt8 := dkwX0_dearest_3 ++ dktX0_dearest_4
def dkwX0_dearest_2 : List UInt8 := [42, 182, 1, 25, 87, 42, 3, 27, 3, 45, 182, 1, 14, 45, 180, 1, 42, 18, 251, 159, 0, 8, 28, 2]
abbrev dktX0_dearest_2 : List UInt8 := dkwX0_dearest_2 ++ dktX0_dearest_3
def dkwX0_dearest_1 : List UInt8 := [20, 1, 23, 20, 0, 82, 184, 0, 84, 154, 0, 6, 18, 94, 172, 187, 1, 39, 89, 27, 183, 1, 41, 78]
abbrev dktX0_dearest_1 : List UInt8 := dkwX0_dearest_1 ++ dktX0_dearest_2
def dkwX0_dearest_0 : List UInt8 := [42, 182, 0, 208, 154, 0, 6, 18, 187, 172, 27, 133, 9, 20, 1, 37, 184, 0, 84, 153, 0, 17, 28, 133]
abbrev dktX0_dearest_0 : List UInt8 := dkwX0_dearest_0 ++ dktX0_dearest_1
theorem dksX0_dearest_0 : cX0_dearest.data.toList.drop 0 = dktX0_dearest_0 := by decide +kernel
theorem dksX0_dearest_1 : cX0_dearest.data.toList.drop 24 = dktX0_dearest_1 := dk_seg dksX0_dearest_0 24 rfl rfl
theorem dksX0_dearest_2 : cX0_dearest.data.toList.drop 48 = dktX0_dearest_2 := dk_seg dksX0_dearest_1 24 rfl rfl
theorem dksX0_dearest_3 : cX0_dearest.data.toList.drop 72 = dktX0_dearest_3 := dk_seg dksX0_dearest_2 24 rfl rfl
theorem dksX0_dearest_4 : cX0_dearest.data.toList.drop 95 = dktX0_dearest_4 := dk_seg dksX0_dearest_3 23 rfl rfl
theorem dX0_dearest_0 : decode cX0_dearest 0 = .ok (.aload_n 0, 1) := dk_42 (dk_at dksX0_dearest_0 0 rfl rfl)
theorem dX0_dearest_1 : decode cX0_dearest 1 = .ok (.invokevirtual 208, 3) := dk_182 0 208 (dk_at dksX0_dearest_0 1 rfl rfl)
theorem dX0_dearest_4 : decode cX0_dearest 4 = .ok (.ifCond .ne 6, 3) := dk_154 0 6 (dk_at dksX0_dearest_0 4 rfl rfl)
theorem dX0_dearest_7 : decode cX0_dearest 7 = .ok (.ldc 187, 2) := dk_18 187 (dk_at dksX0_dearest_0 7 rfl rfl)
theorem dX0_dearest_9 : decode cX0_dearest 9 = .ok (.ireturn, 1) := dk_172 (dk_at dksX0_dearest_0 9 rfl rfl)
theorem dX0_dearest_10 : decode cX0_dearest 10 = .ok (.iload_n 1, 1) := dk_27 (dk_at dksX0_dearest_0 10 rfl rfl)
theorem dX0_dearest_11 : decode cX0_dearest 11 = .ok (.i2l, 1) := dk_133 (dk_at dksX0_dearest_0 11 rfl rfl)
theorem dX0_dearest_12 : decode cX0_dearest 12 = .ok (.lconst 0, 1) := dk_9 (dk_at dksX0_dearest_0 12 rfl rfl)
theorem dX0_dearest_13 : decode cX0_dearest 13 = .ok (.ldc2_w 293, 3) := dk_20 1 37 (dk_at dksX0_dearest_0 13 rfl rfl)
theorem dX0_dearest_16 : decode cX0_dearest 16 = .ok (.invokestatic 84, 3) := dk_184 0 84 (dk_at dksX0_dearest_0 16 rfl rfl)
theorem dX0_dearest_19 : decode cX0_dearest 19 = .ok (.ifCond .eq 17, 3) := dk_153 0 17 (dk_at dksX0_dearest_0 19 rfl rfl)
theorem dX0_dearest_22 : decode cX0_dearest 22 = .ok (.iload_n 2, 1) := dk_28 (dk_at dksX0_dearest_0 22 rfl rfl)
theorem dX0_dearest_23 : decode cX0_dearest 23 = .ok (.i2l, 1) := dk_133 (dk_at dksX0_dearest_0 23 rfl rfl)
theorem dX0_dearest_24 : decode cX0_dearest 24 = .ok (.ldc2_w 279, 3) := dk_20 1 23 (dk_at dksX0_dearest_1 0 rfl rfl)
theorem dX0_dearest_27 : decode cX0_dearest 27 = .ok (.ldc2_w 82, 3) := dk_20 0 82 (dk_at dksX0_dearest_1 3 rfl rfl)
theorem dX0_dearest_30 : decode cX0_dearest 30 = .ok (.invokestatic 84, 3) := dk_184 0 84 (dk_at dksX0_dearest_1 6 rfl rfl)
theorem dX0_dearest_33 : decode cX0_dearest 33 = .ok (.ifCond .ne 6, 3) := dk_154 0 6 (dk_at dksX0_dearest_1 9 rfl rfl)
theorem dX0_dearest_36 : decode cX0_dearest 36 = .ok (.ldc 94, 2) := dk_18 94 (dk_at dksX0_dearest_1 12 rfl rfl)
theorem dX0_dearest_38 : decode cX0_dearest 38 = .ok (.ireturn, 1) := dk_172 (dk_at dksX0_dearest_1 14 rfl rfl)
theorem dX0_dearest_39 : decode cX0_dearest 39 = .ok (.new 295, 3) := dk_187 1 39 (dk_at dksX0_dearest_1 15 rfl rfl)
theorem dX0_dearest_42 : decode cX0_dearest 42 = .ok (.dup, 1) := dk_89 (dk_at dksX0_dearest_1 18 rfl rfl)
theorem dX0_dearest_43 : decode cX0_dearest 43 = .ok (.iload_n 1, 1) := dk_27 (dk_at dksX0_dearest_1 19 rfl rfl)
theorem dX0_dearest_44 : decode cX0_dearest 44 = .ok (.invokespecial 297, 3) := dk_183 1 41 (dk_at dksX0_dearest_1 20 rfl rfl)
theorem dX0_dearest_47 : decode cX0_dearest 47 = .ok (.astore_n 3, 1) := dk_78 (dk_at dksX0_dearest_1 23 rfl rfl)
theorem dX0_dearest_48 : decode cX0_dearest 48 = .ok (.aload_n 0, 1) := dk_42 (dk_at dksX0_dearest_2 0 rfl rfl)
theorem dX0_dearest_49 : decode cX0_dearest 49 = .ok (.invokevirtual 281, 3) := dk_182 1 25 (dk_at dksX0_dearest_2 1 rfl rfl)
theorem dX0_dearest_52 : decode cX0_dearest 52 = .ok (.pop, 1) := dk_87 (dk_at dksX0_dearest_2 4 rfl rfl)
theorem dX0_dearest_53 : decode cX0_dearest 53 = .ok (.aload_n 0, 1) := dk_42 (dk_at dksX0_dearest_2 5 rfl rfl)
theorem dX0_dearest_54 : decode cX0_dearest 54 = .ok (.iconst 0, 1) := dk_3 (dk_at dksX0_dearest_2 6 rfl rfl)
theorem dX0_dearest_55 : decode cX0_dearest 55 = .ok (.iload_n 1, 1) := dk_27 (dk_at dksX0_dearest_2 7 rfl rfl)
theorem dX0_dearest_56 : decode cX0_dearest 56 = .ok (.iconst 0, 1) := dk_3 (dk_at dksX0_dearest_2 8 rfl rfl)
theorem dX0_dearest_57 : decode cX0_dearest 57 = .ok (.aload_n 3, 1) := dk_45 (dk_at dksX0_dearest_2 9 rfl rfl)
theorem dX0_dearest_58 : decode cX0_dearest 58 = .ok (.invokevirtual 270, 3) := dk_182 1 14 (dk_at dksX0_dearest_2 10 rfl rfl)
theorem dX0_dearest_61 : decode cX0_dearest 61 = .ok (.aload_n 3, 1) := dk_45 (dk_at dksX0_dearest_2 13 rfl rfl)
theorem dX0_dearest_62 : decode cX0_dearest 62 = .ok (.getfield 298, 3) := dk_180 1 42 (dk_at dksX0_dearest_2 14 rfl rfl)
theorem dX0_dearest_65 : decode cX0_dearest 65 = .ok (.ldc 251, 2) := dk_18 251 (dk_at dksX0_dearest_2 17 rfl rfl)
theorem dX0_dearest_67 : decode cX0_dearest 67 = .ok (.if_icmp .eq 8, 3) := dk_159 0 8 (dk_at dksX0_dearest_2 19 rfl rfl)
theorem dX0_dearest_70 : decode cX0_dearest 70 = .ok (.iload_n 2, 1) := dk_28 (dk_at dksX0_dearest_2 22 rfl rfl)
theorem dX0_dearest_71 : decode cX0_dearest 71 = .ok (.iconst (-1), 1) := dk_2 (dk_at dksX0_dearest_2 23 rfl rfl)
theorem dX0_dearest_72 : decode cX0_dearest 72 = .ok (.if_icmp .ne 8, 3) := dk_160 0 8 (dk_at dksX0_dearest_3 0 rfl rfl)
theorem dX0_dearest_75 : decode cX0_dearest 75 = .ok (.aload_n 3, 1) := dk_45 (dk_at dksX0_dearest_3 3 rfl rfl)
theorem dX0_dearest_76 : decode cX0_dearest 76 = .ok (.getfield 298, 3) := dk_180 1 42 (dk_at dksX0_dearest_3 4 rfl rfl)
theorem dX0_dearest_79 : decode cX0_dearest 79 = .ok (.ireturn, 1) := dk_172 (dk_at dksX0_dearest_3 7 rfl rfl)
theorem dX0_dearest_80 : decode cX0_dearest 80 = .ok (.iload_n 2, 1) := dk_28 (dk_at dksX0_dearest_3 8 rfl rfl)
theorem dX0_dearest_81 : decode cX0_dearest 81 = .ok (.bipush (-2), 2) := dk_16 254 (dk_at dksX0_dearest_3 9 rfl rfl)
theorem dX0_dearest_83 : decode cX0_dearest 83 = .ok (.if_icmp .ne 10, 3) := dk_160 0 10 (dk_at dksX0_dearest_3 11 rfl rfl)
theorem dX0_dearest_86 : decode cX0_dearest 86 = .ok (.aload_n 3, 1) := dk_45 (dk_at dksX0_dearest_3 14 rfl rfl)
theorem dX0_dearest_87 : decode cX0_dearest 87 = .ok (.getfield 299, 3) := dk_180 1 43 (dk_at dksX0_dearest_3 15 rfl rfl)
theorem dX0_dearest_90 : decode cX0_dearest 90 = .ok (.goto 19, 3) := dk_167 0 19 (dk_at dksX0_dearest_3 18 rfl rfl)
theorem dX0_dearest_93 : decode cX0_dearest 93 = .ok (.iload_n 2, 1) := dk_28 (dk_at dksX0_dearest_3 21 rfl rfl)
theorem dX0_dearest_94 : decode cX0_dearest 94 = .ok (.iload_n 1, 1) := dk_27 (dk_at dksX0_dearest_3 22 rfl rfl)
theorem dX0_dearest_95 : decode cX0_dearest 95 = .ok (.if_icmp .ge 12, 3) := dk_162 0 12 (dk_at dksX0_dearest_4 0 rfl rfl)
theorem dX0_dearest_98 : decode cX0_dearest 98 = .ok (.aload_n 0, 1) := dk_42 (dk_at dksX0_dearest_4 3 rfl rfl)
theorem dX0_dearest_99 : decode cX0_dearest 99 = .ok (.getfield 74, 3) := dk_180 0 74 (dk_at dksX0_dearest_4 4 rfl rfl)
theorem dX0_dearest_102 : decode cX0_dearest 102 = .ok (.iload_n 2, 1) := dk_28 (dk_at dksX0_dearest_4 7 rfl rfl)
theorem dX0_dearest_103 : decode cX0_dearest 103 = .ok (.iaload, 1) := dk_46 (dk_at dksX0_dearest_4 8 rfl rfl)
theorem dX0_dearest_104 : decode cX0_dearest 104 = .ok (.goto 5, 3) := dk_167 0 5 (dk_at dksX0_dearest_4 9 rfl rfl)
theorem dX0_dearest_107 : decode cX0_dearest 107 = .ok (.ldc 251, 2) := dk_18 251 (dk_at dksX0_dearest_4 12 rfl rfl)
theorem dX0_dearest_109 : decode cX0_dearest 109 = .ok (.ireturn, 1) := dk_172 (dk_at dksX0_dearest_4 14 rfl rfl)
abbrev cX0_moods : ByteArray := prog_1_method_40_code
def yX0_moods : MethodName := ⟨RX0, "moods", "(II)I"⟩
def dkwX0_moods_2 : List UInt8 := [180, 1, 49, 172]
abbrev dktX0_moods_2 : List UInt8 := dkwX0_moods_2 ++ []
def dkwX0_moods_1 : List UInt8 := [187, 1, 46, 89, 27, 28, 183, 1, 48, 78, 42, 182, 1, 25, 87, 42, 3, 28, 3, 45, 182, 1, 14, 45]
abbrev dktX0_moods_1 : List UInt8 := dkwX0_moods_1 ++ dktX0_moods_2
def dkwX0_moods_0 : List UInt8 := [42, 27, 182, 0, 200, 153, 0, 15, 28, 133, 9, 20, 1, 37, 184, 0, 84, 154, 0, 6, 18, 94, 172]
abbrev dktX0_moods_0 : List UInt8 := dkwX0_moods_0 ++ dktX0_moods_1
theorem dksX0_moods_0 : cX0_moods.data.toList.drop 0 = dktX0_moods_0 := by decide +kernel
theorem dksX0_moods_1 : cX0_moods.data.toList.drop 23 = dktX0_moods_1 := dk_seg dksX0_moods_0 23 rfl rfl
theorem dksX0_moods_2 : cX0_moods.data.toList.drop 47 = dktX0_moods_2 := dk_seg dksX0_moods_1 24 rfl rfl
theorem dX0_moods_0 : decode cX0_moods 0 = .ok (.aload_n 0, 1) := dk_42 (dk_at dksX0_moods_0 0 rfl rfl)
theorem dX0_moods_1 : decode cX0_moods 1 = .ok (.iload_n 1, 1) := dk_27 (dk_at dksX0_moods_0 1 rfl rfl)
theorem dX0_moods_2 : decode cX0_moods 2 = .ok (.invokevirtual 200, 3) := dk_182 0 200 (dk_at dksX0_moods_0 2 rfl rfl)
theorem dX0_moods_5 : decode cX0_moods 5 = .ok (.ifCond .eq 15, 3) := dk_153 0 15 (dk_at dksX0_moods_0 5 rfl rfl)
theorem dX0_moods_8 : decode cX0_moods 8 = .ok (.iload_n 2, 1) := dk_28 (dk_at dksX0_moods_0 8 rfl rfl)
theorem dX0_moods_9 : decode cX0_moods 9 = .ok (.i2l, 1) := dk_133 (dk_at dksX0_moods_0 9 rfl rfl)
theorem dX0_moods_10 : decode cX0_moods 10 = .ok (.lconst 0, 1) := dk_9 (dk_at dksX0_moods_0 10 rfl rfl)
theorem dX0_moods_11 : decode cX0_moods 11 = .ok (.ldc2_w 293, 3) := dk_20 1 37 (dk_at dksX0_moods_0 11 rfl rfl)
theorem dX0_moods_14 : decode cX0_moods 14 = .ok (.invokestatic 84, 3) := dk_184 0 84 (dk_at dksX0_moods_0 14 rfl rfl)
theorem dX0_moods_17 : decode cX0_moods 17 = .ok (.ifCond .ne 6, 3) := dk_154 0 6 (dk_at dksX0_moods_0 17 rfl rfl)
theorem dX0_moods_20 : decode cX0_moods 20 = .ok (.ldc 94, 2) := dk_18 94 (dk_at dksX0_moods_0 20 rfl rfl)
theorem dX0_moods_22 : decode cX0_moods 22 = .ok (.ireturn, 1) := dk_172 (dk_at dksX0_moods_0 22 rfl rfl)
theorem dX0_moods_23 : decode cX0_moods 23 = .ok (.new 302, 3) := dk_187 1 46 (dk_at dksX0_moods_1 0 rfl rfl)
theorem dX0_moods_26 : decode cX0_moods 26 = .ok (.dup, 1) := dk_89 (dk_at dksX0_moods_1 3 rfl rfl)
theorem dX0_moods_27 : decode cX0_moods 27 = .ok (.iload_n 1, 1) := dk_27 (dk_at dksX0_moods_1 4 rfl rfl)
theorem dX0_moods_28 : decode cX0_moods 28 = .ok (.iload_n 2, 1) := dk_28 (dk_at dksX0_moods_1 5 rfl rfl)
theorem dX0_moods_29 : decode cX0_moods 29 = .ok (.invokespecial 304, 3) := dk_183 1 48 (dk_at dksX0_moods_1 6 rfl rfl)
theorem dX0_moods_32 : decode cX0_moods 32 = .ok (.astore_n 3, 1) := dk_78 (dk_at dksX0_moods_1 9 rfl rfl)
theorem dX0_moods_33 : decode cX0_moods 33 = .ok (.aload_n 0, 1) := dk_42 (dk_at dksX0_moods_1 10 rfl rfl)
theorem dX0_moods_34 : decode cX0_moods 34 = .ok (.invokevirtual 281, 3) := dk_182 1 25 (dk_at dksX0_moods_1 11 rfl rfl)
theorem dX0_moods_37 : decode cX0_moods 37 = .ok (.pop, 1) := dk_87 (dk_at dksX0_moods_1 14 rfl rfl)
theorem dX0_moods_38 : decode cX0_moods 38 = .ok (.aload_n 0, 1) := dk_42 (dk_at dksX0_moods_1 15 rfl rfl)
theorem dX0_moods_39 : decode cX0_moods 39 = .ok (.iconst 0, 1) := dk_3 (dk_at dksX0_moods_1 16 rfl rfl)
theorem dX0_moods_40 : decode cX0_moods 40 = .ok (.iload_n 2, 1) := dk_28 (dk_at dksX0_moods_1 17 rfl rfl)
theorem dX0_moods_41 : decode cX0_moods 41 = .ok (.iconst 0, 1) := dk_3 (dk_at dksX0_moods_1 18 rfl rfl)
theorem dX0_moods_42 : decode cX0_moods 42 = .ok (.aload_n 3, 1) := dk_45 (dk_at dksX0_moods_1 19 rfl rfl)
theorem dX0_moods_43 : decode cX0_moods 43 = .ok (.invokevirtual 270, 3) := dk_182 1 14 (dk_at dksX0_moods_1 20 rfl rfl)
theorem dX0_moods_46 : decode cX0_moods 46 = .ok (.aload_n 3, 1) := dk_45 (dk_at dksX0_moods_1 23 rfl rfl)
theorem dX0_moods_47 : decode cX0_moods 47 = .ok (.getfield 305, 3) := dk_180 1 49 (dk_at dksX0_moods_2 0 rfl rfl)
theorem dX0_moods_50 : decode cX0_moods 50 = .ok (.ireturn, 1) := dk_172 (dk_at dksX0_moods_2 3 rfl rfl)
abbrev cX0_gets : ByteArray := prog_1_method_41_code
def yX0_gets : MethodName := ⟨RX0, "gets", "(II)I"⟩
def dkwX0_gets_4 : List UInt8 := [46, 167, 0, 5, 18, 251, 172]
abbrev dktX0_gets_4 : List UInt8 := dkwX0_gets_4 ++ []
def dkwX0_gets_3 : List UInt8 := [2, 160, 0, 10, 45, 180, 1, 57, 167, 0, 22, 28, 45, 180, 1, 57, 162, 0, 12, 42, 180, 0, 74, 28]
abbrev dktX0_gets_3 : List UInt8 := dkwX0_gets_3 ++ dktX0_gets_4
def dkwX0_gets_2 : List UInt8 := [42, 182, 1, 25, 87, 42, 3, 16, 8, 3, 45, 182, 1, 14, 45, 180, 1, 57, 18, 251, 159, 0, 8, 28]
abbrev dktX0_gets_2 : List UInt8 := dkwX0_gets_2 ++ dktX0_gets_3
def dkwX0_gets_1 : List UInt8 := [20, 1, 52, 20, 0, 82, 184, 0, 84, 154, 0, 6, 18, 94, 172, 187, 1, 54, 89, 27, 183, 1, 56, 78]
abbrev dktX0_gets_1 : List UInt8 := dkwX0_gets_1 ++ dktX0_gets_2
def dkwX0_gets_0 : List UInt8 := [42, 182, 0, 208, 154, 0, 6, 18, 187, 172, 27, 133, 9, 20, 0, 203, 184, 0, 84, 153, 0, 17, 28, 133]
abbrev dktX0_gets_0 : List UInt8 := dkwX0_gets_0 ++ dktX0_gets_1
theorem dksX0_gets_0 : cX0_gets.data.toList.drop 0 = dktX0_gets_0 := by decide +kernel
theorem dksX0_gets_1 : cX0_gets.data.toList.drop 24 = dktX0_gets_1 := dk_seg dksX0_gets_0 24 rfl rfl
theorem dksX0_gets_2 : cX0_gets.data.toList.drop 48 = dktX0_gets_2 := dk_seg dksX0_gets_1 24 rfl rfl
theorem dksX0_gets_3 : cX0_gets.data.toList.drop 72 = dktX0_gets_3 := dk_seg dksX0_gets_2 24 rfl rfl
theorem dksX0_gets_4 : cX0_gets.data.toList.drop 96 = dktX0_gets_4 := dk_seg dksX0_gets_3 24 rfl rfl
theorem dX0_gets_0 : decode cX0_gets 0 = .ok (.aload_n 0, 1) := dk_42 (dk_at dksX0_gets_0 0 rfl rfl)
theorem dX0_gets_1 : decode cX0_gets 1 = .ok (.invokevirtual 208, 3) := dk_182 0 208 (dk_at dksX0_gets_0 1 rfl rfl)
theorem dX0_gets_4 : decode cX0_gets 4 = .ok (.ifCond .ne 6, 3) := dk_154 0 6 (dk_at dksX0_gets_0 4 rfl rfl)
theorem dX0_gets_7 : decode cX0_gets 7 = .ok (.ldc 187, 2) := dk_18 187 (dk_at dksX0_gets_0 7 rfl rfl)
theorem dX0_gets_9 : decode cX0_gets 9 = .ok (.ireturn, 1) := dk_172 (dk_at dksX0_gets_0 9 rfl rfl)
theorem dX0_gets_10 : decode cX0_gets 10 = .ok (.iload_n 1, 1) := dk_27 (dk_at dksX0_gets_0 10 rfl rfl)
theorem dX0_gets_11 : decode cX0_gets 11 = .ok (.i2l, 1) := dk_133 (dk_at dksX0_gets_0 11 rfl rfl)
theorem dX0_gets_12 : decode cX0_gets 12 = .ok (.lconst 0, 1) := dk_9 (dk_at dksX0_gets_0 12 rfl rfl)
theorem dX0_gets_13 : decode cX0_gets 13 = .ok (.ldc2_w 203, 3) := dk_20 0 203 (dk_at dksX0_gets_0 13 rfl rfl)
theorem dX0_gets_16 : decode cX0_gets 16 = .ok (.invokestatic 84, 3) := dk_184 0 84 (dk_at dksX0_gets_0 16 rfl rfl)
theorem dX0_gets_19 : decode cX0_gets 19 = .ok (.ifCond .eq 17, 3) := dk_153 0 17 (dk_at dksX0_gets_0 19 rfl rfl)
theorem dX0_gets_22 : decode cX0_gets 22 = .ok (.iload_n 2, 1) := dk_28 (dk_at dksX0_gets_0 22 rfl rfl)
theorem dX0_gets_23 : decode cX0_gets 23 = .ok (.i2l, 1) := dk_133 (dk_at dksX0_gets_0 23 rfl rfl)
theorem dX0_gets_24 : decode cX0_gets 24 = .ok (.ldc2_w 308, 3) := dk_20 1 52 (dk_at dksX0_gets_1 0 rfl rfl)
theorem dX0_gets_27 : decode cX0_gets 27 = .ok (.ldc2_w 82, 3) := dk_20 0 82 (dk_at dksX0_gets_1 3 rfl rfl)
theorem dX0_gets_30 : decode cX0_gets 30 = .ok (.invokestatic 84, 3) := dk_184 0 84 (dk_at dksX0_gets_1 6 rfl rfl)
theorem dX0_gets_33 : decode cX0_gets 33 = .ok (.ifCond .ne 6, 3) := dk_154 0 6 (dk_at dksX0_gets_1 9 rfl rfl)
theorem dX0_gets_36 : decode cX0_gets 36 = .ok (.ldc 94, 2) := dk_18 94 (dk_at dksX0_gets_1 12 rfl rfl)
theorem dX0_gets_38 : decode cX0_gets 38 = .ok (.ireturn, 1) := dk_172 (dk_at dksX0_gets_1 14 rfl rfl)
theorem dX0_gets_39 : decode cX0_gets 39 = .ok (.new 310, 3) := dk_187 1 54 (dk_at dksX0_gets_1 15 rfl rfl)
theorem dX0_gets_42 : decode cX0_gets 42 = .ok (.dup, 1) := dk_89 (dk_at dksX0_gets_1 18 rfl rfl)
theorem dX0_gets_43 : decode cX0_gets 43 = .ok (.iload_n 1, 1) := dk_27 (dk_at dksX0_gets_1 19 rfl rfl)
theorem dX0_gets_44 : decode cX0_gets 44 = .ok (.invokespecial 312, 3) := dk_183 1 56 (dk_at dksX0_gets_1 20 rfl rfl)
theorem dX0_gets_47 : decode cX0_gets 47 = .ok (.astore_n 3, 1) := dk_78 (dk_at dksX0_gets_1 23 rfl rfl)
theorem dX0_gets_48 : decode cX0_gets 48 = .ok (.aload_n 0, 1) := dk_42 (dk_at dksX0_gets_2 0 rfl rfl)
theorem dX0_gets_49 : decode cX0_gets 49 = .ok (.invokevirtual 281, 3) := dk_182 1 25 (dk_at dksX0_gets_2 1 rfl rfl)
theorem dX0_gets_52 : decode cX0_gets 52 = .ok (.pop, 1) := dk_87 (dk_at dksX0_gets_2 4 rfl rfl)
theorem dX0_gets_53 : decode cX0_gets 53 = .ok (.aload_n 0, 1) := dk_42 (dk_at dksX0_gets_2 5 rfl rfl)
theorem dX0_gets_54 : decode cX0_gets 54 = .ok (.iconst 0, 1) := dk_3 (dk_at dksX0_gets_2 6 rfl rfl)
theorem dX0_gets_55 : decode cX0_gets 55 = .ok (.bipush 8, 2) := dk_16 8 (dk_at dksX0_gets_2 7 rfl rfl)
theorem dX0_gets_57 : decode cX0_gets 57 = .ok (.iconst 0, 1) := dk_3 (dk_at dksX0_gets_2 9 rfl rfl)
theorem dX0_gets_58 : decode cX0_gets 58 = .ok (.aload_n 3, 1) := dk_45 (dk_at dksX0_gets_2 10 rfl rfl)
theorem dX0_gets_59 : decode cX0_gets 59 = .ok (.invokevirtual 270, 3) := dk_182 1 14 (dk_at dksX0_gets_2 11 rfl rfl)
theorem dX0_gets_62 : decode cX0_gets 62 = .ok (.aload_n 3, 1) := dk_45 (dk_at dksX0_gets_2 14 rfl rfl)
theorem dX0_gets_63 : decode cX0_gets 63 = .ok (.getfield 313, 3) := dk_180 1 57 (dk_at dksX0_gets_2 15 rfl rfl)
theorem dX0_gets_66 : decode cX0_gets 66 = .ok (.ldc 251, 2) := dk_18 251 (dk_at dksX0_gets_2 18 rfl rfl)
theorem dX0_gets_68 : decode cX0_gets 68 = .ok (.if_icmp .eq 8, 3) := dk_159 0 8 (dk_at dksX0_gets_2 20 rfl rfl)
theorem dX0_gets_71 : decode cX0_gets 71 = .ok (.iload_n 2, 1) := dk_28 (dk_at dksX0_gets_2 23 rfl rfl)
theorem dX0_gets_72 : decode cX0_gets 72 = .ok (.iconst (-1), 1) := dk_2 (dk_at dksX0_gets_3 0 rfl rfl)
theorem dX0_gets_73 : decode cX0_gets 73 = .ok (.if_icmp .ne 10, 3) := dk_160 0 10 (dk_at dksX0_gets_3 1 rfl rfl)
theorem dX0_gets_76 : decode cX0_gets 76 = .ok (.aload_n 3, 1) := dk_45 (dk_at dksX0_gets_3 4 rfl rfl)
theorem dX0_gets_77 : decode cX0_gets 77 = .ok (.getfield 313, 3) := dk_180 1 57 (dk_at dksX0_gets_3 5 rfl rfl)
theorem dX0_gets_80 : decode cX0_gets 80 = .ok (.goto 22, 3) := dk_167 0 22 (dk_at dksX0_gets_3 8 rfl rfl)
theorem dX0_gets_83 : decode cX0_gets 83 = .ok (.iload_n 2, 1) := dk_28 (dk_at dksX0_gets_3 11 rfl rfl)
theorem dX0_gets_84 : decode cX0_gets 84 = .ok (.aload_n 3, 1) := dk_45 (dk_at dksX0_gets_3 12 rfl rfl)
theorem dX0_gets_85 : decode cX0_gets 85 = .ok (.getfield 313, 3) := dk_180 1 57 (dk_at dksX0_gets_3 13 rfl rfl)
theorem dX0_gets_88 : decode cX0_gets 88 = .ok (.if_icmp .ge 12, 3) := dk_162 0 12 (dk_at dksX0_gets_3 16 rfl rfl)
theorem dX0_gets_91 : decode cX0_gets 91 = .ok (.aload_n 0, 1) := dk_42 (dk_at dksX0_gets_3 19 rfl rfl)
theorem dX0_gets_92 : decode cX0_gets 92 = .ok (.getfield 74, 3) := dk_180 0 74 (dk_at dksX0_gets_3 20 rfl rfl)
theorem dX0_gets_95 : decode cX0_gets 95 = .ok (.iload_n 2, 1) := dk_28 (dk_at dksX0_gets_3 23 rfl rfl)
theorem dX0_gets_96 : decode cX0_gets 96 = .ok (.iaload, 1) := dk_46 (dk_at dksX0_gets_4 0 rfl rfl)
theorem dX0_gets_97 : decode cX0_gets 97 = .ok (.goto 5, 3) := dk_167 0 5 (dk_at dksX0_gets_4 1 rfl rfl)
theorem dX0_gets_100 : decode cX0_gets 100 = .ok (.ldc 251, 2) := dk_18 251 (dk_at dksX0_gets_4 4 rfl rfl)
theorem dX0_gets_102 : decode cX0_gets 102 = .ok (.ireturn, 1) := dk_172 (dk_at dksX0_gets_4 6 rfl rfl)
abbrev cX0_fits : ByteArray := prog_1_method_45_code
def yX0_fits : MethodName := ⟨RX0, "fits", "(IIIIII)I"⟩
def dkwX0_fits_2 : List UInt8 := [187, 1, 71, 89, 42, 21, 6, 183, 1, 73, 182, 1, 76, 172]
abbrev dktX0_fits_2 : List UInt8 := dkwX0_fits_2 ++ []
def dkwX0_fits_1 : List UInt8 := [153, 0, 11, 21, 6, 184, 0, 215, 154, 0, 6, 18, 94, 172, 42, 27, 28, 29, 21, 4, 21, 5]
abbrev dktX0_fits_1 : List UInt8 := dkwX0_fits_1 ++ dktX0_fits_2
def dkwX0_fits_0 : List UInt8 := [42, 182, 0, 208, 154, 0, 6, 18, 187, 172, 27, 21, 5, 184, 1, 68, 153, 0, 18, 29, 184, 0, 88]
abbrev dktX0_fits_0 : List UInt8 := dkwX0_fits_0 ++ dktX0_fits_1
theorem dksX0_fits_0 : cX0_fits.data.toList.drop 0 = dktX0_fits_0 := by decide +kernel
theorem dksX0_fits_1 : cX0_fits.data.toList.drop 23 = dktX0_fits_1 := dk_seg dksX0_fits_0 23 rfl rfl
theorem dksX0_fits_2 : cX0_fits.data.toList.drop 45 = dktX0_fits_2 := dk_seg dksX0_fits_1 22 rfl rfl
theorem dX0_fits_0 : decode cX0_fits 0 = .ok (.aload_n 0, 1) := dk_42 (dk_at dksX0_fits_0 0 rfl rfl)
theorem dX0_fits_1 : decode cX0_fits 1 = .ok (.invokevirtual 208, 3) := dk_182 0 208 (dk_at dksX0_fits_0 1 rfl rfl)
theorem dX0_fits_4 : decode cX0_fits 4 = .ok (.ifCond .ne 6, 3) := dk_154 0 6 (dk_at dksX0_fits_0 4 rfl rfl)
theorem dX0_fits_7 : decode cX0_fits 7 = .ok (.ldc 187, 2) := dk_18 187 (dk_at dksX0_fits_0 7 rfl rfl)
theorem dX0_fits_9 : decode cX0_fits 9 = .ok (.ireturn, 1) := dk_172 (dk_at dksX0_fits_0 9 rfl rfl)
theorem dX0_fits_10 : decode cX0_fits 10 = .ok (.iload_n 1, 1) := dk_27 (dk_at dksX0_fits_0 10 rfl rfl)
theorem dX0_fits_11 : decode cX0_fits 11 = .ok (.iload 5, 2) := dk_21 5 (dk_at dksX0_fits_0 11 rfl rfl)
theorem dX0_fits_13 : decode cX0_fits 13 = .ok (.invokestatic 324, 3) := dk_184 1 68 (dk_at dksX0_fits_0 13 rfl rfl)
theorem dX0_fits_16 : decode cX0_fits 16 = .ok (.ifCond .eq 18, 3) := dk_153 0 18 (dk_at dksX0_fits_0 16 rfl rfl)
theorem dX0_fits_19 : decode cX0_fits 19 = .ok (.iload_n 3, 1) := dk_29 (dk_at dksX0_fits_0 19 rfl rfl)
theorem dX0_fits_20 : decode cX0_fits 20 = .ok (.invokestatic 88, 3) := dk_184 0 88 (dk_at dksX0_fits_0 20 rfl rfl)
theorem dX0_fits_23 : decode cX0_fits 23 = .ok (.ifCond .eq 11, 3) := dk_153 0 11 (dk_at dksX0_fits_1 0 rfl rfl)
theorem dX0_fits_26 : decode cX0_fits 26 = .ok (.iload 6, 2) := dk_21 6 (dk_at dksX0_fits_1 3 rfl rfl)
theorem dX0_fits_28 : decode cX0_fits 28 = .ok (.invokestatic 215, 3) := dk_184 0 215 (dk_at dksX0_fits_1 5 rfl rfl)
theorem dX0_fits_31 : decode cX0_fits 31 = .ok (.ifCond .ne 6, 3) := dk_154 0 6 (dk_at dksX0_fits_1 8 rfl rfl)
theorem dX0_fits_34 : decode cX0_fits 34 = .ok (.ldc 94, 2) := dk_18 94 (dk_at dksX0_fits_1 11 rfl rfl)
theorem dX0_fits_36 : decode cX0_fits 36 = .ok (.ireturn, 1) := dk_172 (dk_at dksX0_fits_1 13 rfl rfl)
theorem dX0_fits_37 : decode cX0_fits 37 = .ok (.aload_n 0, 1) := dk_42 (dk_at dksX0_fits_1 14 rfl rfl)
theorem dX0_fits_38 : decode cX0_fits 38 = .ok (.iload_n 1, 1) := dk_27 (dk_at dksX0_fits_1 15 rfl rfl)
theorem dX0_fits_39 : decode cX0_fits 39 = .ok (.iload_n 2, 1) := dk_28 (dk_at dksX0_fits_1 16 rfl rfl)
theorem dX0_fits_40 : decode cX0_fits 40 = .ok (.iload_n 3, 1) := dk_29 (dk_at dksX0_fits_1 17 rfl rfl)
theorem dX0_fits_41 : decode cX0_fits 41 = .ok (.iload 4, 2) := dk_21 4 (dk_at dksX0_fits_1 18 rfl rfl)
theorem dX0_fits_43 : decode cX0_fits 43 = .ok (.iload 5, 2) := dk_21 5 (dk_at dksX0_fits_1 20 rfl rfl)
theorem dX0_fits_45 : decode cX0_fits 45 = .ok (.new 327, 3) := dk_187 1 71 (dk_at dksX0_fits_2 0 rfl rfl)
theorem dX0_fits_48 : decode cX0_fits 48 = .ok (.dup, 1) := dk_89 (dk_at dksX0_fits_2 3 rfl rfl)
theorem dX0_fits_49 : decode cX0_fits 49 = .ok (.aload_n 0, 1) := dk_42 (dk_at dksX0_fits_2 4 rfl rfl)
theorem dX0_fits_50 : decode cX0_fits 50 = .ok (.iload 6, 2) := dk_21 6 (dk_at dksX0_fits_2 5 rfl rfl)
theorem dX0_fits_52 : decode cX0_fits 52 = .ok (.invokespecial 329, 3) := dk_183 1 73 (dk_at dksX0_fits_2 7 rfl rfl)
theorem dX0_fits_55 : decode cX0_fits 55 = .ok (.invokevirtual 332, 3) := dk_182 1 76 (dk_at dksX0_fits_2 10 rfl rfl)
theorem dX0_fits_58 : decode cX0_fits 58 = .ok (.ireturn, 1) := dk_172 (dk_at dksX0_fits_2 13 rfl rfl)
abbrev cX0_isMany : ByteArray := prog_1_method_44_code
def yX0_isMany : MethodName := ⟨RX0, "isMany", "(II)Z"⟩
def dkwX0_isMany_1 : List UInt8 := [172]
abbrev dktX0_isMany_1 : List UInt8 := dkwX0_isMany_1 ++ []
def dkwX0_isMany_0 : List UInt8 := [26, 184, 0, 88, 153, 0, 19, 27, 133, 10, 20, 1, 37, 184, 0, 84, 153, 0, 7, 4, 167, 0, 4, 3]
abbrev dktX0_isMany_0 : List UInt8 := dkwX0_isMany_0 ++ dktX0_isMany_1
theorem dksX0_isMany_0 : cX0_isMany.data.toList.drop 0 = dktX0_isMany_0 := by decide +kernel
theorem dksX0_isMany_1 : cX0_isMany.data.toList.drop 24 = dktX0_isMany_1 := dk_seg dksX0_isMany_0 24 rfl rfl
theorem dX0_isMany_0 : decode cX0_isMany 0 = .ok (.iload_n 0, 1) := dk_26 (dk_at dksX0_isMany_0 0 rfl rfl)
theorem dX0_isMany_1 : decode cX0_isMany 1 = .ok (.invokestatic 88, 3) := dk_184 0 88 (dk_at dksX0_isMany_0 1 rfl rfl)
theorem dX0_isMany_4 : decode cX0_isMany 4 = .ok (.ifCond .eq 19, 3) := dk_153 0 19 (dk_at dksX0_isMany_0 4 rfl rfl)
theorem dX0_isMany_7 : decode cX0_isMany 7 = .ok (.iload_n 1, 1) := dk_27 (dk_at dksX0_isMany_0 7 rfl rfl)
theorem dX0_isMany_8 : decode cX0_isMany 8 = .ok (.i2l, 1) := dk_133 (dk_at dksX0_isMany_0 8 rfl rfl)
theorem dX0_isMany_9 : decode cX0_isMany 9 = .ok (.lconst 1, 1) := dk_10 (dk_at dksX0_isMany_0 9 rfl rfl)
theorem dX0_isMany_10 : decode cX0_isMany 10 = .ok (.ldc2_w 293, 3) := dk_20 1 37 (dk_at dksX0_isMany_0 10 rfl rfl)
theorem dX0_isMany_13 : decode cX0_isMany 13 = .ok (.invokestatic 84, 3) := dk_184 0 84 (dk_at dksX0_isMany_0 13 rfl rfl)
theorem dX0_isMany_16 : decode cX0_isMany 16 = .ok (.ifCond .eq 7, 3) := dk_153 0 7 (dk_at dksX0_isMany_0 16 rfl rfl)
theorem dX0_isMany_19 : decode cX0_isMany 19 = .ok (.iconst 1, 1) := dk_4 (dk_at dksX0_isMany_0 19 rfl rfl)
theorem dX0_isMany_20 : decode cX0_isMany 20 = .ok (.goto 4, 3) := dk_167 0 4 (dk_at dksX0_isMany_0 20 rfl rfl)
theorem dX0_isMany_23 : decode cX0_isMany 23 = .ok (.iconst 0, 1) := dk_3 (dk_at dksX0_isMany_0 23 rfl rfl)
theorem dX0_isMany_24 : decode cX0_isMany 24 = .ok (.ireturn, 1) := dk_172 (dk_at dksX0_isMany_1 0 rfl rfl)
abbrev cX0_told : ByteArray := prog_1_method_43_code
def yX0_told : MethodName := ⟨RX0, "told", "(IIIIILMoodFare$Told;)I"⟩
def dkwX0_told_2 : List UInt8 := [172]
abbrev dktX0_told_2 : List UInt8 := dkwX0_told_2 ++ []
def dkwX0_told_1 : List UInt8 := [185, 1, 62, 3, 0, 182, 0, 103, 172, 58, 7, 42, 4, 182, 0, 109, 172, 58, 7, 42, 5, 182, 0, 109]
abbrev dktX0_told_1 : List UInt8 := dkwX0_told_1 ++ dktX0_told_2
def dkwX0_told_0 : List UInt8 := [42, 27, 28, 21, 5, 182, 1, 58, 58, 7, 42, 25, 6, 25, 7, 42, 29, 21, 4, 21, 5, 182, 1, 58]
abbrev dktX0_told_0 : List UInt8 := dkwX0_told_0 ++ dktX0_told_1
theorem dksX0_told_0 : cX0_told.data.toList.drop 0 = dktX0_told_0 := by decide +kernel
theorem dksX0_told_1 : cX0_told.data.toList.drop 24 = dktX0_told_1 := dk_seg dksX0_told_0 24 rfl rfl
theorem dksX0_told_2 : cX0_told.data.toList.drop 48 = dktX0_told_2 := dk_seg dksX0_told_1 24 rfl rfl
theorem dX0_told_0 : decode cX0_told 0 = .ok (.aload_n 0, 1) := dk_42 (dk_at dksX0_told_0 0 rfl rfl)
theorem dX0_told_1 : decode cX0_told 1 = .ok (.iload_n 1, 1) := dk_27 (dk_at dksX0_told_0 1 rfl rfl)
theorem dX0_told_2 : decode cX0_told 2 = .ok (.iload_n 2, 1) := dk_28 (dk_at dksX0_told_0 2 rfl rfl)
theorem dX0_told_3 : decode cX0_told 3 = .ok (.iload 5, 2) := dk_21 5 (dk_at dksX0_told_0 3 rfl rfl)
theorem dX0_told_5 : decode cX0_told 5 = .ok (.invokevirtual 314, 3) := dk_182 1 58 (dk_at dksX0_told_0 5 rfl rfl)
theorem dX0_told_8 : decode cX0_told 8 = .ok (.astore 7, 2) := dk_58 7 (dk_at dksX0_told_0 8 rfl rfl)
theorem dX0_told_10 : decode cX0_told 10 = .ok (.aload_n 0, 1) := dk_42 (dk_at dksX0_told_0 10 rfl rfl)
theorem dX0_told_11 : decode cX0_told 11 = .ok (.aload 6, 2) := dk_25 6 (dk_at dksX0_told_0 11 rfl rfl)
theorem dX0_told_13 : decode cX0_told 13 = .ok (.aload 7, 2) := dk_25 7 (dk_at dksX0_told_0 13 rfl rfl)
theorem dX0_told_15 : decode cX0_told 15 = .ok (.aload_n 0, 1) := dk_42 (dk_at dksX0_told_0 15 rfl rfl)
theorem dX0_told_16 : decode cX0_told 16 = .ok (.iload_n 3, 1) := dk_29 (dk_at dksX0_told_0 16 rfl rfl)
theorem dX0_told_17 : decode cX0_told 17 = .ok (.iload 4, 2) := dk_21 4 (dk_at dksX0_told_0 17 rfl rfl)
theorem dX0_told_19 : decode cX0_told 19 = .ok (.iload 5, 2) := dk_21 5 (dk_at dksX0_told_0 19 rfl rfl)
theorem dX0_told_21 : decode cX0_told 21 = .ok (.invokevirtual 314, 3) := dk_182 1 58 (dk_at dksX0_told_0 21 rfl rfl)
theorem dX0_told_24 : decode cX0_told 24 = .ok (.invokeinterface 318 3, 5) := by decide +kernel
theorem dX0_told_29 : decode cX0_told 29 = .ok (.invokevirtual 103, 3) := dk_182 0 103 (dk_at dksX0_told_1 5 rfl rfl)
theorem dX0_told_32 : decode cX0_told 32 = .ok (.ireturn, 1) := dk_172 (dk_at dksX0_told_1 8 rfl rfl)
theorem dX0_told_33 : decode cX0_told 33 = .ok (.astore 7, 2) := dk_58 7 (dk_at dksX0_told_1 9 rfl rfl)
theorem dX0_told_35 : decode cX0_told 35 = .ok (.aload_n 0, 1) := dk_42 (dk_at dksX0_told_1 11 rfl rfl)
theorem dX0_told_36 : decode cX0_told 36 = .ok (.iconst 1, 1) := dk_4 (dk_at dksX0_told_1 12 rfl rfl)
theorem dX0_told_37 : decode cX0_told 37 = .ok (.invokevirtual 109, 3) := dk_182 0 109 (dk_at dksX0_told_1 13 rfl rfl)
theorem dX0_told_40 : decode cX0_told 40 = .ok (.ireturn, 1) := dk_172 (dk_at dksX0_told_1 16 rfl rfl)
theorem dX0_told_41 : decode cX0_told 41 = .ok (.astore 7, 2) := dk_58 7 (dk_at dksX0_told_1 17 rfl rfl)
theorem dX0_told_43 : decode cX0_told 43 = .ok (.aload_n 0, 1) := dk_42 (dk_at dksX0_told_1 19 rfl rfl)
theorem dX0_told_44 : decode cX0_told 44 = .ok (.iconst 2, 1) := dk_5 (dk_at dksX0_told_1 20 rfl rfl)
theorem dX0_told_45 : decode cX0_told 45 = .ok (.invokevirtual 109, 3) := dk_182 0 109 (dk_at dksX0_told_1 21 rfl rfl)
theorem dX0_told_48 : decode cX0_told 48 = .ok (.ireturn, 1) := dk_172 (dk_at dksX0_told_2 0 rfl rfl)
abbrev cX0_items : ByteArray := prog_1_method_15_code
def yX0_items : MethodName := ⟨RX0, "items", "(III)[I"⟩
def dkwX0_items_3 : List UInt8 := [167, 255, 229, 25, 5, 176]
abbrev dktX0_items_3 : List UInt8 := dkwX0_items_3 ++ []
def dkwX0_items_2 : List UInt8 := [162, 0, 27, 25, 5, 21, 6, 42, 180, 0, 35, 27, 50, 28, 21, 6, 96, 182, 0, 135, 79, 132, 6, 1]
abbrev dktX0_items_2 : List UInt8 := dkwX0_items_2 ++ dktX0_items_3
def dkwX0_items_1 : List UInt8 := [158, 0, 11, 187, 0, 118, 89, 183, 0, 134, 191, 29, 188, 10, 58, 5, 3, 54, 6, 21, 6, 29]
abbrev dktX0_items_1 : List UInt8 := dkwX0_items_1 ++ dktX0_items_2
def dkwX0_items_0 : List UInt8 := [42, 180, 0, 35, 27, 50, 182, 0, 130, 54, 4, 28, 155, 0, 15, 28, 133, 29, 133, 97, 21, 4, 133, 148]
abbrev dktX0_items_0 : List UInt8 := dkwX0_items_0 ++ dktX0_items_1
theorem dksX0_items_0 : cX0_items.data.toList.drop 0 = dktX0_items_0 := by decide +kernel
theorem dksX0_items_1 : cX0_items.data.toList.drop 24 = dktX0_items_1 := dk_seg dksX0_items_0 24 rfl rfl
theorem dksX0_items_2 : cX0_items.data.toList.drop 46 = dktX0_items_2 := dk_seg dksX0_items_1 22 rfl rfl
theorem dksX0_items_3 : cX0_items.data.toList.drop 70 = dktX0_items_3 := dk_seg dksX0_items_2 24 rfl rfl
theorem dX0_items_0 : decode cX0_items 0 = .ok (.aload_n 0, 1) := dk_42 (dk_at dksX0_items_0 0 rfl rfl)
theorem dX0_items_1 : decode cX0_items 1 = .ok (.getfield 35, 3) := dk_180 0 35 (dk_at dksX0_items_0 1 rfl rfl)
theorem dX0_items_4 : decode cX0_items 4 = .ok (.iload_n 1, 1) := dk_27 (dk_at dksX0_items_0 4 rfl rfl)
theorem dX0_items_5 : decode cX0_items 5 = .ok (.aaload, 1) := dk_50 (dk_at dksX0_items_0 5 rfl rfl)
theorem dX0_items_6 : decode cX0_items 6 = .ok (.invokevirtual 130, 3) := dk_182 0 130 (dk_at dksX0_items_0 6 rfl rfl)
theorem dX0_items_9 : decode cX0_items 9 = .ok (.istore 4, 2) := dk_54 4 (dk_at dksX0_items_0 9 rfl rfl)
theorem dX0_items_11 : decode cX0_items 11 = .ok (.iload_n 2, 1) := dk_28 (dk_at dksX0_items_0 11 rfl rfl)
theorem dX0_items_12 : decode cX0_items 12 = .ok (.ifCond .lt 15, 3) := dk_155 0 15 (dk_at dksX0_items_0 12 rfl rfl)
theorem dX0_items_15 : decode cX0_items 15 = .ok (.iload_n 2, 1) := dk_28 (dk_at dksX0_items_0 15 rfl rfl)
theorem dX0_items_16 : decode cX0_items 16 = .ok (.i2l, 1) := dk_133 (dk_at dksX0_items_0 16 rfl rfl)
theorem dX0_items_17 : decode cX0_items 17 = .ok (.iload_n 3, 1) := dk_29 (dk_at dksX0_items_0 17 rfl rfl)
theorem dX0_items_18 : decode cX0_items 18 = .ok (.i2l, 1) := dk_133 (dk_at dksX0_items_0 18 rfl rfl)
theorem dX0_items_19 : decode cX0_items 19 = .ok (.ladd, 1) := dk_97 (dk_at dksX0_items_0 19 rfl rfl)
theorem dX0_items_20 : decode cX0_items 20 = .ok (.iload 4, 2) := dk_21 4 (dk_at dksX0_items_0 20 rfl rfl)
theorem dX0_items_22 : decode cX0_items 22 = .ok (.i2l, 1) := dk_133 (dk_at dksX0_items_0 22 rfl rfl)
theorem dX0_items_23 : decode cX0_items 23 = .ok (.lcmp, 1) := dk_148 (dk_at dksX0_items_0 23 rfl rfl)
theorem dX0_items_24 : decode cX0_items 24 = .ok (.ifCond .le 11, 3) := dk_158 0 11 (dk_at dksX0_items_1 0 rfl rfl)
theorem dX0_items_27 : decode cX0_items 27 = .ok (.new 118, 3) := dk_187 0 118 (dk_at dksX0_items_1 3 rfl rfl)
theorem dX0_items_30 : decode cX0_items 30 = .ok (.dup, 1) := dk_89 (dk_at dksX0_items_1 6 rfl rfl)
theorem dX0_items_31 : decode cX0_items 31 = .ok (.invokespecial 134, 3) := dk_183 0 134 (dk_at dksX0_items_1 7 rfl rfl)
theorem dX0_items_34 : decode cX0_items 34 = .ok (.athrow, 1) := dk_191 (dk_at dksX0_items_1 10 rfl rfl)
theorem dX0_items_35 : decode cX0_items 35 = .ok (.iload_n 3, 1) := dk_29 (dk_at dksX0_items_1 11 rfl rfl)
theorem dX0_items_36 : decode cX0_items 36 = .ok (.newarray .int, 2) := dk_188_10 (dk_at dksX0_items_1 12 rfl rfl)
theorem dX0_items_38 : decode cX0_items 38 = .ok (.astore 5, 2) := dk_58 5 (dk_at dksX0_items_1 14 rfl rfl)
theorem dX0_items_40 : decode cX0_items 40 = .ok (.iconst 0, 1) := dk_3 (dk_at dksX0_items_1 16 rfl rfl)
theorem dX0_items_41 : decode cX0_items 41 = .ok (.istore 6, 2) := dk_54 6 (dk_at dksX0_items_1 17 rfl rfl)
theorem dX0_items_43 : decode cX0_items 43 = .ok (.iload 6, 2) := dk_21 6 (dk_at dksX0_items_1 19 rfl rfl)
theorem dX0_items_45 : decode cX0_items 45 = .ok (.iload_n 3, 1) := dk_29 (dk_at dksX0_items_1 21 rfl rfl)
theorem dX0_items_46 : decode cX0_items 46 = .ok (.if_icmp .ge 27, 3) := dk_162 0 27 (dk_at dksX0_items_2 0 rfl rfl)
theorem dX0_items_49 : decode cX0_items 49 = .ok (.aload 5, 2) := dk_25 5 (dk_at dksX0_items_2 3 rfl rfl)
theorem dX0_items_51 : decode cX0_items 51 = .ok (.iload 6, 2) := dk_21 6 (dk_at dksX0_items_2 5 rfl rfl)
theorem dX0_items_53 : decode cX0_items 53 = .ok (.aload_n 0, 1) := dk_42 (dk_at dksX0_items_2 7 rfl rfl)
theorem dX0_items_54 : decode cX0_items 54 = .ok (.getfield 35, 3) := dk_180 0 35 (dk_at dksX0_items_2 8 rfl rfl)
theorem dX0_items_57 : decode cX0_items 57 = .ok (.iload_n 1, 1) := dk_27 (dk_at dksX0_items_2 11 rfl rfl)
theorem dX0_items_58 : decode cX0_items 58 = .ok (.aaload, 1) := dk_50 (dk_at dksX0_items_2 12 rfl rfl)
theorem dX0_items_59 : decode cX0_items 59 = .ok (.iload_n 2, 1) := dk_28 (dk_at dksX0_items_2 13 rfl rfl)
theorem dX0_items_60 : decode cX0_items 60 = .ok (.iload 6, 2) := dk_21 6 (dk_at dksX0_items_2 14 rfl rfl)
theorem dX0_items_62 : decode cX0_items 62 = .ok (.iadd, 1) := dk_96 (dk_at dksX0_items_2 16 rfl rfl)
theorem dX0_items_63 : decode cX0_items 63 = .ok (.invokevirtual 135, 3) := dk_182 0 135 (dk_at dksX0_items_2 17 rfl rfl)
theorem dX0_items_66 : decode cX0_items 66 = .ok (.iastore, 1) := dk_79 (dk_at dksX0_items_2 20 rfl rfl)
theorem dX0_items_67 : decode cX0_items 67 = .ok (.iinc 6 1, 3) := dk_132 6 1 (dk_at dksX0_items_2 21 rfl rfl)
theorem dX0_items_70 : decode cX0_items 70 = .ok (.goto (-27), 3) := dk_167 255 229 (dk_at dksX0_items_3 0 rfl rfl)
theorem dX0_items_73 : decode cX0_items 73 = .ok (.aload 5, 2) := dk_25 5 (dk_at dksX0_items_3 3 rfl rfl)
theorem dX0_items_75 : decode cX0_items 75 = .ok (.areturn, 1) := dk_176 (dk_at dksX0_items_3 5 rfl rfl)
abbrev cX0_costsSo : ByteArray := prog_1_method_42_code
def yX0_costsSo : MethodName := ⟨RX0, "costsSo", "([I[I)Z"⟩
def dkwX0_costsSo_2 : List UInt8 := [172]
abbrev dktX0_costsSo_2 : List UInt8 := dkwX0_costsSo_2 ++ []
def dkwX0_costsSo_1 : List UInt8 := [180, 0, 50, 44, 29, 46, 182, 0, 194, 43, 29, 46, 159, 0, 5, 3, 172, 132, 3, 1, 167, 255, 216, 4]
abbrev dktX0_costsSo_1 : List UInt8 := dkwX0_costsSo_1 ++ dktX0_costsSo_2
def dkwX0_costsSo_0 : List UInt8 := [3, 62, 29, 44, 190, 162, 0, 40, 42, 180, 0, 50, 44, 29, 46, 182, 0, 184, 153, 0, 19, 42]
abbrev dktX0_costsSo_0 : List UInt8 := dkwX0_costsSo_0 ++ dktX0_costsSo_1
theorem dksX0_costsSo_0 : cX0_costsSo.data.toList.drop 0 = dktX0_costsSo_0 := by decide +kernel
theorem dksX0_costsSo_1 : cX0_costsSo.data.toList.drop 22 = dktX0_costsSo_1 := dk_seg dksX0_costsSo_0 22 rfl rfl
theorem dksX0_costsSo_2 : cX0_costsSo.data.toList.drop 46 = dktX0_costsSo_2 := dk_seg dksX0_costsSo_1 24 rfl rfl
theorem dX0_costsSo_0 : decode cX0_costsSo 0 = .ok (.iconst 0, 1) := dk_3 (dk_at dksX0_costsSo_0 0 rfl rfl)
theorem dX0_costsSo_1 : decode cX0_costsSo 1 = .ok (.istore_n 3, 1) := dk_62 (dk_at dksX0_costsSo_0 1 rfl rfl)
theorem dX0_costsSo_2 : decode cX0_costsSo 2 = .ok (.iload_n 3, 1) := dk_29 (dk_at dksX0_costsSo_0 2 rfl rfl)
theorem dX0_costsSo_3 : decode cX0_costsSo 3 = .ok (.aload_n 2, 1) := dk_44 (dk_at dksX0_costsSo_0 3 rfl rfl)
theorem dX0_costsSo_4 : decode cX0_costsSo 4 = .ok (.arraylength, 1) := dk_190 (dk_at dksX0_costsSo_0 4 rfl rfl)
theorem dX0_costsSo_5 : decode cX0_costsSo 5 = .ok (.if_icmp .ge 40, 3) := dk_162 0 40 (dk_at dksX0_costsSo_0 5 rfl rfl)
theorem dX0_costsSo_8 : decode cX0_costsSo 8 = .ok (.aload_n 0, 1) := dk_42 (dk_at dksX0_costsSo_0 8 rfl rfl)
theorem dX0_costsSo_9 : decode cX0_costsSo 9 = .ok (.getfield 50, 3) := dk_180 0 50 (dk_at dksX0_costsSo_0 9 rfl rfl)
theorem dX0_costsSo_12 : decode cX0_costsSo 12 = .ok (.aload_n 2, 1) := dk_44 (dk_at dksX0_costsSo_0 12 rfl rfl)
theorem dX0_costsSo_13 : decode cX0_costsSo 13 = .ok (.iload_n 3, 1) := dk_29 (dk_at dksX0_costsSo_0 13 rfl rfl)
theorem dX0_costsSo_14 : decode cX0_costsSo 14 = .ok (.iaload, 1) := dk_46 (dk_at dksX0_costsSo_0 14 rfl rfl)
theorem dX0_costsSo_15 : decode cX0_costsSo 15 = .ok (.invokevirtual 184, 3) := dk_182 0 184 (dk_at dksX0_costsSo_0 15 rfl rfl)
theorem dX0_costsSo_18 : decode cX0_costsSo 18 = .ok (.ifCond .eq 19, 3) := dk_153 0 19 (dk_at dksX0_costsSo_0 18 rfl rfl)
theorem dX0_costsSo_21 : decode cX0_costsSo 21 = .ok (.aload_n 0, 1) := dk_42 (dk_at dksX0_costsSo_0 21 rfl rfl)
theorem dX0_costsSo_22 : decode cX0_costsSo 22 = .ok (.getfield 50, 3) := dk_180 0 50 (dk_at dksX0_costsSo_1 0 rfl rfl)
theorem dX0_costsSo_25 : decode cX0_costsSo 25 = .ok (.aload_n 2, 1) := dk_44 (dk_at dksX0_costsSo_1 3 rfl rfl)
theorem dX0_costsSo_26 : decode cX0_costsSo 26 = .ok (.iload_n 3, 1) := dk_29 (dk_at dksX0_costsSo_1 4 rfl rfl)
theorem dX0_costsSo_27 : decode cX0_costsSo 27 = .ok (.iaload, 1) := dk_46 (dk_at dksX0_costsSo_1 5 rfl rfl)
theorem dX0_costsSo_28 : decode cX0_costsSo 28 = .ok (.invokevirtual 194, 3) := dk_182 0 194 (dk_at dksX0_costsSo_1 6 rfl rfl)
theorem dX0_costsSo_31 : decode cX0_costsSo 31 = .ok (.aload_n 1, 1) := dk_43 (dk_at dksX0_costsSo_1 9 rfl rfl)
theorem dX0_costsSo_32 : decode cX0_costsSo 32 = .ok (.iload_n 3, 1) := dk_29 (dk_at dksX0_costsSo_1 10 rfl rfl)
theorem dX0_costsSo_33 : decode cX0_costsSo 33 = .ok (.iaload, 1) := dk_46 (dk_at dksX0_costsSo_1 11 rfl rfl)
theorem dX0_costsSo_34 : decode cX0_costsSo 34 = .ok (.if_icmp .eq 5, 3) := dk_159 0 5 (dk_at dksX0_costsSo_1 12 rfl rfl)
theorem dX0_costsSo_37 : decode cX0_costsSo 37 = .ok (.iconst 0, 1) := dk_3 (dk_at dksX0_costsSo_1 15 rfl rfl)
theorem dX0_costsSo_38 : decode cX0_costsSo 38 = .ok (.ireturn, 1) := dk_172 (dk_at dksX0_costsSo_1 16 rfl rfl)
theorem dX0_costsSo_39 : decode cX0_costsSo 39 = .ok (.iinc 3 1, 3) := dk_132 3 1 (dk_at dksX0_costsSo_1 17 rfl rfl)
theorem dX0_costsSo_42 : decode cX0_costsSo 42 = .ok (.goto (-40), 3) := dk_167 255 216 (dk_at dksX0_costsSo_1 20 rfl rfl)
theorem dX0_costsSo_45 : decode cX0_costsSo 45 = .ok (.iconst 1, 1) := dk_4 (dk_at dksX0_costsSo_1 23 rfl rfl)
theorem dX0_costsSo_46 : decode cX0_costsSo 46 = .ok (.ireturn, 1) := dk_172 (dk_at dksX0_costsSo_2 0 rfl rfl)
abbrev cX0_fitsOf : ByteArray := prog_1_method_46_code
def yX0_fitsOf : MethodName := ⟨RX0, "fitsOf", "(IIIIIII)I"⟩
def dkwX0_fitsOf_2 : List UInt8 := [187, 1, 80, 89, 42, 27, 21, 7, 183, 1, 82, 182, 1, 76, 172]
abbrev dktX0_fitsOf_2 : List UInt8 := dkwX0_fitsOf_2 ++ []
def dkwX0_fitsOf_1 : List UInt8 := [153, 0, 11, 21, 7, 184, 0, 215, 154, 0, 6, 18, 94, 172, 42, 28, 29, 21, 4, 21, 5, 21, 6]
abbrev dktX0_fitsOf_1 : List UInt8 := dkwX0_fitsOf_1 ++ dktX0_fitsOf_2
def dkwX0_fitsOf_0 : List UInt8 := [42, 27, 182, 0, 200, 153, 0, 28, 28, 21, 6, 184, 1, 68, 153, 0, 19, 21, 4, 184, 0, 88]
abbrev dktX0_fitsOf_0 : List UInt8 := dkwX0_fitsOf_0 ++ dktX0_fitsOf_1
theorem dksX0_fitsOf_0 : cX0_fitsOf.data.toList.drop 0 = dktX0_fitsOf_0 := by decide +kernel
theorem dksX0_fitsOf_1 : cX0_fitsOf.data.toList.drop 22 = dktX0_fitsOf_1 := dk_seg dksX0_fitsOf_0 22 rfl rfl
theorem dksX0_fitsOf_2 : cX0_fitsOf.data.toList.drop 45 = dktX0_fitsOf_2 := dk_seg dksX0_fitsOf_1 23 rfl rfl
theorem dX0_fitsOf_0 : decode cX0_fitsOf 0 = .ok (.aload_n 0, 1) := dk_42 (dk_at dksX0_fitsOf_0 0 rfl rfl)
theorem dX0_fitsOf_1 : decode cX0_fitsOf 1 = .ok (.iload_n 1, 1) := dk_27 (dk_at dksX0_fitsOf_0 1 rfl rfl)
theorem dX0_fitsOf_2 : decode cX0_fitsOf 2 = .ok (.invokevirtual 200, 3) := dk_182 0 200 (dk_at dksX0_fitsOf_0 2 rfl rfl)
theorem dX0_fitsOf_5 : decode cX0_fitsOf 5 = .ok (.ifCond .eq 28, 3) := dk_153 0 28 (dk_at dksX0_fitsOf_0 5 rfl rfl)
theorem dX0_fitsOf_8 : decode cX0_fitsOf 8 = .ok (.iload_n 2, 1) := dk_28 (dk_at dksX0_fitsOf_0 8 rfl rfl)
theorem dX0_fitsOf_9 : decode cX0_fitsOf 9 = .ok (.iload 6, 2) := dk_21 6 (dk_at dksX0_fitsOf_0 9 rfl rfl)
theorem dX0_fitsOf_11 : decode cX0_fitsOf 11 = .ok (.invokestatic 324, 3) := dk_184 1 68 (dk_at dksX0_fitsOf_0 11 rfl rfl)
theorem dX0_fitsOf_14 : decode cX0_fitsOf 14 = .ok (.ifCond .eq 19, 3) := dk_153 0 19 (dk_at dksX0_fitsOf_0 14 rfl rfl)
theorem dX0_fitsOf_17 : decode cX0_fitsOf 17 = .ok (.iload 4, 2) := dk_21 4 (dk_at dksX0_fitsOf_0 17 rfl rfl)
theorem dX0_fitsOf_19 : decode cX0_fitsOf 19 = .ok (.invokestatic 88, 3) := dk_184 0 88 (dk_at dksX0_fitsOf_0 19 rfl rfl)
theorem dX0_fitsOf_22 : decode cX0_fitsOf 22 = .ok (.ifCond .eq 11, 3) := dk_153 0 11 (dk_at dksX0_fitsOf_1 0 rfl rfl)
theorem dX0_fitsOf_25 : decode cX0_fitsOf 25 = .ok (.iload 7, 2) := dk_21 7 (dk_at dksX0_fitsOf_1 3 rfl rfl)
theorem dX0_fitsOf_27 : decode cX0_fitsOf 27 = .ok (.invokestatic 215, 3) := dk_184 0 215 (dk_at dksX0_fitsOf_1 5 rfl rfl)
theorem dX0_fitsOf_30 : decode cX0_fitsOf 30 = .ok (.ifCond .ne 6, 3) := dk_154 0 6 (dk_at dksX0_fitsOf_1 8 rfl rfl)
theorem dX0_fitsOf_33 : decode cX0_fitsOf 33 = .ok (.ldc 94, 2) := dk_18 94 (dk_at dksX0_fitsOf_1 11 rfl rfl)
theorem dX0_fitsOf_35 : decode cX0_fitsOf 35 = .ok (.ireturn, 1) := dk_172 (dk_at dksX0_fitsOf_1 13 rfl rfl)
theorem dX0_fitsOf_36 : decode cX0_fitsOf 36 = .ok (.aload_n 0, 1) := dk_42 (dk_at dksX0_fitsOf_1 14 rfl rfl)
theorem dX0_fitsOf_37 : decode cX0_fitsOf 37 = .ok (.iload_n 2, 1) := dk_28 (dk_at dksX0_fitsOf_1 15 rfl rfl)
theorem dX0_fitsOf_38 : decode cX0_fitsOf 38 = .ok (.iload_n 3, 1) := dk_29 (dk_at dksX0_fitsOf_1 16 rfl rfl)
theorem dX0_fitsOf_39 : decode cX0_fitsOf 39 = .ok (.iload 4, 2) := dk_21 4 (dk_at dksX0_fitsOf_1 17 rfl rfl)
theorem dX0_fitsOf_41 : decode cX0_fitsOf 41 = .ok (.iload 5, 2) := dk_21 5 (dk_at dksX0_fitsOf_1 19 rfl rfl)
theorem dX0_fitsOf_43 : decode cX0_fitsOf 43 = .ok (.iload 6, 2) := dk_21 6 (dk_at dksX0_fitsOf_1 21 rfl rfl)
theorem dX0_fitsOf_45 : decode cX0_fitsOf 45 = .ok (.new 336, 3) := dk_187 1 80 (dk_at dksX0_fitsOf_2 0 rfl rfl)
theorem dX0_fitsOf_48 : decode cX0_fitsOf 48 = .ok (.dup, 1) := dk_89 (dk_at dksX0_fitsOf_2 3 rfl rfl)
theorem dX0_fitsOf_49 : decode cX0_fitsOf 49 = .ok (.aload_n 0, 1) := dk_42 (dk_at dksX0_fitsOf_2 4 rfl rfl)
theorem dX0_fitsOf_50 : decode cX0_fitsOf 50 = .ok (.iload_n 1, 1) := dk_27 (dk_at dksX0_fitsOf_2 5 rfl rfl)
theorem dX0_fitsOf_51 : decode cX0_fitsOf 51 = .ok (.iload 7, 2) := dk_21 7 (dk_at dksX0_fitsOf_2 6 rfl rfl)
theorem dX0_fitsOf_53 : decode cX0_fitsOf 53 = .ok (.invokespecial 338, 3) := dk_183 1 82 (dk_at dksX0_fitsOf_2 8 rfl rfl)
theorem dX0_fitsOf_56 : decode cX0_fitsOf 56 = .ok (.invokevirtual 332, 3) := dk_182 1 76 (dk_at dksX0_fitsOf_2 11 rfl rfl)
theorem dX0_fitsOf_59 : decode cX0_fitsOf 59 = .ok (.ireturn, 1) := dk_172 (dk_at dksX0_fitsOf_2 14 rfl rfl)
abbrev cX0_share : ByteArray := prog_1_method_47_code
def yX0_share : MethodName := ⟨RX0, "share", "(IIII)I"⟩
def dkwX0_share_2 : List UInt8 := [183, 1, 87, 182, 1, 76, 172]
abbrev dktX0_share_2 : List UInt8 := dkwX0_share_2 ++ []
def dkwX0_share_1 : List UInt8 := [100, 133, 184, 0, 84, 154, 0, 6, 18, 94, 172, 42, 27, 28, 27, 28, 29, 187, 1, 85, 89, 42, 21, 4]
abbrev dktX0_share_1 : List UInt8 := dkwX0_share_1 ++ dktX0_share_2
def dkwX0_share_0 : List UInt8 := [42, 182, 0, 208, 154, 0, 6, 18, 187, 172, 27, 29, 184, 1, 68, 153, 0, 17, 21, 4, 133, 9, 29, 4]
abbrev dktX0_share_0 : List UInt8 := dkwX0_share_0 ++ dktX0_share_1
theorem dksX0_share_0 : cX0_share.data.toList.drop 0 = dktX0_share_0 := by decide +kernel
theorem dksX0_share_1 : cX0_share.data.toList.drop 24 = dktX0_share_1 := dk_seg dksX0_share_0 24 rfl rfl
theorem dksX0_share_2 : cX0_share.data.toList.drop 48 = dktX0_share_2 := dk_seg dksX0_share_1 24 rfl rfl
theorem dX0_share_0 : decode cX0_share 0 = .ok (.aload_n 0, 1) := dk_42 (dk_at dksX0_share_0 0 rfl rfl)
theorem dX0_share_1 : decode cX0_share 1 = .ok (.invokevirtual 208, 3) := dk_182 0 208 (dk_at dksX0_share_0 1 rfl rfl)
theorem dX0_share_4 : decode cX0_share 4 = .ok (.ifCond .ne 6, 3) := dk_154 0 6 (dk_at dksX0_share_0 4 rfl rfl)
theorem dX0_share_7 : decode cX0_share 7 = .ok (.ldc 187, 2) := dk_18 187 (dk_at dksX0_share_0 7 rfl rfl)
theorem dX0_share_9 : decode cX0_share 9 = .ok (.ireturn, 1) := dk_172 (dk_at dksX0_share_0 9 rfl rfl)
theorem dX0_share_10 : decode cX0_share 10 = .ok (.iload_n 1, 1) := dk_27 (dk_at dksX0_share_0 10 rfl rfl)
theorem dX0_share_11 : decode cX0_share 11 = .ok (.iload_n 3, 1) := dk_29 (dk_at dksX0_share_0 11 rfl rfl)
theorem dX0_share_12 : decode cX0_share 12 = .ok (.invokestatic 324, 3) := dk_184 1 68 (dk_at dksX0_share_0 12 rfl rfl)
theorem dX0_share_15 : decode cX0_share 15 = .ok (.ifCond .eq 17, 3) := dk_153 0 17 (dk_at dksX0_share_0 15 rfl rfl)
theorem dX0_share_18 : decode cX0_share 18 = .ok (.iload 4, 2) := dk_21 4 (dk_at dksX0_share_0 18 rfl rfl)
theorem dX0_share_20 : decode cX0_share 20 = .ok (.i2l, 1) := dk_133 (dk_at dksX0_share_0 20 rfl rfl)
theorem dX0_share_21 : decode cX0_share 21 = .ok (.lconst 0, 1) := dk_9 (dk_at dksX0_share_0 21 rfl rfl)
theorem dX0_share_22 : decode cX0_share 22 = .ok (.iload_n 3, 1) := dk_29 (dk_at dksX0_share_0 22 rfl rfl)
theorem dX0_share_23 : decode cX0_share 23 = .ok (.iconst 1, 1) := dk_4 (dk_at dksX0_share_0 23 rfl rfl)
theorem dX0_share_24 : decode cX0_share 24 = .ok (.isub, 1) := dk_100 (dk_at dksX0_share_1 0 rfl rfl)
theorem dX0_share_25 : decode cX0_share 25 = .ok (.i2l, 1) := dk_133 (dk_at dksX0_share_1 1 rfl rfl)
theorem dX0_share_26 : decode cX0_share 26 = .ok (.invokestatic 84, 3) := dk_184 0 84 (dk_at dksX0_share_1 2 rfl rfl)
theorem dX0_share_29 : decode cX0_share 29 = .ok (.ifCond .ne 6, 3) := dk_154 0 6 (dk_at dksX0_share_1 5 rfl rfl)
theorem dX0_share_32 : decode cX0_share 32 = .ok (.ldc 94, 2) := dk_18 94 (dk_at dksX0_share_1 8 rfl rfl)
theorem dX0_share_34 : decode cX0_share 34 = .ok (.ireturn, 1) := dk_172 (dk_at dksX0_share_1 10 rfl rfl)
theorem dX0_share_35 : decode cX0_share 35 = .ok (.aload_n 0, 1) := dk_42 (dk_at dksX0_share_1 11 rfl rfl)
theorem dX0_share_36 : decode cX0_share 36 = .ok (.iload_n 1, 1) := dk_27 (dk_at dksX0_share_1 12 rfl rfl)
theorem dX0_share_37 : decode cX0_share 37 = .ok (.iload_n 2, 1) := dk_28 (dk_at dksX0_share_1 13 rfl rfl)
theorem dX0_share_38 : decode cX0_share 38 = .ok (.iload_n 1, 1) := dk_27 (dk_at dksX0_share_1 14 rfl rfl)
theorem dX0_share_39 : decode cX0_share 39 = .ok (.iload_n 2, 1) := dk_28 (dk_at dksX0_share_1 15 rfl rfl)
theorem dX0_share_40 : decode cX0_share 40 = .ok (.iload_n 3, 1) := dk_29 (dk_at dksX0_share_1 16 rfl rfl)
theorem dX0_share_41 : decode cX0_share 41 = .ok (.new 341, 3) := dk_187 1 85 (dk_at dksX0_share_1 17 rfl rfl)
theorem dX0_share_44 : decode cX0_share 44 = .ok (.dup, 1) := dk_89 (dk_at dksX0_share_1 20 rfl rfl)
theorem dX0_share_45 : decode cX0_share 45 = .ok (.aload_n 0, 1) := dk_42 (dk_at dksX0_share_1 21 rfl rfl)
theorem dX0_share_46 : decode cX0_share 46 = .ok (.iload 4, 2) := dk_21 4 (dk_at dksX0_share_1 22 rfl rfl)
theorem dX0_share_48 : decode cX0_share 48 = .ok (.invokespecial 343, 3) := dk_183 1 87 (dk_at dksX0_share_2 0 rfl rfl)
theorem dX0_share_51 : decode cX0_share 51 = .ok (.invokevirtual 332, 3) := dk_182 1 76 (dk_at dksX0_share_2 3 rfl rfl)
theorem dX0_share_54 : decode cX0_share 54 = .ok (.ireturn, 1) := dk_172 (dk_at dksX0_share_2 6 rfl rfl)
abbrev cX0_shut : ByteArray := prog_1_method_49_code
def yX0_shut : MethodName := ⟨RX0, "shut", "(IIII)I"⟩
def dkwX0_shut_9 : List UInt8 := [21, 6, 184, 1, 92, 54, 7, 21, 4, 154, 0, 8, 21, 5, 167, 0, 5, 21, 6, 21, 7, 108, 172]
abbrev dktX0_shut_9 : List UInt8 := dkwX0_shut_9 ++ []
def dkwX0_shut_8 : List UInt8 := [21, 9, 28, 163, 0, 8, 21, 8, 167, 0, 4, 3, 96, 54, 5, 132, 7, 1, 167, 255, 100, 21, 5]
abbrev dktX0_shut_8 : List UInt8 := dkwX0_shut_8 ++ dktX0_shut_9
def dkwX0_shut_7 : List UInt8 := [182, 1, 29, 180, 1, 33, 54, 9, 21, 6, 21, 8, 96, 54, 6, 21, 5, 21, 9, 18, 251, 159, 0, 14]
abbrev dktX0_shut_7 : List UInt8 := dkwX0_shut_7 ++ dktX0_shut_8
def dkwX0_shut_6 : List UInt8 := [132, 9, 1, 167, 255, 199, 42, 182, 1, 25, 89, 180, 0, 218, 21, 7, 2, 130, 126, 181, 0, 218, 42, 27]
abbrev dktX0_shut_6 : List UInt8 := dkwX0_shut_6 ++ dktX0_shut_7
def dkwX0_shut_5 : List UInt8 := [167, 0, 21, 21, 7, 21, 9, 184, 0, 221, 153, 0, 7, 29, 167, 0, 7, 16, 10, 29, 100, 104, 54, 8]
abbrev dktX0_shut_5 : List UInt8 := dkwX0_shut_5 ++ dktX0_shut_6
def dkwX0_shut_4 : List UInt8 := [180, 0, 174, 162, 0, 51, 21, 8, 42, 180, 0, 46, 180, 0, 218, 21, 9, 184, 0, 221, 154, 0, 7, 4]
abbrev dktX0_shut_4 : List UInt8 := dkwX0_shut_4 ++ dktX0_shut_5
def dkwX0_shut_3 : List UInt8 := [180, 0, 218, 2, 130, 126, 153, 0, 6, 167, 0, 126, 4, 54, 8, 3, 54, 9, 21, 9, 42, 180, 0, 46]
abbrev dktX0_shut_3 : List UInt8 := dkwX0_shut_3 ++ dktX0_shut_4
def dkwX0_shut_2 : List UInt8 := [54, 6, 3, 54, 7, 21, 7, 42, 180, 0, 46, 180, 0, 218, 163, 0, 150, 21, 7, 42, 180, 0, 46]
abbrev dktX0_shut_2 : List UInt8 := dkwX0_shut_2 ++ dktX0_shut_3
def dkwX0_shut_1 : List UInt8 := [20, 1, 90, 184, 0, 84, 153, 0, 11, 21, 4, 184, 0, 215, 154, 0, 6, 18, 94, 172, 3, 54, 5, 3]
abbrev dktX0_shut_1 : List UInt8 := dkwX0_shut_1 ++ dktX0_shut_2
def dkwX0_shut_0 : List UInt8 := [42, 27, 182, 0, 200, 153, 0, 35, 28, 133, 9, 20, 1, 88, 184, 0, 84, 153, 0, 23, 29, 133, 9]
abbrev dktX0_shut_0 : List UInt8 := dkwX0_shut_0 ++ dktX0_shut_1
theorem dksX0_shut_0 : cX0_shut.data.toList.drop 0 = dktX0_shut_0 := by decide +kernel
theorem dksX0_shut_1 : cX0_shut.data.toList.drop 23 = dktX0_shut_1 := dk_seg dksX0_shut_0 23 rfl rfl
theorem dksX0_shut_2 : cX0_shut.data.toList.drop 47 = dktX0_shut_2 := dk_seg dksX0_shut_1 24 rfl rfl
theorem dksX0_shut_3 : cX0_shut.data.toList.drop 70 = dktX0_shut_3 := dk_seg dksX0_shut_2 23 rfl rfl
theorem dksX0_shut_4 : cX0_shut.data.toList.drop 94 = dktX0_shut_4 := dk_seg dksX0_shut_3 24 rfl rfl
theorem dksX0_shut_5 : cX0_shut.data.toList.drop 118 = dktX0_shut_5 := dk_seg dksX0_shut_4 24 rfl rfl
theorem dksX0_shut_6 : cX0_shut.data.toList.drop 142 = dktX0_shut_6 := dk_seg dksX0_shut_5 24 rfl rfl
theorem dksX0_shut_7 : cX0_shut.data.toList.drop 166 = dktX0_shut_7 := dk_seg dksX0_shut_6 24 rfl rfl
theorem dksX0_shut_8 : cX0_shut.data.toList.drop 190 = dktX0_shut_8 := dk_seg dksX0_shut_7 24 rfl rfl
theorem dksX0_shut_9 : cX0_shut.data.toList.drop 213 = dktX0_shut_9 := dk_seg dksX0_shut_8 23 rfl rfl
theorem dX0_shut_0 : decode cX0_shut 0 = .ok (.aload_n 0, 1) := dk_42 (dk_at dksX0_shut_0 0 rfl rfl)
theorem dX0_shut_1 : decode cX0_shut 1 = .ok (.iload_n 1, 1) := dk_27 (dk_at dksX0_shut_0 1 rfl rfl)
theorem dX0_shut_2 : decode cX0_shut 2 = .ok (.invokevirtual 200, 3) := dk_182 0 200 (dk_at dksX0_shut_0 2 rfl rfl)
theorem dX0_shut_5 : decode cX0_shut 5 = .ok (.ifCond .eq 35, 3) := dk_153 0 35 (dk_at dksX0_shut_0 5 rfl rfl)
theorem dX0_shut_8 : decode cX0_shut 8 = .ok (.iload_n 2, 1) := dk_28 (dk_at dksX0_shut_0 8 rfl rfl)
theorem dX0_shut_9 : decode cX0_shut 9 = .ok (.i2l, 1) := dk_133 (dk_at dksX0_shut_0 9 rfl rfl)
theorem dX0_shut_10 : decode cX0_shut 10 = .ok (.lconst 0, 1) := dk_9 (dk_at dksX0_shut_0 10 rfl rfl)
theorem dX0_shut_11 : decode cX0_shut 11 = .ok (.ldc2_w 344, 3) := dk_20 1 88 (dk_at dksX0_shut_0 11 rfl rfl)
theorem dX0_shut_14 : decode cX0_shut 14 = .ok (.invokestatic 84, 3) := dk_184 0 84 (dk_at dksX0_shut_0 14 rfl rfl)
theorem dX0_shut_17 : decode cX0_shut 17 = .ok (.ifCond .eq 23, 3) := dk_153 0 23 (dk_at dksX0_shut_0 17 rfl rfl)
theorem dX0_shut_20 : decode cX0_shut 20 = .ok (.iload_n 3, 1) := dk_29 (dk_at dksX0_shut_0 20 rfl rfl)
theorem dX0_shut_21 : decode cX0_shut 21 = .ok (.i2l, 1) := dk_133 (dk_at dksX0_shut_0 21 rfl rfl)
theorem dX0_shut_22 : decode cX0_shut 22 = .ok (.lconst 0, 1) := dk_9 (dk_at dksX0_shut_0 22 rfl rfl)
theorem dX0_shut_23 : decode cX0_shut 23 = .ok (.ldc2_w 346, 3) := dk_20 1 90 (dk_at dksX0_shut_1 0 rfl rfl)
theorem dX0_shut_26 : decode cX0_shut 26 = .ok (.invokestatic 84, 3) := dk_184 0 84 (dk_at dksX0_shut_1 3 rfl rfl)
theorem dX0_shut_29 : decode cX0_shut 29 = .ok (.ifCond .eq 11, 3) := dk_153 0 11 (dk_at dksX0_shut_1 6 rfl rfl)
theorem dX0_shut_32 : decode cX0_shut 32 = .ok (.iload 4, 2) := dk_21 4 (dk_at dksX0_shut_1 9 rfl rfl)
theorem dX0_shut_34 : decode cX0_shut 34 = .ok (.invokestatic 215, 3) := dk_184 0 215 (dk_at dksX0_shut_1 11 rfl rfl)
theorem dX0_shut_37 : decode cX0_shut 37 = .ok (.ifCond .ne 6, 3) := dk_154 0 6 (dk_at dksX0_shut_1 14 rfl rfl)
theorem dX0_shut_40 : decode cX0_shut 40 = .ok (.ldc 94, 2) := dk_18 94 (dk_at dksX0_shut_1 17 rfl rfl)
theorem dX0_shut_42 : decode cX0_shut 42 = .ok (.ireturn, 1) := dk_172 (dk_at dksX0_shut_1 19 rfl rfl)
theorem dX0_shut_43 : decode cX0_shut 43 = .ok (.iconst 0, 1) := dk_3 (dk_at dksX0_shut_1 20 rfl rfl)
theorem dX0_shut_44 : decode cX0_shut 44 = .ok (.istore 5, 2) := dk_54 5 (dk_at dksX0_shut_1 21 rfl rfl)
theorem dX0_shut_46 : decode cX0_shut 46 = .ok (.iconst 0, 1) := dk_3 (dk_at dksX0_shut_1 23 rfl rfl)
theorem dX0_shut_47 : decode cX0_shut 47 = .ok (.istore 6, 2) := dk_54 6 (dk_at dksX0_shut_2 0 rfl rfl)
theorem dX0_shut_49 : decode cX0_shut 49 = .ok (.iconst 0, 1) := dk_3 (dk_at dksX0_shut_2 2 rfl rfl)
theorem dX0_shut_50 : decode cX0_shut 50 = .ok (.istore 7, 2) := dk_54 7 (dk_at dksX0_shut_2 3 rfl rfl)
theorem dX0_shut_52 : decode cX0_shut 52 = .ok (.iload 7, 2) := dk_21 7 (dk_at dksX0_shut_2 5 rfl rfl)
theorem dX0_shut_54 : decode cX0_shut 54 = .ok (.aload_n 0, 1) := dk_42 (dk_at dksX0_shut_2 7 rfl rfl)
theorem dX0_shut_55 : decode cX0_shut 55 = .ok (.getfield 46, 3) := dk_180 0 46 (dk_at dksX0_shut_2 8 rfl rfl)
theorem dX0_shut_58 : decode cX0_shut 58 = .ok (.getfield 218, 3) := dk_180 0 218 (dk_at dksX0_shut_2 11 rfl rfl)
theorem dX0_shut_61 : decode cX0_shut 61 = .ok (.if_icmp .gt 150, 3) := dk_163 0 150 (dk_at dksX0_shut_2 14 rfl rfl)
theorem dX0_shut_64 : decode cX0_shut 64 = .ok (.iload 7, 2) := dk_21 7 (dk_at dksX0_shut_2 17 rfl rfl)
theorem dX0_shut_66 : decode cX0_shut 66 = .ok (.aload_n 0, 1) := dk_42 (dk_at dksX0_shut_2 19 rfl rfl)
theorem dX0_shut_67 : decode cX0_shut 67 = .ok (.getfield 46, 3) := dk_180 0 46 (dk_at dksX0_shut_2 20 rfl rfl)
theorem dX0_shut_70 : decode cX0_shut 70 = .ok (.getfield 218, 3) := dk_180 0 218 (dk_at dksX0_shut_3 0 rfl rfl)
theorem dX0_shut_73 : decode cX0_shut 73 = .ok (.iconst (-1), 1) := dk_2 (dk_at dksX0_shut_3 3 rfl rfl)
theorem dX0_shut_74 : decode cX0_shut 74 = .ok (.ixor, 1) := dk_130 (dk_at dksX0_shut_3 4 rfl rfl)
theorem dX0_shut_75 : decode cX0_shut 75 = .ok (.iand, 1) := dk_126 (dk_at dksX0_shut_3 5 rfl rfl)
theorem dX0_shut_76 : decode cX0_shut 76 = .ok (.ifCond .eq 6, 3) := dk_153 0 6 (dk_at dksX0_shut_3 6 rfl rfl)
theorem dX0_shut_79 : decode cX0_shut 79 = .ok (.goto 126, 3) := dk_167 0 126 (dk_at dksX0_shut_3 9 rfl rfl)
theorem dX0_shut_82 : decode cX0_shut 82 = .ok (.iconst 1, 1) := dk_4 (dk_at dksX0_shut_3 12 rfl rfl)
theorem dX0_shut_83 : decode cX0_shut 83 = .ok (.istore 8, 2) := dk_54 8 (dk_at dksX0_shut_3 13 rfl rfl)
theorem dX0_shut_85 : decode cX0_shut 85 = .ok (.iconst 0, 1) := dk_3 (dk_at dksX0_shut_3 15 rfl rfl)
theorem dX0_shut_86 : decode cX0_shut 86 = .ok (.istore 9, 2) := dk_54 9 (dk_at dksX0_shut_3 16 rfl rfl)
theorem dX0_shut_88 : decode cX0_shut 88 = .ok (.iload 9, 2) := dk_21 9 (dk_at dksX0_shut_3 18 rfl rfl)
theorem dX0_shut_90 : decode cX0_shut 90 = .ok (.aload_n 0, 1) := dk_42 (dk_at dksX0_shut_3 20 rfl rfl)
theorem dX0_shut_91 : decode cX0_shut 91 = .ok (.getfield 46, 3) := dk_180 0 46 (dk_at dksX0_shut_3 21 rfl rfl)
theorem dX0_shut_94 : decode cX0_shut 94 = .ok (.getfield 174, 3) := dk_180 0 174 (dk_at dksX0_shut_4 0 rfl rfl)
theorem dX0_shut_97 : decode cX0_shut 97 = .ok (.if_icmp .ge 51, 3) := dk_162 0 51 (dk_at dksX0_shut_4 3 rfl rfl)
theorem dX0_shut_100 : decode cX0_shut 100 = .ok (.iload 8, 2) := dk_21 8 (dk_at dksX0_shut_4 6 rfl rfl)
theorem dX0_shut_102 : decode cX0_shut 102 = .ok (.aload_n 0, 1) := dk_42 (dk_at dksX0_shut_4 8 rfl rfl)
theorem dX0_shut_103 : decode cX0_shut 103 = .ok (.getfield 46, 3) := dk_180 0 46 (dk_at dksX0_shut_4 9 rfl rfl)
theorem dX0_shut_106 : decode cX0_shut 106 = .ok (.getfield 218, 3) := dk_180 0 218 (dk_at dksX0_shut_4 12 rfl rfl)
theorem dX0_shut_109 : decode cX0_shut 109 = .ok (.iload 9, 2) := dk_21 9 (dk_at dksX0_shut_4 15 rfl rfl)
theorem dX0_shut_111 : decode cX0_shut 111 = .ok (.invokestatic 221, 3) := dk_184 0 221 (dk_at dksX0_shut_4 17 rfl rfl)
theorem dX0_shut_114 : decode cX0_shut 114 = .ok (.ifCond .ne 7, 3) := dk_154 0 7 (dk_at dksX0_shut_4 20 rfl rfl)
theorem dX0_shut_117 : decode cX0_shut 117 = .ok (.iconst 1, 1) := dk_4 (dk_at dksX0_shut_4 23 rfl rfl)
theorem dX0_shut_118 : decode cX0_shut 118 = .ok (.goto 21, 3) := dk_167 0 21 (dk_at dksX0_shut_5 0 rfl rfl)
theorem dX0_shut_121 : decode cX0_shut 121 = .ok (.iload 7, 2) := dk_21 7 (dk_at dksX0_shut_5 3 rfl rfl)
theorem dX0_shut_123 : decode cX0_shut 123 = .ok (.iload 9, 2) := dk_21 9 (dk_at dksX0_shut_5 5 rfl rfl)
theorem dX0_shut_125 : decode cX0_shut 125 = .ok (.invokestatic 221, 3) := dk_184 0 221 (dk_at dksX0_shut_5 7 rfl rfl)
theorem dX0_shut_128 : decode cX0_shut 128 = .ok (.ifCond .eq 7, 3) := dk_153 0 7 (dk_at dksX0_shut_5 10 rfl rfl)
theorem dX0_shut_131 : decode cX0_shut 131 = .ok (.iload_n 3, 1) := dk_29 (dk_at dksX0_shut_5 13 rfl rfl)
theorem dX0_shut_132 : decode cX0_shut 132 = .ok (.goto 7, 3) := dk_167 0 7 (dk_at dksX0_shut_5 14 rfl rfl)
theorem dX0_shut_135 : decode cX0_shut 135 = .ok (.bipush 10, 2) := dk_16 10 (dk_at dksX0_shut_5 17 rfl rfl)
theorem dX0_shut_137 : decode cX0_shut 137 = .ok (.iload_n 3, 1) := dk_29 (dk_at dksX0_shut_5 19 rfl rfl)
theorem dX0_shut_138 : decode cX0_shut 138 = .ok (.isub, 1) := dk_100 (dk_at dksX0_shut_5 20 rfl rfl)
theorem dX0_shut_139 : decode cX0_shut 139 = .ok (.imul, 1) := dk_104 (dk_at dksX0_shut_5 21 rfl rfl)
theorem dX0_shut_140 : decode cX0_shut 140 = .ok (.istore 8, 2) := dk_54 8 (dk_at dksX0_shut_5 22 rfl rfl)
theorem dX0_shut_142 : decode cX0_shut 142 = .ok (.iinc 9 1, 3) := dk_132 9 1 (dk_at dksX0_shut_6 0 rfl rfl)
theorem dX0_shut_145 : decode cX0_shut 145 = .ok (.goto (-57), 3) := dk_167 255 199 (dk_at dksX0_shut_6 3 rfl rfl)
theorem dX0_shut_148 : decode cX0_shut 148 = .ok (.aload_n 0, 1) := dk_42 (dk_at dksX0_shut_6 6 rfl rfl)
theorem dX0_shut_149 : decode cX0_shut 149 = .ok (.invokevirtual 281, 3) := dk_182 1 25 (dk_at dksX0_shut_6 7 rfl rfl)
theorem dX0_shut_152 : decode cX0_shut 152 = .ok (.dup, 1) := dk_89 (dk_at dksX0_shut_6 10 rfl rfl)
theorem dX0_shut_153 : decode cX0_shut 153 = .ok (.getfield 218, 3) := dk_180 0 218 (dk_at dksX0_shut_6 11 rfl rfl)
theorem dX0_shut_156 : decode cX0_shut 156 = .ok (.iload 7, 2) := dk_21 7 (dk_at dksX0_shut_6 14 rfl rfl)
theorem dX0_shut_158 : decode cX0_shut 158 = .ok (.iconst (-1), 1) := dk_2 (dk_at dksX0_shut_6 16 rfl rfl)
theorem dX0_shut_159 : decode cX0_shut 159 = .ok (.ixor, 1) := dk_130 (dk_at dksX0_shut_6 17 rfl rfl)
theorem dX0_shut_160 : decode cX0_shut 160 = .ok (.iand, 1) := dk_126 (dk_at dksX0_shut_6 18 rfl rfl)
theorem dX0_shut_161 : decode cX0_shut 161 = .ok (.putfield 218, 3) := dk_181 0 218 (dk_at dksX0_shut_6 19 rfl rfl)
theorem dX0_shut_164 : decode cX0_shut 164 = .ok (.aload_n 0, 1) := dk_42 (dk_at dksX0_shut_6 22 rfl rfl)
theorem dX0_shut_165 : decode cX0_shut 165 = .ok (.iload_n 1, 1) := dk_27 (dk_at dksX0_shut_6 23 rfl rfl)
theorem dX0_shut_166 : decode cX0_shut 166 = .ok (.invokevirtual 285, 3) := dk_182 1 29 (dk_at dksX0_shut_7 0 rfl rfl)
theorem dX0_shut_169 : decode cX0_shut 169 = .ok (.getfield 289, 3) := dk_180 1 33 (dk_at dksX0_shut_7 3 rfl rfl)
theorem dX0_shut_172 : decode cX0_shut 172 = .ok (.istore 9, 2) := dk_54 9 (dk_at dksX0_shut_7 6 rfl rfl)
theorem dX0_shut_174 : decode cX0_shut 174 = .ok (.iload 6, 2) := dk_21 6 (dk_at dksX0_shut_7 8 rfl rfl)
theorem dX0_shut_176 : decode cX0_shut 176 = .ok (.iload 8, 2) := dk_21 8 (dk_at dksX0_shut_7 10 rfl rfl)
theorem dX0_shut_178 : decode cX0_shut 178 = .ok (.iadd, 1) := dk_96 (dk_at dksX0_shut_7 12 rfl rfl)
theorem dX0_shut_179 : decode cX0_shut 179 = .ok (.istore 6, 2) := dk_54 6 (dk_at dksX0_shut_7 13 rfl rfl)
theorem dX0_shut_181 : decode cX0_shut 181 = .ok (.iload 5, 2) := dk_21 5 (dk_at dksX0_shut_7 15 rfl rfl)
theorem dX0_shut_183 : decode cX0_shut 183 = .ok (.iload 9, 2) := dk_21 9 (dk_at dksX0_shut_7 17 rfl rfl)
theorem dX0_shut_185 : decode cX0_shut 185 = .ok (.ldc 251, 2) := dk_18 251 (dk_at dksX0_shut_7 19 rfl rfl)
theorem dX0_shut_187 : decode cX0_shut 187 = .ok (.if_icmp .eq 14, 3) := dk_159 0 14 (dk_at dksX0_shut_7 21 rfl rfl)
theorem dX0_shut_190 : decode cX0_shut 190 = .ok (.iload 9, 2) := dk_21 9 (dk_at dksX0_shut_8 0 rfl rfl)
theorem dX0_shut_192 : decode cX0_shut 192 = .ok (.iload_n 2, 1) := dk_28 (dk_at dksX0_shut_8 2 rfl rfl)
theorem dX0_shut_193 : decode cX0_shut 193 = .ok (.if_icmp .gt 8, 3) := dk_163 0 8 (dk_at dksX0_shut_8 3 rfl rfl)
theorem dX0_shut_196 : decode cX0_shut 196 = .ok (.iload 8, 2) := dk_21 8 (dk_at dksX0_shut_8 6 rfl rfl)
theorem dX0_shut_198 : decode cX0_shut 198 = .ok (.goto 4, 3) := dk_167 0 4 (dk_at dksX0_shut_8 8 rfl rfl)
theorem dX0_shut_201 : decode cX0_shut 201 = .ok (.iconst 0, 1) := dk_3 (dk_at dksX0_shut_8 11 rfl rfl)
theorem dX0_shut_202 : decode cX0_shut 202 = .ok (.iadd, 1) := dk_96 (dk_at dksX0_shut_8 12 rfl rfl)
theorem dX0_shut_203 : decode cX0_shut 203 = .ok (.istore 5, 2) := dk_54 5 (dk_at dksX0_shut_8 13 rfl rfl)
theorem dX0_shut_205 : decode cX0_shut 205 = .ok (.iinc 7 1, 3) := dk_132 7 1 (dk_at dksX0_shut_8 15 rfl rfl)
theorem dX0_shut_208 : decode cX0_shut 208 = .ok (.goto (-156), 3) := dk_167 255 100 (dk_at dksX0_shut_8 18 rfl rfl)
theorem dX0_shut_211 : decode cX0_shut 211 = .ok (.iload 5, 2) := dk_21 5 (dk_at dksX0_shut_8 21 rfl rfl)
theorem dX0_shut_213 : decode cX0_shut 213 = .ok (.iload 6, 2) := dk_21 6 (dk_at dksX0_shut_9 0 rfl rfl)
theorem dX0_shut_215 : decode cX0_shut 215 = .ok (.invokestatic 348, 3) := dk_184 1 92 (dk_at dksX0_shut_9 2 rfl rfl)
theorem dX0_shut_218 : decode cX0_shut 218 = .ok (.istore 7, 2) := dk_54 7 (dk_at dksX0_shut_9 5 rfl rfl)
theorem dX0_shut_220 : decode cX0_shut 220 = .ok (.iload 4, 2) := dk_21 4 (dk_at dksX0_shut_9 7 rfl rfl)
theorem dX0_shut_222 : decode cX0_shut 222 = .ok (.ifCond .ne 8, 3) := dk_154 0 8 (dk_at dksX0_shut_9 9 rfl rfl)
theorem dX0_shut_225 : decode cX0_shut 225 = .ok (.iload 5, 2) := dk_21 5 (dk_at dksX0_shut_9 12 rfl rfl)
theorem dX0_shut_227 : decode cX0_shut 227 = .ok (.goto 5, 3) := dk_167 0 5 (dk_at dksX0_shut_9 14 rfl rfl)
theorem dX0_shut_230 : decode cX0_shut 230 = .ok (.iload 6, 2) := dk_21 6 (dk_at dksX0_shut_9 17 rfl rfl)
theorem dX0_shut_232 : decode cX0_shut 232 = .ok (.iload 7, 2) := dk_21 7 (dk_at dksX0_shut_9 19 rfl rfl)
theorem dX0_shut_234 : decode cX0_shut 234 = .ok (.idiv, 1) := dk_108 (dk_at dksX0_shut_9 21 rfl rfl)
theorem dX0_shut_235 : decode cX0_shut 235 = .ok (.ireturn, 1) := dk_172 (dk_at dksX0_shut_9 22 rfl rfl)
abbrev cX0_common : ByteArray := prog_1_method_48_code
def yX0_common : MethodName := ⟨RX0, "common", "(II)I"⟩
def dkwX0_common_0 : List UInt8 := [26, 61, 27, 62, 29, 153, 0, 16, 28, 29, 112, 54, 4, 29, 61, 21, 4, 62, 167, 255, 242, 28, 172]
abbrev dktX0_common_0 : List UInt8 := dkwX0_common_0 ++ []
theorem dksX0_common_0 : cX0_common.data.toList.drop 0 = dktX0_common_0 := by decide +kernel
theorem dX0_common_0 : decode cX0_common 0 = .ok (.iload_n 0, 1) := dk_26 (dk_at dksX0_common_0 0 rfl rfl)
theorem dX0_common_1 : decode cX0_common 1 = .ok (.istore_n 2, 1) := dk_61 (dk_at dksX0_common_0 1 rfl rfl)
theorem dX0_common_2 : decode cX0_common 2 = .ok (.iload_n 1, 1) := dk_27 (dk_at dksX0_common_0 2 rfl rfl)
theorem dX0_common_3 : decode cX0_common 3 = .ok (.istore_n 3, 1) := dk_62 (dk_at dksX0_common_0 3 rfl rfl)
theorem dX0_common_4 : decode cX0_common 4 = .ok (.iload_n 3, 1) := dk_29 (dk_at dksX0_common_0 4 rfl rfl)
theorem dX0_common_5 : decode cX0_common 5 = .ok (.ifCond .eq 16, 3) := dk_153 0 16 (dk_at dksX0_common_0 5 rfl rfl)
theorem dX0_common_8 : decode cX0_common 8 = .ok (.iload_n 2, 1) := dk_28 (dk_at dksX0_common_0 8 rfl rfl)
theorem dX0_common_9 : decode cX0_common 9 = .ok (.iload_n 3, 1) := dk_29 (dk_at dksX0_common_0 9 rfl rfl)
theorem dX0_common_10 : decode cX0_common 10 = .ok (.irem, 1) := dk_112 (dk_at dksX0_common_0 10 rfl rfl)
theorem dX0_common_11 : decode cX0_common 11 = .ok (.istore 4, 2) := dk_54 4 (dk_at dksX0_common_0 11 rfl rfl)
theorem dX0_common_13 : decode cX0_common 13 = .ok (.iload_n 3, 1) := dk_29 (dk_at dksX0_common_0 13 rfl rfl)
theorem dX0_common_14 : decode cX0_common 14 = .ok (.istore_n 2, 1) := dk_61 (dk_at dksX0_common_0 14 rfl rfl)
theorem dX0_common_15 : decode cX0_common 15 = .ok (.iload 4, 2) := dk_21 4 (dk_at dksX0_common_0 15 rfl rfl)
theorem dX0_common_17 : decode cX0_common 17 = .ok (.istore_n 3, 1) := dk_62 (dk_at dksX0_common_0 17 rfl rfl)
theorem dX0_common_18 : decode cX0_common 18 = .ok (.goto (-14), 3) := dk_167 255 242 (dk_at dksX0_common_0 18 rfl rfl)
theorem dX0_common_21 : decode cX0_common 21 = .ok (.iload_n 2, 1) := dk_28 (dk_at dksX0_common_0 21 rfl rfl)
theorem dX0_common_22 : decode cX0_common 22 = .ok (.ireturn, 1) := dk_172 (dk_at dksX0_common_0 22 rfl rfl)
abbrev cX0_drawn : ByteArray := prog_1_method_50_code
def yX0_drawn : MethodName := ⟨RX0, "drawn", "(III)I"⟩
def dkwX0_drawn_9 : List UInt8 := [154, 0, 11, 25, 4, 180, 0, 212, 167, 0, 8, 25, 4, 180, 0, 255, 172]
abbrev dktX0_drawn_9 : List UInt8 := dkwX0_drawn_9 ++ []
def dkwX0_drawn_8 : List UInt8 := [25, 4, 21, 10, 182, 0, 194, 87, 3, 54, 8, 132, 10, 1, 167, 255, 206, 132, 7, 1, 167, 255, 103, 29]
abbrev dktX0_drawn_8 : List UInt8 := dkwX0_drawn_8 ++ dktX0_drawn_9
def dkwX0_drawn_7 : List UInt8 := [158, 0, 41, 25, 4, 21, 10, 182, 0, 184, 153, 0, 25, 21, 9, 132, 9, 255, 158, 0, 6, 167, 0, 14]
abbrev dktX0_drawn_7 : List UInt8 := dkwX0_drawn_7 ++ dktX0_drawn_8
def dkwX0_drawn_6 : List UInt8 := [180, 0, 188, 4, 96, 181, 0, 188, 3, 54, 10, 21, 10, 25, 4, 180, 0, 174, 162, 0, 46, 21, 8]
abbrev dktX0_drawn_6 : List UInt8 := dkwX0_drawn_6 ++ dktX0_drawn_7
def dkwX0_drawn_5 : List UInt8 := [154, 0, 7, 3, 167, 0, 10, 22, 5, 21, 8, 133, 113, 136, 54, 9, 21, 8, 154, 0, 14, 25, 4, 89]
abbrev dktX0_drawn_5 : List UInt8 := dkwX0_drawn_5 ++ dktX0_drawn_6
def dkwX0_drawn_4 : List UInt8 := [21, 9, 182, 0, 184, 153, 0, 7, 4, 167, 0, 4, 3, 96, 54, 8, 132, 9, 1, 167, 255, 223, 21, 8]
abbrev dktX0_drawn_4 : List UInt8 := dkwX0_drawn_4 ++ dktX0_drawn_5
def dkwX0_drawn_3 : List UInt8 := [113, 55, 5, 3, 54, 8, 3, 54, 9, 21, 9, 25, 4, 180, 0, 174, 162, 0, 29, 21, 8, 25, 4]
abbrev dktX0_drawn_3 : List UInt8 := dkwX0_drawn_3 ++ dktX0_drawn_4
def dkwX0_drawn_2 : List UInt8 := [58, 4, 28, 133, 55, 5, 3, 54, 7, 21, 7, 27, 162, 0, 153, 22, 5, 20, 1, 99, 105, 20, 1, 101]
abbrev dktX0_drawn_2 : List UInt8 := dkwX0_drawn_2 ++ dktX0_drawn_3
def dkwX0_drawn_1 : List UInt8 := [10, 20, 1, 97, 184, 0, 84, 153, 0, 10, 29, 184, 0, 215, 154, 0, 6, 18, 94, 172, 42, 182, 1, 25]
abbrev dktX0_drawn_1 : List UInt8 := dkwX0_drawn_1 ++ dktX0_drawn_2
def dkwX0_drawn_0 : List UInt8 := [42, 182, 0, 208, 154, 0, 6, 18, 187, 172, 27, 133, 9, 20, 1, 95, 184, 0, 84, 153, 0, 22, 28, 133]
abbrev dktX0_drawn_0 : List UInt8 := dkwX0_drawn_0 ++ dktX0_drawn_1
theorem dksX0_drawn_0 : cX0_drawn.data.toList.drop 0 = dktX0_drawn_0 := by decide +kernel
theorem dksX0_drawn_1 : cX0_drawn.data.toList.drop 24 = dktX0_drawn_1 := dk_seg dksX0_drawn_0 24 rfl rfl
theorem dksX0_drawn_2 : cX0_drawn.data.toList.drop 48 = dktX0_drawn_2 := dk_seg dksX0_drawn_1 24 rfl rfl
theorem dksX0_drawn_3 : cX0_drawn.data.toList.drop 72 = dktX0_drawn_3 := dk_seg dksX0_drawn_2 24 rfl rfl
theorem dksX0_drawn_4 : cX0_drawn.data.toList.drop 95 = dktX0_drawn_4 := dk_seg dksX0_drawn_3 23 rfl rfl
theorem dksX0_drawn_5 : cX0_drawn.data.toList.drop 119 = dktX0_drawn_5 := dk_seg dksX0_drawn_4 24 rfl rfl
theorem dksX0_drawn_6 : cX0_drawn.data.toList.drop 143 = dktX0_drawn_6 := dk_seg dksX0_drawn_5 24 rfl rfl
theorem dksX0_drawn_7 : cX0_drawn.data.toList.drop 166 = dktX0_drawn_7 := dk_seg dksX0_drawn_6 23 rfl rfl
theorem dksX0_drawn_8 : cX0_drawn.data.toList.drop 190 = dktX0_drawn_8 := dk_seg dksX0_drawn_7 24 rfl rfl
theorem dksX0_drawn_9 : cX0_drawn.data.toList.drop 214 = dktX0_drawn_9 := dk_seg dksX0_drawn_8 24 rfl rfl
theorem dX0_drawn_0 : decode cX0_drawn 0 = .ok (.aload_n 0, 1) := dk_42 (dk_at dksX0_drawn_0 0 rfl rfl)
theorem dX0_drawn_1 : decode cX0_drawn 1 = .ok (.invokevirtual 208, 3) := dk_182 0 208 (dk_at dksX0_drawn_0 1 rfl rfl)
theorem dX0_drawn_4 : decode cX0_drawn 4 = .ok (.ifCond .ne 6, 3) := dk_154 0 6 (dk_at dksX0_drawn_0 4 rfl rfl)
theorem dX0_drawn_7 : decode cX0_drawn 7 = .ok (.ldc 187, 2) := dk_18 187 (dk_at dksX0_drawn_0 7 rfl rfl)
theorem dX0_drawn_9 : decode cX0_drawn 9 = .ok (.ireturn, 1) := dk_172 (dk_at dksX0_drawn_0 9 rfl rfl)
theorem dX0_drawn_10 : decode cX0_drawn 10 = .ok (.iload_n 1, 1) := dk_27 (dk_at dksX0_drawn_0 10 rfl rfl)
theorem dX0_drawn_11 : decode cX0_drawn 11 = .ok (.i2l, 1) := dk_133 (dk_at dksX0_drawn_0 11 rfl rfl)
theorem dX0_drawn_12 : decode cX0_drawn 12 = .ok (.lconst 0, 1) := dk_9 (dk_at dksX0_drawn_0 12 rfl rfl)
theorem dX0_drawn_13 : decode cX0_drawn 13 = .ok (.ldc2_w 351, 3) := dk_20 1 95 (dk_at dksX0_drawn_0 13 rfl rfl)
theorem dX0_drawn_16 : decode cX0_drawn 16 = .ok (.invokestatic 84, 3) := dk_184 0 84 (dk_at dksX0_drawn_0 16 rfl rfl)
theorem dX0_drawn_19 : decode cX0_drawn 19 = .ok (.ifCond .eq 22, 3) := dk_153 0 22 (dk_at dksX0_drawn_0 19 rfl rfl)
theorem dX0_drawn_22 : decode cX0_drawn 22 = .ok (.iload_n 2, 1) := dk_28 (dk_at dksX0_drawn_0 22 rfl rfl)
theorem dX0_drawn_23 : decode cX0_drawn 23 = .ok (.i2l, 1) := dk_133 (dk_at dksX0_drawn_0 23 rfl rfl)
theorem dX0_drawn_24 : decode cX0_drawn 24 = .ok (.lconst 1, 1) := dk_10 (dk_at dksX0_drawn_1 0 rfl rfl)
theorem dX0_drawn_25 : decode cX0_drawn 25 = .ok (.ldc2_w 353, 3) := dk_20 1 97 (dk_at dksX0_drawn_1 1 rfl rfl)
theorem dX0_drawn_28 : decode cX0_drawn 28 = .ok (.invokestatic 84, 3) := dk_184 0 84 (dk_at dksX0_drawn_1 4 rfl rfl)
theorem dX0_drawn_31 : decode cX0_drawn 31 = .ok (.ifCond .eq 10, 3) := dk_153 0 10 (dk_at dksX0_drawn_1 7 rfl rfl)
theorem dX0_drawn_34 : decode cX0_drawn 34 = .ok (.iload_n 3, 1) := dk_29 (dk_at dksX0_drawn_1 10 rfl rfl)
theorem dX0_drawn_35 : decode cX0_drawn 35 = .ok (.invokestatic 215, 3) := dk_184 0 215 (dk_at dksX0_drawn_1 11 rfl rfl)
theorem dX0_drawn_38 : decode cX0_drawn 38 = .ok (.ifCond .ne 6, 3) := dk_154 0 6 (dk_at dksX0_drawn_1 14 rfl rfl)
theorem dX0_drawn_41 : decode cX0_drawn 41 = .ok (.ldc 94, 2) := dk_18 94 (dk_at dksX0_drawn_1 17 rfl rfl)
theorem dX0_drawn_43 : decode cX0_drawn 43 = .ok (.ireturn, 1) := dk_172 (dk_at dksX0_drawn_1 19 rfl rfl)
theorem dX0_drawn_44 : decode cX0_drawn 44 = .ok (.aload_n 0, 1) := dk_42 (dk_at dksX0_drawn_1 20 rfl rfl)
theorem dX0_drawn_45 : decode cX0_drawn 45 = .ok (.invokevirtual 281, 3) := dk_182 1 25 (dk_at dksX0_drawn_1 21 rfl rfl)
theorem dX0_drawn_48 : decode cX0_drawn 48 = .ok (.astore 4, 2) := dk_58 4 (dk_at dksX0_drawn_2 0 rfl rfl)
theorem dX0_drawn_50 : decode cX0_drawn 50 = .ok (.iload_n 2, 1) := dk_28 (dk_at dksX0_drawn_2 2 rfl rfl)
theorem dX0_drawn_51 : decode cX0_drawn 51 = .ok (.i2l, 1) := dk_133 (dk_at dksX0_drawn_2 3 rfl rfl)
theorem dX0_drawn_52 : decode cX0_drawn 52 = .ok (.lstore 5, 2) := dk_55 5 (dk_at dksX0_drawn_2 4 rfl rfl)
theorem dX0_drawn_54 : decode cX0_drawn 54 = .ok (.iconst 0, 1) := dk_3 (dk_at dksX0_drawn_2 6 rfl rfl)
theorem dX0_drawn_55 : decode cX0_drawn 55 = .ok (.istore 7, 2) := dk_54 7 (dk_at dksX0_drawn_2 7 rfl rfl)
theorem dX0_drawn_57 : decode cX0_drawn 57 = .ok (.iload 7, 2) := dk_21 7 (dk_at dksX0_drawn_2 9 rfl rfl)
theorem dX0_drawn_59 : decode cX0_drawn 59 = .ok (.iload_n 1, 1) := dk_27 (dk_at dksX0_drawn_2 11 rfl rfl)
theorem dX0_drawn_60 : decode cX0_drawn 60 = .ok (.if_icmp .ge 153, 3) := dk_162 0 153 (dk_at dksX0_drawn_2 12 rfl rfl)
theorem dX0_drawn_63 : decode cX0_drawn 63 = .ok (.lload 5, 2) := dk_22 5 (dk_at dksX0_drawn_2 15 rfl rfl)
theorem dX0_drawn_65 : decode cX0_drawn 65 = .ok (.ldc2_w 355, 3) := dk_20 1 99 (dk_at dksX0_drawn_2 17 rfl rfl)
theorem dX0_drawn_68 : decode cX0_drawn 68 = .ok (.lmul, 1) := dk_105 (dk_at dksX0_drawn_2 20 rfl rfl)
theorem dX0_drawn_69 : decode cX0_drawn 69 = .ok (.ldc2_w 357, 3) := dk_20 1 101 (dk_at dksX0_drawn_2 21 rfl rfl)
theorem dX0_drawn_72 : decode cX0_drawn 72 = .ok (.lrem, 1) := dk_113 (dk_at dksX0_drawn_3 0 rfl rfl)
theorem dX0_drawn_73 : decode cX0_drawn 73 = .ok (.lstore 5, 2) := dk_55 5 (dk_at dksX0_drawn_3 1 rfl rfl)
theorem dX0_drawn_75 : decode cX0_drawn 75 = .ok (.iconst 0, 1) := dk_3 (dk_at dksX0_drawn_3 3 rfl rfl)
theorem dX0_drawn_76 : decode cX0_drawn 76 = .ok (.istore 8, 2) := dk_54 8 (dk_at dksX0_drawn_3 4 rfl rfl)
theorem dX0_drawn_78 : decode cX0_drawn 78 = .ok (.iconst 0, 1) := dk_3 (dk_at dksX0_drawn_3 6 rfl rfl)
theorem dX0_drawn_79 : decode cX0_drawn 79 = .ok (.istore 9, 2) := dk_54 9 (dk_at dksX0_drawn_3 7 rfl rfl)
theorem dX0_drawn_81 : decode cX0_drawn 81 = .ok (.iload 9, 2) := dk_21 9 (dk_at dksX0_drawn_3 9 rfl rfl)
theorem dX0_drawn_83 : decode cX0_drawn 83 = .ok (.aload 4, 2) := dk_25 4 (dk_at dksX0_drawn_3 11 rfl rfl)
theorem dX0_drawn_85 : decode cX0_drawn 85 = .ok (.getfield 174, 3) := dk_180 0 174 (dk_at dksX0_drawn_3 13 rfl rfl)
theorem dX0_drawn_88 : decode cX0_drawn 88 = .ok (.if_icmp .ge 29, 3) := dk_162 0 29 (dk_at dksX0_drawn_3 16 rfl rfl)
theorem dX0_drawn_91 : decode cX0_drawn 91 = .ok (.iload 8, 2) := dk_21 8 (dk_at dksX0_drawn_3 19 rfl rfl)
theorem dX0_drawn_93 : decode cX0_drawn 93 = .ok (.aload 4, 2) := dk_25 4 (dk_at dksX0_drawn_3 21 rfl rfl)
theorem dX0_drawn_95 : decode cX0_drawn 95 = .ok (.iload 9, 2) := dk_21 9 (dk_at dksX0_drawn_4 0 rfl rfl)
theorem dX0_drawn_97 : decode cX0_drawn 97 = .ok (.invokevirtual 184, 3) := dk_182 0 184 (dk_at dksX0_drawn_4 2 rfl rfl)
theorem dX0_drawn_100 : decode cX0_drawn 100 = .ok (.ifCond .eq 7, 3) := dk_153 0 7 (dk_at dksX0_drawn_4 5 rfl rfl)
theorem dX0_drawn_103 : decode cX0_drawn 103 = .ok (.iconst 1, 1) := dk_4 (dk_at dksX0_drawn_4 8 rfl rfl)
theorem dX0_drawn_104 : decode cX0_drawn 104 = .ok (.goto 4, 3) := dk_167 0 4 (dk_at dksX0_drawn_4 9 rfl rfl)
theorem dX0_drawn_107 : decode cX0_drawn 107 = .ok (.iconst 0, 1) := dk_3 (dk_at dksX0_drawn_4 12 rfl rfl)
theorem dX0_drawn_108 : decode cX0_drawn 108 = .ok (.iadd, 1) := dk_96 (dk_at dksX0_drawn_4 13 rfl rfl)
theorem dX0_drawn_109 : decode cX0_drawn 109 = .ok (.istore 8, 2) := dk_54 8 (dk_at dksX0_drawn_4 14 rfl rfl)
theorem dX0_drawn_111 : decode cX0_drawn 111 = .ok (.iinc 9 1, 3) := dk_132 9 1 (dk_at dksX0_drawn_4 16 rfl rfl)
theorem dX0_drawn_114 : decode cX0_drawn 114 = .ok (.goto (-33), 3) := dk_167 255 223 (dk_at dksX0_drawn_4 19 rfl rfl)
theorem dX0_drawn_117 : decode cX0_drawn 117 = .ok (.iload 8, 2) := dk_21 8 (dk_at dksX0_drawn_4 22 rfl rfl)
theorem dX0_drawn_119 : decode cX0_drawn 119 = .ok (.ifCond .ne 7, 3) := dk_154 0 7 (dk_at dksX0_drawn_5 0 rfl rfl)
theorem dX0_drawn_122 : decode cX0_drawn 122 = .ok (.iconst 0, 1) := dk_3 (dk_at dksX0_drawn_5 3 rfl rfl)
theorem dX0_drawn_123 : decode cX0_drawn 123 = .ok (.goto 10, 3) := dk_167 0 10 (dk_at dksX0_drawn_5 4 rfl rfl)
theorem dX0_drawn_126 : decode cX0_drawn 126 = .ok (.lload 5, 2) := dk_22 5 (dk_at dksX0_drawn_5 7 rfl rfl)
theorem dX0_drawn_128 : decode cX0_drawn 128 = .ok (.iload 8, 2) := dk_21 8 (dk_at dksX0_drawn_5 9 rfl rfl)
theorem dX0_drawn_130 : decode cX0_drawn 130 = .ok (.i2l, 1) := dk_133 (dk_at dksX0_drawn_5 11 rfl rfl)
theorem dX0_drawn_131 : decode cX0_drawn 131 = .ok (.lrem, 1) := dk_113 (dk_at dksX0_drawn_5 12 rfl rfl)
theorem dX0_drawn_132 : decode cX0_drawn 132 = .ok (.l2i, 1) := dk_136 (dk_at dksX0_drawn_5 13 rfl rfl)
theorem dX0_drawn_133 : decode cX0_drawn 133 = .ok (.istore 9, 2) := dk_54 9 (dk_at dksX0_drawn_5 14 rfl rfl)
theorem dX0_drawn_135 : decode cX0_drawn 135 = .ok (.iload 8, 2) := dk_21 8 (dk_at dksX0_drawn_5 16 rfl rfl)
theorem dX0_drawn_137 : decode cX0_drawn 137 = .ok (.ifCond .ne 14, 3) := dk_154 0 14 (dk_at dksX0_drawn_5 18 rfl rfl)
theorem dX0_drawn_140 : decode cX0_drawn 140 = .ok (.aload 4, 2) := dk_25 4 (dk_at dksX0_drawn_5 21 rfl rfl)
theorem dX0_drawn_142 : decode cX0_drawn 142 = .ok (.dup, 1) := dk_89 (dk_at dksX0_drawn_5 23 rfl rfl)
theorem dX0_drawn_143 : decode cX0_drawn 143 = .ok (.getfield 188, 3) := dk_180 0 188 (dk_at dksX0_drawn_6 0 rfl rfl)
theorem dX0_drawn_146 : decode cX0_drawn 146 = .ok (.iconst 1, 1) := dk_4 (dk_at dksX0_drawn_6 3 rfl rfl)
theorem dX0_drawn_147 : decode cX0_drawn 147 = .ok (.iadd, 1) := dk_96 (dk_at dksX0_drawn_6 4 rfl rfl)
theorem dX0_drawn_148 : decode cX0_drawn 148 = .ok (.putfield 188, 3) := dk_181 0 188 (dk_at dksX0_drawn_6 5 rfl rfl)
theorem dX0_drawn_151 : decode cX0_drawn 151 = .ok (.iconst 0, 1) := dk_3 (dk_at dksX0_drawn_6 8 rfl rfl)
theorem dX0_drawn_152 : decode cX0_drawn 152 = .ok (.istore 10, 2) := dk_54 10 (dk_at dksX0_drawn_6 9 rfl rfl)
theorem dX0_drawn_154 : decode cX0_drawn 154 = .ok (.iload 10, 2) := dk_21 10 (dk_at dksX0_drawn_6 11 rfl rfl)
theorem dX0_drawn_156 : decode cX0_drawn 156 = .ok (.aload 4, 2) := dk_25 4 (dk_at dksX0_drawn_6 13 rfl rfl)
theorem dX0_drawn_158 : decode cX0_drawn 158 = .ok (.getfield 174, 3) := dk_180 0 174 (dk_at dksX0_drawn_6 15 rfl rfl)
theorem dX0_drawn_161 : decode cX0_drawn 161 = .ok (.if_icmp .ge 46, 3) := dk_162 0 46 (dk_at dksX0_drawn_6 18 rfl rfl)
theorem dX0_drawn_164 : decode cX0_drawn 164 = .ok (.iload 8, 2) := dk_21 8 (dk_at dksX0_drawn_6 21 rfl rfl)
theorem dX0_drawn_166 : decode cX0_drawn 166 = .ok (.ifCond .le 41, 3) := dk_158 0 41 (dk_at dksX0_drawn_7 0 rfl rfl)
theorem dX0_drawn_169 : decode cX0_drawn 169 = .ok (.aload 4, 2) := dk_25 4 (dk_at dksX0_drawn_7 3 rfl rfl)
theorem dX0_drawn_171 : decode cX0_drawn 171 = .ok (.iload 10, 2) := dk_21 10 (dk_at dksX0_drawn_7 5 rfl rfl)
theorem dX0_drawn_173 : decode cX0_drawn 173 = .ok (.invokevirtual 184, 3) := dk_182 0 184 (dk_at dksX0_drawn_7 7 rfl rfl)
theorem dX0_drawn_176 : decode cX0_drawn 176 = .ok (.ifCond .eq 25, 3) := dk_153 0 25 (dk_at dksX0_drawn_7 10 rfl rfl)
theorem dX0_drawn_179 : decode cX0_drawn 179 = .ok (.iload 9, 2) := dk_21 9 (dk_at dksX0_drawn_7 13 rfl rfl)
theorem dX0_drawn_181 : decode cX0_drawn 181 = .ok (.iinc 9 (-1), 3) := dk_132 9 255 (dk_at dksX0_drawn_7 15 rfl rfl)
theorem dX0_drawn_184 : decode cX0_drawn 184 = .ok (.ifCond .le 6, 3) := dk_158 0 6 (dk_at dksX0_drawn_7 18 rfl rfl)
theorem dX0_drawn_187 : decode cX0_drawn 187 = .ok (.goto 14, 3) := dk_167 0 14 (dk_at dksX0_drawn_7 21 rfl rfl)
theorem dX0_drawn_190 : decode cX0_drawn 190 = .ok (.aload 4, 2) := dk_25 4 (dk_at dksX0_drawn_8 0 rfl rfl)
theorem dX0_drawn_192 : decode cX0_drawn 192 = .ok (.iload 10, 2) := dk_21 10 (dk_at dksX0_drawn_8 2 rfl rfl)
theorem dX0_drawn_194 : decode cX0_drawn 194 = .ok (.invokevirtual 194, 3) := dk_182 0 194 (dk_at dksX0_drawn_8 4 rfl rfl)
theorem dX0_drawn_197 : decode cX0_drawn 197 = .ok (.pop, 1) := dk_87 (dk_at dksX0_drawn_8 7 rfl rfl)
theorem dX0_drawn_198 : decode cX0_drawn 198 = .ok (.iconst 0, 1) := dk_3 (dk_at dksX0_drawn_8 8 rfl rfl)
theorem dX0_drawn_199 : decode cX0_drawn 199 = .ok (.istore 8, 2) := dk_54 8 (dk_at dksX0_drawn_8 9 rfl rfl)
theorem dX0_drawn_201 : decode cX0_drawn 201 = .ok (.iinc 10 1, 3) := dk_132 10 1 (dk_at dksX0_drawn_8 11 rfl rfl)
theorem dX0_drawn_204 : decode cX0_drawn 204 = .ok (.goto (-50), 3) := dk_167 255 206 (dk_at dksX0_drawn_8 14 rfl rfl)
theorem dX0_drawn_207 : decode cX0_drawn 207 = .ok (.iinc 7 1, 3) := dk_132 7 1 (dk_at dksX0_drawn_8 17 rfl rfl)
theorem dX0_drawn_210 : decode cX0_drawn 210 = .ok (.goto (-153), 3) := dk_167 255 103 (dk_at dksX0_drawn_8 20 rfl rfl)
theorem dX0_drawn_213 : decode cX0_drawn 213 = .ok (.iload_n 3, 1) := dk_29 (dk_at dksX0_drawn_8 23 rfl rfl)
theorem dX0_drawn_214 : decode cX0_drawn 214 = .ok (.ifCond .ne 11, 3) := dk_154 0 11 (dk_at dksX0_drawn_9 0 rfl rfl)
theorem dX0_drawn_217 : decode cX0_drawn 217 = .ok (.aload 4, 2) := dk_25 4 (dk_at dksX0_drawn_9 3 rfl rfl)
theorem dX0_drawn_219 : decode cX0_drawn 219 = .ok (.getfield 212, 3) := dk_180 0 212 (dk_at dksX0_drawn_9 5 rfl rfl)
theorem dX0_drawn_222 : decode cX0_drawn 222 = .ok (.goto 8, 3) := dk_167 0 8 (dk_at dksX0_drawn_9 8 rfl rfl)
theorem dX0_drawn_225 : decode cX0_drawn 225 = .ok (.aload 4, 2) := dk_25 4 (dk_at dksX0_drawn_9 11 rfl rfl)
theorem dX0_drawn_227 : decode cX0_drawn 227 = .ok (.getfield 255, 3) := dk_180 0 255 (dk_at dksX0_drawn_9 13 rfl rfl)
theorem dX0_drawn_230 : decode cX0_drawn 230 = .ok (.ireturn, 1) := dk_172 (dk_at dksX0_drawn_9 16 rfl rfl)
abbrev cX0_image : ByteArray := prog_1_method_51_code
def yX0_image : MethodName := ⟨RX0, "image", "(I)I"⟩
def dkwX0_image_2 : List UInt8 := [180, 0, 57, 27, 50, 42, 180, 0, 46, 182, 0, 167, 4, 172]
abbrev dktX0_image_2 : List UInt8 := dkwX0_image_2 ++ []
def dkwX0_image_1 : List UInt8 := [180, 0, 57, 27, 50, 199, 0, 16, 42, 180, 0, 57, 27, 187, 0, 43, 89, 183, 0, 45, 83, 42]
abbrev dktX0_image_1 : List UInt8 := dkwX0_image_1 ++ dktX0_image_2
def dkwX0_image_0 : List UInt8 := [27, 133, 9, 10, 184, 0, 84, 154, 0, 6, 18, 94, 172, 42, 182, 0, 208, 154, 0, 6, 18, 187, 172, 42]
abbrev dktX0_image_0 : List UInt8 := dkwX0_image_0 ++ dktX0_image_1
theorem dksX0_image_0 : cX0_image.data.toList.drop 0 = dktX0_image_0 := by decide +kernel
theorem dksX0_image_1 : cX0_image.data.toList.drop 24 = dktX0_image_1 := dk_seg dksX0_image_0 24 rfl rfl
theorem dksX0_image_2 : cX0_image.data.toList.drop 46 = dktX0_image_2 := dk_seg dksX0_image_1 22 rfl rfl
theorem dX0_image_0 : decode cX0_image 0 = .ok (.iload_n 1, 1) := dk_27 (dk_at dksX0_image_0 0 rfl rfl)
theorem dX0_image_1 : decode cX0_image 1 = .ok (.i2l, 1) := dk_133 (dk_at dksX0_image_0 1 rfl rfl)
theorem dX0_image_2 : decode cX0_image 2 = .ok (.lconst 0, 1) := dk_9 (dk_at dksX0_image_0 2 rfl rfl)
theorem dX0_image_3 : decode cX0_image 3 = .ok (.lconst 1, 1) := dk_10 (dk_at dksX0_image_0 3 rfl rfl)
theorem dX0_image_4 : decode cX0_image 4 = .ok (.invokestatic 84, 3) := dk_184 0 84 (dk_at dksX0_image_0 4 rfl rfl)
theorem dX0_image_7 : decode cX0_image 7 = .ok (.ifCond .ne 6, 3) := dk_154 0 6 (dk_at dksX0_image_0 7 rfl rfl)
theorem dX0_image_10 : decode cX0_image 10 = .ok (.ldc 94, 2) := dk_18 94 (dk_at dksX0_image_0 10 rfl rfl)
theorem dX0_image_12 : decode cX0_image 12 = .ok (.ireturn, 1) := dk_172 (dk_at dksX0_image_0 12 rfl rfl)
theorem dX0_image_13 : decode cX0_image 13 = .ok (.aload_n 0, 1) := dk_42 (dk_at dksX0_image_0 13 rfl rfl)
theorem dX0_image_14 : decode cX0_image 14 = .ok (.invokevirtual 208, 3) := dk_182 0 208 (dk_at dksX0_image_0 14 rfl rfl)
theorem dX0_image_17 : decode cX0_image 17 = .ok (.ifCond .ne 6, 3) := dk_154 0 6 (dk_at dksX0_image_0 17 rfl rfl)
theorem dX0_image_20 : decode cX0_image 20 = .ok (.ldc 187, 2) := dk_18 187 (dk_at dksX0_image_0 20 rfl rfl)
theorem dX0_image_22 : decode cX0_image 22 = .ok (.ireturn, 1) := dk_172 (dk_at dksX0_image_0 22 rfl rfl)
theorem dX0_image_23 : decode cX0_image 23 = .ok (.aload_n 0, 1) := dk_42 (dk_at dksX0_image_0 23 rfl rfl)
theorem dX0_image_24 : decode cX0_image 24 = .ok (.getfield 57, 3) := dk_180 0 57 (dk_at dksX0_image_1 0 rfl rfl)
theorem dX0_image_27 : decode cX0_image 27 = .ok (.iload_n 1, 1) := dk_27 (dk_at dksX0_image_1 3 rfl rfl)
theorem dX0_image_28 : decode cX0_image 28 = .ok (.aaload, 1) := dk_50 (dk_at dksX0_image_1 4 rfl rfl)
theorem dX0_image_29 : decode cX0_image 29 = .ok (.ifnonnull 16, 3) := dk_199 0 16 (dk_at dksX0_image_1 5 rfl rfl)
theorem dX0_image_32 : decode cX0_image 32 = .ok (.aload_n 0, 1) := dk_42 (dk_at dksX0_image_1 8 rfl rfl)
theorem dX0_image_33 : decode cX0_image 33 = .ok (.getfield 57, 3) := dk_180 0 57 (dk_at dksX0_image_1 9 rfl rfl)
theorem dX0_image_36 : decode cX0_image 36 = .ok (.iload_n 1, 1) := dk_27 (dk_at dksX0_image_1 12 rfl rfl)
theorem dX0_image_37 : decode cX0_image 37 = .ok (.new 43, 3) := dk_187 0 43 (dk_at dksX0_image_1 13 rfl rfl)
theorem dX0_image_40 : decode cX0_image 40 = .ok (.dup, 1) := dk_89 (dk_at dksX0_image_1 16 rfl rfl)
theorem dX0_image_41 : decode cX0_image 41 = .ok (.invokespecial 45, 3) := dk_183 0 45 (dk_at dksX0_image_1 17 rfl rfl)
theorem dX0_image_44 : decode cX0_image 44 = .ok (.aastore, 1) := dk_83 (dk_at dksX0_image_1 20 rfl rfl)
theorem dX0_image_45 : decode cX0_image 45 = .ok (.aload_n 0, 1) := dk_42 (dk_at dksX0_image_1 21 rfl rfl)
theorem dX0_image_46 : decode cX0_image 46 = .ok (.getfield 57, 3) := dk_180 0 57 (dk_at dksX0_image_2 0 rfl rfl)
theorem dX0_image_49 : decode cX0_image 49 = .ok (.iload_n 1, 1) := dk_27 (dk_at dksX0_image_2 3 rfl rfl)
theorem dX0_image_50 : decode cX0_image 50 = .ok (.aaload, 1) := dk_50 (dk_at dksX0_image_2 4 rfl rfl)
theorem dX0_image_51 : decode cX0_image 51 = .ok (.aload_n 0, 1) := dk_42 (dk_at dksX0_image_2 5 rfl rfl)
theorem dX0_image_52 : decode cX0_image 52 = .ok (.getfield 46, 3) := dk_180 0 46 (dk_at dksX0_image_2 6 rfl rfl)
theorem dX0_image_55 : decode cX0_image 55 = .ok (.invokevirtual 167, 3) := dk_182 0 167 (dk_at dksX0_image_2 9 rfl rfl)
theorem dX0_image_58 : decode cX0_image 58 = .ok (.iconst 1, 1) := dk_4 (dk_at dksX0_image_2 12 rfl rfl)
theorem dX0_image_59 : decode cX0_image 59 = .ok (.ireturn, 1) := dk_172 (dk_at dksX0_image_2 13 rfl rfl)
abbrev cX0_restore : ByteArray := prog_1_method_52_code
def yX0_restore : MethodName := ⟨RX0, "restore", "(I)I"⟩
def dkwX0_restore_1 : List UInt8 := [172, 42, 180, 0, 46, 42, 180, 0, 57, 27, 50, 182, 0, 167, 42, 3, 181, 0, 171, 4, 172]
abbrev dktX0_restore_1 : List UInt8 := dkwX0_restore_1 ++ []
def dkwX0_restore_0 : List UInt8 := [27, 133, 9, 10, 184, 0, 84, 154, 0, 6, 18, 94, 172, 42, 180, 0, 57, 27, 50, 199, 0, 6, 18, 187]
abbrev dktX0_restore_0 : List UInt8 := dkwX0_restore_0 ++ dktX0_restore_1
theorem dksX0_restore_0 : cX0_restore.data.toList.drop 0 = dktX0_restore_0 := by decide +kernel
theorem dksX0_restore_1 : cX0_restore.data.toList.drop 24 = dktX0_restore_1 := dk_seg dksX0_restore_0 24 rfl rfl
theorem dX0_restore_0 : decode cX0_restore 0 = .ok (.iload_n 1, 1) := dk_27 (dk_at dksX0_restore_0 0 rfl rfl)
theorem dX0_restore_1 : decode cX0_restore 1 = .ok (.i2l, 1) := dk_133 (dk_at dksX0_restore_0 1 rfl rfl)
theorem dX0_restore_2 : decode cX0_restore 2 = .ok (.lconst 0, 1) := dk_9 (dk_at dksX0_restore_0 2 rfl rfl)
theorem dX0_restore_3 : decode cX0_restore 3 = .ok (.lconst 1, 1) := dk_10 (dk_at dksX0_restore_0 3 rfl rfl)
theorem dX0_restore_4 : decode cX0_restore 4 = .ok (.invokestatic 84, 3) := dk_184 0 84 (dk_at dksX0_restore_0 4 rfl rfl)
theorem dX0_restore_7 : decode cX0_restore 7 = .ok (.ifCond .ne 6, 3) := dk_154 0 6 (dk_at dksX0_restore_0 7 rfl rfl)
theorem dX0_restore_10 : decode cX0_restore 10 = .ok (.ldc 94, 2) := dk_18 94 (dk_at dksX0_restore_0 10 rfl rfl)
theorem dX0_restore_12 : decode cX0_restore 12 = .ok (.ireturn, 1) := dk_172 (dk_at dksX0_restore_0 12 rfl rfl)
theorem dX0_restore_13 : decode cX0_restore 13 = .ok (.aload_n 0, 1) := dk_42 (dk_at dksX0_restore_0 13 rfl rfl)
theorem dX0_restore_14 : decode cX0_restore 14 = .ok (.getfield 57, 3) := dk_180 0 57 (dk_at dksX0_restore_0 14 rfl rfl)
theorem dX0_restore_17 : decode cX0_restore 17 = .ok (.iload_n 1, 1) := dk_27 (dk_at dksX0_restore_0 17 rfl rfl)
theorem dX0_restore_18 : decode cX0_restore 18 = .ok (.aaload, 1) := dk_50 (dk_at dksX0_restore_0 18 rfl rfl)
theorem dX0_restore_19 : decode cX0_restore 19 = .ok (.ifnonnull 6, 3) := dk_199 0 6 (dk_at dksX0_restore_0 19 rfl rfl)
theorem dX0_restore_22 : decode cX0_restore 22 = .ok (.ldc 187, 2) := dk_18 187 (dk_at dksX0_restore_0 22 rfl rfl)
theorem dX0_restore_24 : decode cX0_restore 24 = .ok (.ireturn, 1) := dk_172 (dk_at dksX0_restore_1 0 rfl rfl)
theorem dX0_restore_25 : decode cX0_restore 25 = .ok (.aload_n 0, 1) := dk_42 (dk_at dksX0_restore_1 1 rfl rfl)
theorem dX0_restore_26 : decode cX0_restore 26 = .ok (.getfield 46, 3) := dk_180 0 46 (dk_at dksX0_restore_1 2 rfl rfl)
theorem dX0_restore_29 : decode cX0_restore 29 = .ok (.aload_n 0, 1) := dk_42 (dk_at dksX0_restore_1 5 rfl rfl)
theorem dX0_restore_30 : decode cX0_restore 30 = .ok (.getfield 57, 3) := dk_180 0 57 (dk_at dksX0_restore_1 6 rfl rfl)
theorem dX0_restore_33 : decode cX0_restore 33 = .ok (.iload_n 1, 1) := dk_27 (dk_at dksX0_restore_1 9 rfl rfl)
theorem dX0_restore_34 : decode cX0_restore 34 = .ok (.aaload, 1) := dk_50 (dk_at dksX0_restore_1 10 rfl rfl)
theorem dX0_restore_35 : decode cX0_restore 35 = .ok (.invokevirtual 167, 3) := dk_182 0 167 (dk_at dksX0_restore_1 11 rfl rfl)
theorem dX0_restore_38 : decode cX0_restore 38 = .ok (.aload_n 0, 1) := dk_42 (dk_at dksX0_restore_1 14 rfl rfl)
theorem dX0_restore_39 : decode cX0_restore 39 = .ok (.iconst 0, 1) := dk_3 (dk_at dksX0_restore_1 15 rfl rfl)
theorem dX0_restore_40 : decode cX0_restore 40 = .ok (.putfield 171, 3) := dk_181 0 171 (dk_at dksX0_restore_1 16 rfl rfl)
theorem dX0_restore_43 : decode cX0_restore 43 = .ok (.iconst 1, 1) := dk_4 (dk_at dksX0_restore_1 19 rfl rfl)
theorem dX0_restore_44 : decode cX0_restore 44 = .ok (.ireturn, 1) := dk_172 (dk_at dksX0_restore_1 20 rfl rfl)
abbrev cX0_kind : ByteArray := prog_1_method_53_code
def yX0_kind : MethodName := ⟨RX0, "kind", "(I)I"⟩
def dkwX0_kind_1 : List UInt8 := [182, 1, 103, 167, 0, 5, 18, 94, 172]
abbrev dktX0_kind_1 : List UInt8 := dkwX0_kind_1 ++ []
def dkwX0_kind_0 : List UInt8 := [42, 27, 182, 0, 200, 153, 0, 25, 42, 180, 0, 46, 180, 0, 225, 27, 185, 0, 229, 2, 0, 192, 0, 19]
abbrev dktX0_kind_0 : List UInt8 := dkwX0_kind_0 ++ dktX0_kind_1
theorem dksX0_kind_0 : cX0_kind.data.toList.drop 0 = dktX0_kind_0 := by decide +kernel
theorem dksX0_kind_1 : cX0_kind.data.toList.drop 24 = dktX0_kind_1 := dk_seg dksX0_kind_0 24 rfl rfl
theorem dX0_kind_0 : decode cX0_kind 0 = .ok (.aload_n 0, 1) := dk_42 (dk_at dksX0_kind_0 0 rfl rfl)
theorem dX0_kind_1 : decode cX0_kind 1 = .ok (.iload_n 1, 1) := dk_27 (dk_at dksX0_kind_0 1 rfl rfl)
theorem dX0_kind_2 : decode cX0_kind 2 = .ok (.invokevirtual 200, 3) := dk_182 0 200 (dk_at dksX0_kind_0 2 rfl rfl)
theorem dX0_kind_5 : decode cX0_kind 5 = .ok (.ifCond .eq 25, 3) := dk_153 0 25 (dk_at dksX0_kind_0 5 rfl rfl)
theorem dX0_kind_8 : decode cX0_kind 8 = .ok (.aload_n 0, 1) := dk_42 (dk_at dksX0_kind_0 8 rfl rfl)
theorem dX0_kind_9 : decode cX0_kind 9 = .ok (.getfield 46, 3) := dk_180 0 46 (dk_at dksX0_kind_0 9 rfl rfl)
theorem dX0_kind_12 : decode cX0_kind 12 = .ok (.getfield 225, 3) := dk_180 0 225 (dk_at dksX0_kind_0 12 rfl rfl)
theorem dX0_kind_15 : decode cX0_kind 15 = .ok (.iload_n 1, 1) := dk_27 (dk_at dksX0_kind_0 15 rfl rfl)
theorem dX0_kind_16 : decode cX0_kind 16 = .ok (.invokeinterface 229 2, 5) := by decide +kernel
theorem dX0_kind_21 : decode cX0_kind 21 = .ok (.checkcast 19, 3) := dk_192 0 19 (dk_at dksX0_kind_0 21 rfl rfl)
theorem dX0_kind_24 : decode cX0_kind 24 = .ok (.invokevirtual 359, 3) := dk_182 1 103 (dk_at dksX0_kind_1 0 rfl rfl)
theorem dX0_kind_27 : decode cX0_kind 27 = .ok (.goto 5, 3) := dk_167 0 5 (dk_at dksX0_kind_1 3 rfl rfl)
theorem dX0_kind_30 : decode cX0_kind 30 = .ok (.ldc 94, 2) := dk_18 94 (dk_at dksX0_kind_1 6 rfl rfl)
theorem dX0_kind_32 : decode cX0_kind 32 = .ok (.ireturn, 1) := dk_172 (dk_at dksX0_kind_1 8 rfl rfl)
abbrev cX0_as : ByteArray := prog_1_method_54_code
def yX0_as : MethodName := ⟨RX0, "as", "(II)I"⟩
def dkwX0_as_2 : List UInt8 := [78, 42, 6, 182, 0, 109, 172]
abbrev dktX0_as_2 : List UInt8 := dkwX0_as_2 ++ []
def dkwX0_as_1 : List UInt8 := [42, 180, 0, 46, 180, 0, 225, 27, 185, 0, 229, 2, 0, 28, 184, 1, 107, 182, 1, 111, 182, 0, 103, 172]
abbrev dktX0_as_1 : List UInt8 := dkwX0_as_1 ++ dktX0_as_2
def dkwX0_as_0 : List UInt8 := [42, 27, 182, 0, 200, 153, 0, 15, 28, 133, 9, 20, 1, 105, 184, 0, 84, 154, 0, 6, 18, 94, 172, 42]
abbrev dktX0_as_0 : List UInt8 := dkwX0_as_0 ++ dktX0_as_1
theorem dksX0_as_0 : cX0_as.data.toList.drop 0 = dktX0_as_0 := by decide +kernel
theorem dksX0_as_1 : cX0_as.data.toList.drop 24 = dktX0_as_1 := dk_seg dksX0_as_0 24 rfl rfl
theorem dksX0_as_2 : cX0_as.data.toList.drop 48 = dktX0_as_2 := dk_seg dksX0_as_1 24 rfl rfl
theorem dX0_as_0 : decode cX0_as 0 = .ok (.aload_n 0, 1) := dk_42 (dk_at dksX0_as_0 0 rfl rfl)
theorem dX0_as_1 : decode cX0_as 1 = .ok (.iload_n 1, 1) := dk_27 (dk_at dksX0_as_0 1 rfl rfl)
theorem dX0_as_2 : decode cX0_as 2 = .ok (.invokevirtual 200, 3) := dk_182 0 200 (dk_at dksX0_as_0 2 rfl rfl)
theorem dX0_as_5 : decode cX0_as 5 = .ok (.ifCond .eq 15, 3) := dk_153 0 15 (dk_at dksX0_as_0 5 rfl rfl)
theorem dX0_as_8 : decode cX0_as 8 = .ok (.iload_n 2, 1) := dk_28 (dk_at dksX0_as_0 8 rfl rfl)
theorem dX0_as_9 : decode cX0_as 9 = .ok (.i2l, 1) := dk_133 (dk_at dksX0_as_0 9 rfl rfl)
theorem dX0_as_10 : decode cX0_as 10 = .ok (.lconst 0, 1) := dk_9 (dk_at dksX0_as_0 10 rfl rfl)
theorem dX0_as_11 : decode cX0_as 11 = .ok (.ldc2_w 361, 3) := dk_20 1 105 (dk_at dksX0_as_0 11 rfl rfl)
theorem dX0_as_14 : decode cX0_as 14 = .ok (.invokestatic 84, 3) := dk_184 0 84 (dk_at dksX0_as_0 14 rfl rfl)
theorem dX0_as_17 : decode cX0_as 17 = .ok (.ifCond .ne 6, 3) := dk_154 0 6 (dk_at dksX0_as_0 17 rfl rfl)
theorem dX0_as_20 : decode cX0_as 20 = .ok (.ldc 94, 2) := dk_18 94 (dk_at dksX0_as_0 20 rfl rfl)
theorem dX0_as_22 : decode cX0_as 22 = .ok (.ireturn, 1) := dk_172 (dk_at dksX0_as_0 22 rfl rfl)
theorem dX0_as_23 : decode cX0_as 23 = .ok (.aload_n 0, 1) := dk_42 (dk_at dksX0_as_0 23 rfl rfl)
theorem dX0_as_24 : decode cX0_as 24 = .ok (.aload_n 0, 1) := dk_42 (dk_at dksX0_as_1 0 rfl rfl)
theorem dX0_as_25 : decode cX0_as 25 = .ok (.getfield 46, 3) := dk_180 0 46 (dk_at dksX0_as_1 1 rfl rfl)
theorem dX0_as_28 : decode cX0_as 28 = .ok (.getfield 225, 3) := dk_180 0 225 (dk_at dksX0_as_1 4 rfl rfl)
theorem dX0_as_31 : decode cX0_as 31 = .ok (.iload_n 1, 1) := dk_27 (dk_at dksX0_as_1 7 rfl rfl)
theorem dX0_as_32 : decode cX0_as 32 = .ok (.invokeinterface 229 2, 5) := by decide +kernel
theorem dX0_as_37 : decode cX0_as 37 = .ok (.iload_n 2, 1) := dk_28 (dk_at dksX0_as_1 13 rfl rfl)
theorem dX0_as_38 : decode cX0_as 38 = .ok (.invokestatic 363, 3) := dk_184 1 107 (dk_at dksX0_as_1 14 rfl rfl)
theorem dX0_as_41 : decode cX0_as 41 = .ok (.invokevirtual 367, 3) := dk_182 1 111 (dk_at dksX0_as_1 17 rfl rfl)
theorem dX0_as_44 : decode cX0_as 44 = .ok (.invokevirtual 103, 3) := dk_182 0 103 (dk_at dksX0_as_1 20 rfl rfl)
theorem dX0_as_47 : decode cX0_as 47 = .ok (.ireturn, 1) := dk_172 (dk_at dksX0_as_1 23 rfl rfl)
theorem dX0_as_48 : decode cX0_as 48 = .ok (.astore_n 3, 1) := dk_78 (dk_at dksX0_as_2 0 rfl rfl)
theorem dX0_as_49 : decode cX0_as 49 = .ok (.aload_n 0, 1) := dk_42 (dk_at dksX0_as_2 1 rfl rfl)
theorem dX0_as_50 : decode cX0_as 50 = .ok (.iconst 3, 1) := dk_6 (dk_at dksX0_as_2 2 rfl rfl)
theorem dX0_as_51 : decode cX0_as 51 = .ok (.invokevirtual 109, 3) := dk_182 0 109 (dk_at dksX0_as_2 3 rfl rfl)
theorem dX0_as_54 : decode cX0_as 54 = .ok (.ireturn, 1) := dk_172 (dk_at dksX0_as_2 6 rfl rfl)
abbrev cX0_taken : ByteArray := prog_1_method_4_code
def yX0_taken : MethodName := ⟨RX0, "taken", "(Ljava/lang/Object;I)LMoodFare$Corner;"⟩
def dkwX0_taken_3 : List UInt8 := [176, 42, 192, 0, 16, 176]
abbrev dktX0_taken_3 : List UInt8 := dkwX0_taken_3 ++ []
def dkwX0_taken_2 : List UInt8 := [42, 192, 0, 19, 176, 42, 192, 0, 1, 176, 42, 192, 0, 7, 176, 42, 192, 0, 10, 176, 42, 192, 0, 13]
abbrev dktX0_taken_2 : List UInt8 := dkwX0_taken_2 ++ dktX0_taken_3
def dkwX0_taken_1 : List UInt8 := [170, 0, 0, 0, 0, 0, 60, 0, 0, 0, 0, 0, 0, 0, 4, 0, 0, 0, 35, 0, 0, 0, 40, 0, 0, 0, 45, 0, 0, 0, 50, 0, 0, 0, 55]
abbrev dktX0_taken_1 : List UInt8 := dkwX0_taken_1 ++ dktX0_taken_2
def dkwX0_taken_0 : List UInt8 := [27]
abbrev dktX0_taken_0 : List UInt8 := dkwX0_taken_0 ++ dktX0_taken_1
theorem dksX0_taken_0 : cX0_taken.data.toList.drop 0 = dktX0_taken_0 := by decide +kernel
theorem dksX0_taken_1 : cX0_taken.data.toList.drop 1 = dktX0_taken_1 := dk_seg dksX0_taken_0 1 rfl rfl
theorem dksX0_taken_2 : cX0_taken.data.toList.drop 36 = dktX0_taken_2 := dk_seg dksX0_taken_1 35 rfl rfl
theorem dksX0_taken_3 : cX0_taken.data.toList.drop 60 = dktX0_taken_3 := dk_seg dksX0_taken_2 24 rfl rfl
theorem dX0_taken_0 : decode cX0_taken 0 = .ok (.iload_n 1, 1) := dk_27 (dk_at dksX0_taken_0 0 rfl rfl)
theorem dX0_taken_1 : decode cX0_taken 1 = .ok (.tableswitch 60 0 4 #[35, 40, 45, 50, 55], 35) := by decide +kernel
theorem dX0_taken_36 : decode cX0_taken 36 = .ok (.aload_n 0, 1) := dk_42 (dk_at dksX0_taken_2 0 rfl rfl)
theorem dX0_taken_37 : decode cX0_taken 37 = .ok (.checkcast 19, 3) := dk_192 0 19 (dk_at dksX0_taken_2 1 rfl rfl)
theorem dX0_taken_40 : decode cX0_taken 40 = .ok (.areturn, 1) := dk_176 (dk_at dksX0_taken_2 4 rfl rfl)
theorem dX0_taken_41 : decode cX0_taken 41 = .ok (.aload_n 0, 1) := dk_42 (dk_at dksX0_taken_2 5 rfl rfl)
theorem dX0_taken_42 : decode cX0_taken 42 = .ok (.checkcast 1, 3) := dk_192 0 1 (dk_at dksX0_taken_2 6 rfl rfl)
theorem dX0_taken_45 : decode cX0_taken 45 = .ok (.areturn, 1) := dk_176 (dk_at dksX0_taken_2 9 rfl rfl)
theorem dX0_taken_46 : decode cX0_taken 46 = .ok (.aload_n 0, 1) := dk_42 (dk_at dksX0_taken_2 10 rfl rfl)
theorem dX0_taken_47 : decode cX0_taken 47 = .ok (.checkcast 7, 3) := dk_192 0 7 (dk_at dksX0_taken_2 11 rfl rfl)
theorem dX0_taken_50 : decode cX0_taken 50 = .ok (.areturn, 1) := dk_176 (dk_at dksX0_taken_2 14 rfl rfl)
theorem dX0_taken_51 : decode cX0_taken 51 = .ok (.aload_n 0, 1) := dk_42 (dk_at dksX0_taken_2 15 rfl rfl)
theorem dX0_taken_52 : decode cX0_taken 52 = .ok (.checkcast 10, 3) := dk_192 0 10 (dk_at dksX0_taken_2 16 rfl rfl)
theorem dX0_taken_55 : decode cX0_taken 55 = .ok (.areturn, 1) := dk_176 (dk_at dksX0_taken_2 19 rfl rfl)
theorem dX0_taken_56 : decode cX0_taken 56 = .ok (.aload_n 0, 1) := dk_42 (dk_at dksX0_taken_2 20 rfl rfl)
theorem dX0_taken_57 : decode cX0_taken 57 = .ok (.checkcast 13, 3) := dk_192 0 13 (dk_at dksX0_taken_2 21 rfl rfl)
theorem dX0_taken_60 : decode cX0_taken 60 = .ok (.areturn, 1) := dk_176 (dk_at dksX0_taken_3 0 rfl rfl)
theorem dX0_taken_61 : decode cX0_taken 61 = .ok (.aload_n 0, 1) := dk_42 (dk_at dksX0_taken_3 1 rfl rfl)
theorem dX0_taken_62 : decode cX0_taken 62 = .ok (.checkcast 16, 3) := dk_192 0 16 (dk_at dksX0_taken_3 2 rfl rfl)
theorem dX0_taken_65 : decode cX0_taken 65 = .ok (.areturn, 1) := dk_176 (dk_at dksX0_taken_3 5 rfl rfl)
abbrev cX0_ask : ByteArray := prog_1_method_55_code
def yX0_ask : MethodName := ⟨RX0, "ask", "(II)I"⟩
def dkwX0_ask_3 : List UInt8 := [182, 1, 119, 167, 0, 13, 45, 42, 180, 0, 63, 25, 4, 182, 1, 123, 172]
abbrev dktX0_ask_3 : List UInt8 := dkwX0_ask_3 ++ []
def dkwX0_ask_2 : List UInt8 := [187, 1, 116, 89, 42, 27, 183, 1, 118, 58, 4, 28, 154, 0, 16, 45, 42, 180, 0, 63, 25, 4]
abbrev dktX0_ask_2 : List UInt8 := dkwX0_ask_2 ++ dktX0_ask_3
def dkwX0_ask_1 : List UInt8 := [183, 0, 62, 181, 0, 63, 42, 180, 0, 46, 180, 0, 225, 27, 185, 0, 229, 2, 0, 192, 0, 19, 78]
abbrev dktX0_ask_1 : List UInt8 := dkwX0_ask_1 ++ dktX0_ask_2
def dkwX0_ask_0 : List UInt8 := [42, 27, 182, 0, 200, 153, 0, 10, 28, 184, 0, 215, 154, 0, 6, 18, 94, 172, 42, 187, 0, 60, 89]
abbrev dktX0_ask_0 : List UInt8 := dkwX0_ask_0 ++ dktX0_ask_1
theorem dksX0_ask_0 : cX0_ask.data.toList.drop 0 = dktX0_ask_0 := by decide +kernel
theorem dksX0_ask_1 : cX0_ask.data.toList.drop 23 = dktX0_ask_1 := dk_seg dksX0_ask_0 23 rfl rfl
theorem dksX0_ask_2 : cX0_ask.data.toList.drop 46 = dktX0_ask_2 := dk_seg dksX0_ask_1 23 rfl rfl
theorem dksX0_ask_3 : cX0_ask.data.toList.drop 68 = dktX0_ask_3 := dk_seg dksX0_ask_2 22 rfl rfl
theorem dX0_ask_0 : decode cX0_ask 0 = .ok (.aload_n 0, 1) := dk_42 (dk_at dksX0_ask_0 0 rfl rfl)
theorem dX0_ask_1 : decode cX0_ask 1 = .ok (.iload_n 1, 1) := dk_27 (dk_at dksX0_ask_0 1 rfl rfl)
theorem dX0_ask_2 : decode cX0_ask 2 = .ok (.invokevirtual 200, 3) := dk_182 0 200 (dk_at dksX0_ask_0 2 rfl rfl)
theorem dX0_ask_5 : decode cX0_ask 5 = .ok (.ifCond .eq 10, 3) := dk_153 0 10 (dk_at dksX0_ask_0 5 rfl rfl)
theorem dX0_ask_8 : decode cX0_ask 8 = .ok (.iload_n 2, 1) := dk_28 (dk_at dksX0_ask_0 8 rfl rfl)
theorem dX0_ask_9 : decode cX0_ask 9 = .ok (.invokestatic 215, 3) := dk_184 0 215 (dk_at dksX0_ask_0 9 rfl rfl)
theorem dX0_ask_12 : decode cX0_ask 12 = .ok (.ifCond .ne 6, 3) := dk_154 0 6 (dk_at dksX0_ask_0 12 rfl rfl)
theorem dX0_ask_15 : decode cX0_ask 15 = .ok (.ldc 94, 2) := dk_18 94 (dk_at dksX0_ask_0 15 rfl rfl)
theorem dX0_ask_17 : decode cX0_ask 17 = .ok (.ireturn, 1) := dk_172 (dk_at dksX0_ask_0 17 rfl rfl)
theorem dX0_ask_18 : decode cX0_ask 18 = .ok (.aload_n 0, 1) := dk_42 (dk_at dksX0_ask_0 18 rfl rfl)
theorem dX0_ask_19 : decode cX0_ask 19 = .ok (.new 60, 3) := dk_187 0 60 (dk_at dksX0_ask_0 19 rfl rfl)
theorem dX0_ask_22 : decode cX0_ask 22 = .ok (.dup, 1) := dk_89 (dk_at dksX0_ask_0 22 rfl rfl)
theorem dX0_ask_23 : decode cX0_ask 23 = .ok (.invokespecial 62, 3) := dk_183 0 62 (dk_at dksX0_ask_1 0 rfl rfl)
theorem dX0_ask_26 : decode cX0_ask 26 = .ok (.putfield 63, 3) := dk_181 0 63 (dk_at dksX0_ask_1 3 rfl rfl)
theorem dX0_ask_29 : decode cX0_ask 29 = .ok (.aload_n 0, 1) := dk_42 (dk_at dksX0_ask_1 6 rfl rfl)
theorem dX0_ask_30 : decode cX0_ask 30 = .ok (.getfield 46, 3) := dk_180 0 46 (dk_at dksX0_ask_1 7 rfl rfl)
theorem dX0_ask_33 : decode cX0_ask 33 = .ok (.getfield 225, 3) := dk_180 0 225 (dk_at dksX0_ask_1 10 rfl rfl)
theorem dX0_ask_36 : decode cX0_ask 36 = .ok (.iload_n 1, 1) := dk_27 (dk_at dksX0_ask_1 13 rfl rfl)
theorem dX0_ask_37 : decode cX0_ask 37 = .ok (.invokeinterface 229 2, 5) := by decide +kernel
theorem dX0_ask_42 : decode cX0_ask 42 = .ok (.checkcast 19, 3) := dk_192 0 19 (dk_at dksX0_ask_1 19 rfl rfl)
theorem dX0_ask_45 : decode cX0_ask 45 = .ok (.astore_n 3, 1) := dk_78 (dk_at dksX0_ask_1 22 rfl rfl)
theorem dX0_ask_46 : decode cX0_ask 46 = .ok (.new 372, 3) := dk_187 1 116 (dk_at dksX0_ask_2 0 rfl rfl)
theorem dX0_ask_49 : decode cX0_ask 49 = .ok (.dup, 1) := dk_89 (dk_at dksX0_ask_2 3 rfl rfl)
theorem dX0_ask_50 : decode cX0_ask 50 = .ok (.aload_n 0, 1) := dk_42 (dk_at dksX0_ask_2 4 rfl rfl)
theorem dX0_ask_51 : decode cX0_ask 51 = .ok (.iload_n 1, 1) := dk_27 (dk_at dksX0_ask_2 5 rfl rfl)
theorem dX0_ask_52 : decode cX0_ask 52 = .ok (.invokespecial 374, 3) := dk_183 1 118 (dk_at dksX0_ask_2 6 rfl rfl)
theorem dX0_ask_55 : decode cX0_ask 55 = .ok (.astore 4, 2) := dk_58 4 (dk_at dksX0_ask_2 9 rfl rfl)
theorem dX0_ask_57 : decode cX0_ask 57 = .ok (.iload_n 2, 1) := dk_28 (dk_at dksX0_ask_2 11 rfl rfl)
theorem dX0_ask_58 : decode cX0_ask 58 = .ok (.ifCond .ne 16, 3) := dk_154 0 16 (dk_at dksX0_ask_2 12 rfl rfl)
theorem dX0_ask_61 : decode cX0_ask 61 = .ok (.aload_n 3, 1) := dk_45 (dk_at dksX0_ask_2 15 rfl rfl)
theorem dX0_ask_62 : decode cX0_ask 62 = .ok (.aload_n 0, 1) := dk_42 (dk_at dksX0_ask_2 16 rfl rfl)
theorem dX0_ask_63 : decode cX0_ask 63 = .ok (.getfield 63, 3) := dk_180 0 63 (dk_at dksX0_ask_2 17 rfl rfl)
theorem dX0_ask_66 : decode cX0_ask 66 = .ok (.aload 4, 2) := dk_25 4 (dk_at dksX0_ask_2 20 rfl rfl)
theorem dX0_ask_68 : decode cX0_ask 68 = .ok (.invokevirtual 375, 3) := dk_182 1 119 (dk_at dksX0_ask_3 0 rfl rfl)
theorem dX0_ask_71 : decode cX0_ask 71 = .ok (.goto 13, 3) := dk_167 0 13 (dk_at dksX0_ask_3 3 rfl rfl)
theorem dX0_ask_74 : decode cX0_ask 74 = .ok (.aload_n 3, 1) := dk_45 (dk_at dksX0_ask_3 6 rfl rfl)
theorem dX0_ask_75 : decode cX0_ask 75 = .ok (.aload_n 0, 1) := dk_42 (dk_at dksX0_ask_3 7 rfl rfl)
theorem dX0_ask_76 : decode cX0_ask 76 = .ok (.getfield 63, 3) := dk_180 0 63 (dk_at dksX0_ask_3 8 rfl rfl)
theorem dX0_ask_79 : decode cX0_ask 79 = .ok (.aload 4, 2) := dk_25 4 (dk_at dksX0_ask_3 11 rfl rfl)
theorem dX0_ask_81 : decode cX0_ask 81 = .ok (.invokevirtual 379, 3) := dk_182 1 123 (dk_at dksX0_ask_3 13 rfl rfl)
theorem dX0_ask_84 : decode cX0_ask 84 = .ok (.ireturn, 1) := dk_172 (dk_at dksX0_ask_3 16 rfl rfl)
abbrev cX0_trace : ByteArray := prog_1_method_56_code
def yX0_trace : MethodName := ⟨RX0, "trace", "(I)I"⟩
def dkwX0_trace_1 : List UInt8 := [180, 1, 127, 27, 46, 167, 0, 5, 18, 251, 172]
abbrev dktX0_trace_1 : List UInt8 := dkwX0_trace_1 ++ []
def dkwX0_trace_0 : List UInt8 := [27, 133, 9, 42, 180, 0, 63, 180, 1, 126, 4, 100, 133, 184, 0, 84, 153, 0, 15, 42, 180, 0, 63]
abbrev dktX0_trace_0 : List UInt8 := dkwX0_trace_0 ++ dktX0_trace_1
theorem dksX0_trace_0 : cX0_trace.data.toList.drop 0 = dktX0_trace_0 := by decide +kernel
theorem dksX0_trace_1 : cX0_trace.data.toList.drop 23 = dktX0_trace_1 := dk_seg dksX0_trace_0 23 rfl rfl
theorem dX0_trace_0 : decode cX0_trace 0 = .ok (.iload_n 1, 1) := dk_27 (dk_at dksX0_trace_0 0 rfl rfl)
theorem dX0_trace_1 : decode cX0_trace 1 = .ok (.i2l, 1) := dk_133 (dk_at dksX0_trace_0 1 rfl rfl)
theorem dX0_trace_2 : decode cX0_trace 2 = .ok (.lconst 0, 1) := dk_9 (dk_at dksX0_trace_0 2 rfl rfl)
theorem dX0_trace_3 : decode cX0_trace 3 = .ok (.aload_n 0, 1) := dk_42 (dk_at dksX0_trace_0 3 rfl rfl)
theorem dX0_trace_4 : decode cX0_trace 4 = .ok (.getfield 63, 3) := dk_180 0 63 (dk_at dksX0_trace_0 4 rfl rfl)
theorem dX0_trace_7 : decode cX0_trace 7 = .ok (.getfield 382, 3) := dk_180 1 126 (dk_at dksX0_trace_0 7 rfl rfl)
theorem dX0_trace_10 : decode cX0_trace 10 = .ok (.iconst 1, 1) := dk_4 (dk_at dksX0_trace_0 10 rfl rfl)
theorem dX0_trace_11 : decode cX0_trace 11 = .ok (.isub, 1) := dk_100 (dk_at dksX0_trace_0 11 rfl rfl)
theorem dX0_trace_12 : decode cX0_trace 12 = .ok (.i2l, 1) := dk_133 (dk_at dksX0_trace_0 12 rfl rfl)
theorem dX0_trace_13 : decode cX0_trace 13 = .ok (.invokestatic 84, 3) := dk_184 0 84 (dk_at dksX0_trace_0 13 rfl rfl)
theorem dX0_trace_16 : decode cX0_trace 16 = .ok (.ifCond .eq 15, 3) := dk_153 0 15 (dk_at dksX0_trace_0 16 rfl rfl)
theorem dX0_trace_19 : decode cX0_trace 19 = .ok (.aload_n 0, 1) := dk_42 (dk_at dksX0_trace_0 19 rfl rfl)
theorem dX0_trace_20 : decode cX0_trace 20 = .ok (.getfield 63, 3) := dk_180 0 63 (dk_at dksX0_trace_0 20 rfl rfl)
theorem dX0_trace_23 : decode cX0_trace 23 = .ok (.getfield 383, 3) := dk_180 1 127 (dk_at dksX0_trace_1 0 rfl rfl)
theorem dX0_trace_26 : decode cX0_trace 26 = .ok (.iload_n 1, 1) := dk_27 (dk_at dksX0_trace_1 3 rfl rfl)
theorem dX0_trace_27 : decode cX0_trace 27 = .ok (.iaload, 1) := dk_46 (dk_at dksX0_trace_1 4 rfl rfl)
theorem dX0_trace_28 : decode cX0_trace 28 = .ok (.goto 5, 3) := dk_167 0 5 (dk_at dksX0_trace_1 5 rfl rfl)
theorem dX0_trace_31 : decode cX0_trace 31 = .ok (.ldc 251, 2) := dk_18 251 (dk_at dksX0_trace_1 8 rfl rfl)
theorem dX0_trace_33 : decode cX0_trace 33 = .ok (.ireturn, 1) := dk_172 (dk_at dksX0_trace_1 10 rfl rfl)
abbrev cX0_count : ByteArray := prog_1_method_57_code
def yX0_count : MethodName := ⟨RX0, "count", "(I)I"⟩
def dkwX0_count_6 : List UInt8 := [172, 42, 180, 0, 46, 180, 0, 218, 172, 18, 94, 172]
abbrev dktX0_count_6 : List UInt8 := dkwX0_count_6 ++ []
def dkwX0_count_5 : List UInt8 := [180, 0, 46, 180, 0, 197, 172, 42, 180, 0, 171, 172, 42, 180, 0, 140, 172, 42, 180, 0, 46, 180, 0, 212]
abbrev dktX0_count_5 : List UInt8 := dkwX0_count_5 ++ dktX0_count_6
def dkwX0_count_4 : List UInt8 := [180, 0, 46, 180, 0, 174, 172, 42, 180, 0, 46, 180, 0, 188, 172, 42, 180, 0, 46, 180, 0, 255, 172, 42]
abbrev dktX0_count_4 : List UInt8 := dkwX0_count_4 ++ dktX0_count_5
def dkwX0_count_3 : List UInt8 := [167, 0, 4, 4, 96, 61, 132, 3, 1, 167, 255, 227, 28, 172, 42, 180, 0, 46, 182, 0, 180, 172, 42]
abbrev dktX0_count_3 : List UInt8 := dkwX0_count_3 ++ dktX0_count_4
def dkwX0_count_2 : List UInt8 := [3, 62, 29, 16, 8, 162, 0, 29, 28, 42, 180, 0, 35, 29, 50, 180, 0, 99, 199, 0, 7, 3]
abbrev dktX0_count_2 : List UInt8 := dkwX0_count_2 ++ dktX0_count_3
def dkwX0_count_1 : List UInt8 := [170, 0, 0, 0, 155, 0, 0, 0, 0, 0, 0, 0, 9, 0, 0, 0, 53, 0, 0, 0, 89, 0, 0, 0, 97, 0, 0, 0, 105, 0, 0, 0, 113, 0, 0, 0, 121, 0, 0, 0, 129, 0, 0, 0, 134, 0, 0, 0, 139, 0, 0, 0, 147]
abbrev dktX0_count_1 : List UInt8 := dkwX0_count_1 ++ dktX0_count_2
def dkwX0_count_0 : List UInt8 := [3, 61, 27]
abbrev dktX0_count_0 : List UInt8 := dkwX0_count_0 ++ dktX0_count_1
theorem dksX0_count_0 : cX0_count.data.toList.drop 0 = dktX0_count_0 := by decide +kernel
theorem dksX0_count_1 : cX0_count.data.toList.drop 3 = dktX0_count_1 := dk_seg dksX0_count_0 3 rfl rfl
theorem dksX0_count_2 : cX0_count.data.toList.drop 56 = dktX0_count_2 := dk_seg dksX0_count_1 53 rfl rfl
theorem dksX0_count_3 : cX0_count.data.toList.drop 78 = dktX0_count_3 := dk_seg dksX0_count_2 22 rfl rfl
theorem dksX0_count_4 : cX0_count.data.toList.drop 101 = dktX0_count_4 := dk_seg dksX0_count_3 23 rfl rfl
theorem dksX0_count_5 : cX0_count.data.toList.drop 125 = dktX0_count_5 := dk_seg dksX0_count_4 24 rfl rfl
theorem dksX0_count_6 : cX0_count.data.toList.drop 149 = dktX0_count_6 := dk_seg dksX0_count_5 24 rfl rfl
theorem dX0_count_0 : decode cX0_count 0 = .ok (.iconst 0, 1) := dk_3 (dk_at dksX0_count_0 0 rfl rfl)
theorem dX0_count_1 : decode cX0_count 1 = .ok (.istore_n 2, 1) := dk_61 (dk_at dksX0_count_0 1 rfl rfl)
theorem dX0_count_2 : decode cX0_count 2 = .ok (.iload_n 1, 1) := dk_27 (dk_at dksX0_count_0 2 rfl rfl)
theorem dX0_count_3 : decode cX0_count 3 = .ok (.tableswitch 155 0 9 #[53, 89, 97, 105, 113, 121, 129, 134, 139, 147], 53) := by decide +kernel
theorem dX0_count_56 : decode cX0_count 56 = .ok (.iconst 0, 1) := dk_3 (dk_at dksX0_count_2 0 rfl rfl)
theorem dX0_count_57 : decode cX0_count 57 = .ok (.istore_n 3, 1) := dk_62 (dk_at dksX0_count_2 1 rfl rfl)
theorem dX0_count_58 : decode cX0_count 58 = .ok (.iload_n 3, 1) := dk_29 (dk_at dksX0_count_2 2 rfl rfl)
theorem dX0_count_59 : decode cX0_count 59 = .ok (.bipush 8, 2) := dk_16 8 (dk_at dksX0_count_2 3 rfl rfl)
theorem dX0_count_61 : decode cX0_count 61 = .ok (.if_icmp .ge 29, 3) := dk_162 0 29 (dk_at dksX0_count_2 5 rfl rfl)
theorem dX0_count_64 : decode cX0_count 64 = .ok (.iload_n 2, 1) := dk_28 (dk_at dksX0_count_2 8 rfl rfl)
theorem dX0_count_65 : decode cX0_count 65 = .ok (.aload_n 0, 1) := dk_42 (dk_at dksX0_count_2 9 rfl rfl)
theorem dX0_count_66 : decode cX0_count 66 = .ok (.getfield 35, 3) := dk_180 0 35 (dk_at dksX0_count_2 10 rfl rfl)
theorem dX0_count_69 : decode cX0_count 69 = .ok (.iload_n 3, 1) := dk_29 (dk_at dksX0_count_2 13 rfl rfl)
theorem dX0_count_70 : decode cX0_count 70 = .ok (.aaload, 1) := dk_50 (dk_at dksX0_count_2 14 rfl rfl)
theorem dX0_count_71 : decode cX0_count 71 = .ok (.getfield 99, 3) := dk_180 0 99 (dk_at dksX0_count_2 15 rfl rfl)
theorem dX0_count_74 : decode cX0_count 74 = .ok (.ifnonnull 7, 3) := dk_199 0 7 (dk_at dksX0_count_2 18 rfl rfl)
theorem dX0_count_77 : decode cX0_count 77 = .ok (.iconst 0, 1) := dk_3 (dk_at dksX0_count_2 21 rfl rfl)
theorem dX0_count_78 : decode cX0_count 78 = .ok (.goto 4, 3) := dk_167 0 4 (dk_at dksX0_count_3 0 rfl rfl)
theorem dX0_count_81 : decode cX0_count 81 = .ok (.iconst 1, 1) := dk_4 (dk_at dksX0_count_3 3 rfl rfl)
theorem dX0_count_82 : decode cX0_count 82 = .ok (.iadd, 1) := dk_96 (dk_at dksX0_count_3 4 rfl rfl)
theorem dX0_count_83 : decode cX0_count 83 = .ok (.istore_n 2, 1) := dk_61 (dk_at dksX0_count_3 5 rfl rfl)
theorem dX0_count_84 : decode cX0_count 84 = .ok (.iinc 3 1, 3) := dk_132 3 1 (dk_at dksX0_count_3 6 rfl rfl)
theorem dX0_count_87 : decode cX0_count 87 = .ok (.goto (-29), 3) := dk_167 255 227 (dk_at dksX0_count_3 9 rfl rfl)
theorem dX0_count_90 : decode cX0_count 90 = .ok (.iload_n 2, 1) := dk_28 (dk_at dksX0_count_3 12 rfl rfl)
theorem dX0_count_91 : decode cX0_count 91 = .ok (.ireturn, 1) := dk_172 (dk_at dksX0_count_3 13 rfl rfl)
theorem dX0_count_92 : decode cX0_count 92 = .ok (.aload_n 0, 1) := dk_42 (dk_at dksX0_count_3 14 rfl rfl)
theorem dX0_count_93 : decode cX0_count 93 = .ok (.getfield 46, 3) := dk_180 0 46 (dk_at dksX0_count_3 15 rfl rfl)
theorem dX0_count_96 : decode cX0_count 96 = .ok (.invokevirtual 180, 3) := dk_182 0 180 (dk_at dksX0_count_3 18 rfl rfl)
theorem dX0_count_99 : decode cX0_count 99 = .ok (.ireturn, 1) := dk_172 (dk_at dksX0_count_3 21 rfl rfl)
theorem dX0_count_100 : decode cX0_count 100 = .ok (.aload_n 0, 1) := dk_42 (dk_at dksX0_count_3 22 rfl rfl)
theorem dX0_count_101 : decode cX0_count 101 = .ok (.getfield 46, 3) := dk_180 0 46 (dk_at dksX0_count_4 0 rfl rfl)
theorem dX0_count_104 : decode cX0_count 104 = .ok (.getfield 174, 3) := dk_180 0 174 (dk_at dksX0_count_4 3 rfl rfl)
theorem dX0_count_107 : decode cX0_count 107 = .ok (.ireturn, 1) := dk_172 (dk_at dksX0_count_4 6 rfl rfl)
theorem dX0_count_108 : decode cX0_count 108 = .ok (.aload_n 0, 1) := dk_42 (dk_at dksX0_count_4 7 rfl rfl)
theorem dX0_count_109 : decode cX0_count 109 = .ok (.getfield 46, 3) := dk_180 0 46 (dk_at dksX0_count_4 8 rfl rfl)
theorem dX0_count_112 : decode cX0_count 112 = .ok (.getfield 188, 3) := dk_180 0 188 (dk_at dksX0_count_4 11 rfl rfl)
theorem dX0_count_115 : decode cX0_count 115 = .ok (.ireturn, 1) := dk_172 (dk_at dksX0_count_4 14 rfl rfl)
theorem dX0_count_116 : decode cX0_count 116 = .ok (.aload_n 0, 1) := dk_42 (dk_at dksX0_count_4 15 rfl rfl)
theorem dX0_count_117 : decode cX0_count 117 = .ok (.getfield 46, 3) := dk_180 0 46 (dk_at dksX0_count_4 16 rfl rfl)
theorem dX0_count_120 : decode cX0_count 120 = .ok (.getfield 255, 3) := dk_180 0 255 (dk_at dksX0_count_4 19 rfl rfl)
theorem dX0_count_123 : decode cX0_count 123 = .ok (.ireturn, 1) := dk_172 (dk_at dksX0_count_4 22 rfl rfl)
theorem dX0_count_124 : decode cX0_count 124 = .ok (.aload_n 0, 1) := dk_42 (dk_at dksX0_count_4 23 rfl rfl)
theorem dX0_count_125 : decode cX0_count 125 = .ok (.getfield 46, 3) := dk_180 0 46 (dk_at dksX0_count_5 0 rfl rfl)
theorem dX0_count_128 : decode cX0_count 128 = .ok (.getfield 197, 3) := dk_180 0 197 (dk_at dksX0_count_5 3 rfl rfl)
theorem dX0_count_131 : decode cX0_count 131 = .ok (.ireturn, 1) := dk_172 (dk_at dksX0_count_5 6 rfl rfl)
theorem dX0_count_132 : decode cX0_count 132 = .ok (.aload_n 0, 1) := dk_42 (dk_at dksX0_count_5 7 rfl rfl)
theorem dX0_count_133 : decode cX0_count 133 = .ok (.getfield 171, 3) := dk_180 0 171 (dk_at dksX0_count_5 8 rfl rfl)
theorem dX0_count_136 : decode cX0_count 136 = .ok (.ireturn, 1) := dk_172 (dk_at dksX0_count_5 11 rfl rfl)
theorem dX0_count_137 : decode cX0_count 137 = .ok (.aload_n 0, 1) := dk_42 (dk_at dksX0_count_5 12 rfl rfl)
theorem dX0_count_138 : decode cX0_count 138 = .ok (.getfield 140, 3) := dk_180 0 140 (dk_at dksX0_count_5 13 rfl rfl)
theorem dX0_count_141 : decode cX0_count 141 = .ok (.ireturn, 1) := dk_172 (dk_at dksX0_count_5 16 rfl rfl)
theorem dX0_count_142 : decode cX0_count 142 = .ok (.aload_n 0, 1) := dk_42 (dk_at dksX0_count_5 17 rfl rfl)
theorem dX0_count_143 : decode cX0_count 143 = .ok (.getfield 46, 3) := dk_180 0 46 (dk_at dksX0_count_5 18 rfl rfl)
theorem dX0_count_146 : decode cX0_count 146 = .ok (.getfield 212, 3) := dk_180 0 212 (dk_at dksX0_count_5 21 rfl rfl)
theorem dX0_count_149 : decode cX0_count 149 = .ok (.ireturn, 1) := dk_172 (dk_at dksX0_count_6 0 rfl rfl)
theorem dX0_count_150 : decode cX0_count 150 = .ok (.aload_n 0, 1) := dk_42 (dk_at dksX0_count_6 1 rfl rfl)
theorem dX0_count_151 : decode cX0_count 151 = .ok (.getfield 46, 3) := dk_180 0 46 (dk_at dksX0_count_6 2 rfl rfl)
theorem dX0_count_154 : decode cX0_count 154 = .ok (.getfield 218, 3) := dk_180 0 218 (dk_at dksX0_count_6 5 rfl rfl)
theorem dX0_count_157 : decode cX0_count 157 = .ok (.ireturn, 1) := dk_172 (dk_at dksX0_count_6 8 rfl rfl)
theorem dX0_count_158 : decode cX0_count 158 = .ok (.ldc 94, 2) := dk_18 94 (dk_at dksX0_count_6 9 rfl rfl)
theorem dX0_count_160 : decode cX0_count 160 = .ok (.ireturn, 1) := dk_172 (dk_at dksX0_count_6 11 rfl rfl)
abbrev cX0_status : ByteArray := prog_1_method_58_code
def yX0_status : MethodName := ⟨RX0, "status", "()I"⟩
theorem dX0_status_0 : decode cX0_status 0 = .ok (.aload_n 0, 1) := by decide +kernel
theorem dX0_status_1 : decode cX0_status 1 = .ok (.getfield 77, 3) := by decide +kernel
theorem dX0_status_4 : decode cX0_status 4 = .ok (.ireturn, 1) := by decide +kernel
theorem q66 : (Jvm.Cond.initialized "MoodFare") ∈ lw_all := lw_g (lw_at lw_m1 1 rfl) rfl
theorem q110 : (Jvm.Cond.instantiable "MoodFare" (14 : Nat)) ∈ lw_all := lw_g (lw_at lw_m1 45 rfl) rfl
theorem q112 : (Jvm.Cond.instanceMethod ({ cls := "MoodFare", name := "<init>", desc := "()V" } : Jvm.MethodName)) ∈ lw_all := lw_g (lw_at lw_m1 47 rfl) rfl
theorem q113 : (Jvm.Cond.code ({ cls := "MoodFare", name := "<init>", desc := "()V" } : Jvm.MethodName) prog_1_method_6_code (1 : Nat) (Option.none : Option Jvm.ClassFile.FieldType)) ∈ lw_all := lw_g (lw_at lw_m1 48 rfl) rfl
theorem q114 : (Jvm.Cond.methodLink "MoodFare" (28 : Nat) ({ cls := "java/lang/Object", name := "<init>", desc := "()V" } : Jvm.MethodName)) ∈ lw_all := lw_g (lw_at lw_m1 49 rfl) rfl
theorem q117 : (Jvm.Cond.methodLink "MoodFare" (31 : Nat) ({ cls := "MoodFare", name := "shelves", desc := "()[LMoodFare$Shelf;" } : Jvm.MethodName)) ∈ lw_all := lw_g (lw_at lw_m1 52 rfl) rfl
theorem q118 : (Jvm.Cond.static ({ cls := "MoodFare", name := "shelves", desc := "()[LMoodFare$Shelf;" } : Jvm.MethodName)) ∈ lw_all := lw_g (lw_at lw_m1 53 rfl) rfl
theorem q119 : (Jvm.Cond.code ({ cls := "MoodFare", name := "shelves", desc := "()[LMoodFare$Shelf;" } : Jvm.MethodName) prog_1_method_5_code (2 : Nat) (Option.some (Jvm.ClassFile.FieldType.array (Jvm.ClassFile.FieldType.object "MoodFare$Shelf")))) ∈ lw_all := lw_g (lw_at lw_m1 54 rfl) rfl
theorem q120 : (Jvm.Cond.classLink "MoodFare" (23 : Nat) "MoodFare$Shelf") ∈ lw_all := lw_g (lw_at lw_m1 55 rfl) rfl
theorem q123 : (Jvm.Cond.methodLinkNest "MoodFare" (25 : Nat) ({ cls := "MoodFare$Shelf", name := "<init>", desc := "()V" } : Jvm.MethodName) "MoodFare") ∈ lw_tbl := lw_at lw_m1 58 rfl
theorem q128 : (Jvm.Cond.fieldLinkNest "MoodFare" (99 : Nat) "MoodFare$Shelf" "held" "Ljava/lang/Object;" "MoodFare") ∈ lw_tbl := lw_at lw_m1 63 rfl
theorem q132 : (Jvm.Cond.classLink "MoodFare" (43 : Nat) "MoodFare$Town") ∈ lw_all := lw_g (lw_at lw_m1 67 rfl) rfl
theorem q134 : (Jvm.Cond.methodLinkNest "MoodFare" (45 : Nat) ({ cls := "MoodFare$Town", name := "<init>", desc := "()V" } : Jvm.MethodName) "MoodFare") ∈ lw_tbl := lw_at lw_m1 69 rfl
theorem q168 : (Jvm.Cond.fieldLink "MoodFare" (177 : Nat) "MoodFare$Town" "rate" "I") ∈ lw_all := lw_g (lw_at lw_m1 103 rfl) rfl
theorem q174 : (Jvm.Cond.fieldLink "MoodFare" (197 : Nat) "MoodFare$Town" "mood" "I") ∈ lw_all := lw_g (lw_at lw_m1 109 rfl) rfl
theorem q179 : (Jvm.Cond.fieldLink "MoodFare" (255 : Nat) "MoodFare$Town" "at" "I") ∈ lw_all := lw_g (lw_at lw_m1 114 rfl) rfl
theorem q181 : (Jvm.Cond.fieldLink "MoodFare" (212 : Nat) "MoodFare$Town" "meter" "I") ∈ lw_all := lw_g (lw_at lw_m1 116 rfl) rfl
theorem q183 : (Jvm.Cond.fieldLink "MoodFare" (188 : Nat) "MoodFare$Town" "step" "I") ∈ lw_all := lw_g (lw_at lw_m1 118 rfl) rfl
theorem q187 : (Jvm.Cond.fieldLink "MoodFare" (225 : Nat) "MoodFare$Town" "corners" "Ljava/util/List;") ∈ lw_all := lw_g (lw_at lw_m1 122 rfl) rfl
theorem q192 : (Jvm.Cond.fieldLink "MoodFare" (205 : Nat) "MoodFare$Town" "much" "[I") ∈ lw_all := lw_g (lw_at lw_m1 127 rfl) rfl
theorem q195 : (Jvm.Cond.fieldLink "MoodFare" (174 : Nat) "MoodFare$Town" "streets" "I") ∈ lw_all := lw_g (lw_at lw_m1 130 rfl) rfl
theorem q198 : (Jvm.Cond.fieldLink "MoodFare" (238 : Nat) "MoodFare$Town" "from" "[I") ∈ lw_all := lw_g (lw_at lw_m1 133 rfl) rfl
theorem q201 : (Jvm.Cond.fieldLink "MoodFare" (245 : Nat) "MoodFare$Town" "to" "[I") ∈ lw_all := lw_g (lw_at lw_m1 136 rfl) rfl
theorem q204 : (Jvm.Cond.fieldLink "MoodFare" (218 : Nat) "MoodFare$Town" "open" "I") ∈ lw_all := lw_g (lw_at lw_m1 139 rfl) rfl
theorem q230 : (Jvm.Cond.classLink "MoodFare" (60 : Nat) "MoodFare$Trail") ∈ lw_all := lw_g (lw_at lw_m1 165 rfl) rfl
theorem q232 : (Jvm.Cond.methodLinkNest "MoodFare" (62 : Nat) ({ cls := "MoodFare$Trail", name := "<init>", desc := "()V" } : Jvm.MethodName) "MoodFare") ∈ lw_tbl := lw_at lw_m1 167 rfl
theorem q237 : (Jvm.Cond.fieldLinkNest "MoodFare" (383 : Nat) "MoodFare$Trail" "body" "[I" "MoodFare") ∈ lw_tbl := lw_at lw_m1 172 rfl
theorem q239 : (Jvm.Cond.fieldLinkNest "MoodFare" (382 : Nat) "MoodFare$Trail" "many" "I" "MoodFare") ∈ lw_tbl := lw_at lw_m1 174 rfl
theorem q245 : (Jvm.Cond.fieldLink "MoodFare" (35 : Nat) "MoodFare" "rows" "[LMoodFare$Shelf;") ∈ lw_all := lw_g (lw_at lw_m1 180 rfl) rfl
theorem q246 : (Jvm.Cond.fieldLink "MoodFare" (39 : Nat) "MoodFare" "tape" "[B") ∈ lw_all := lw_g (lw_at lw_m1 181 rfl) rfl
theorem q247 : (Jvm.Cond.fieldLink "MoodFare" (140 : Nat) "MoodFare" "taped" "I") ∈ lw_all := lw_g (lw_at lw_m1 182 rfl) rfl
theorem q248 : (Jvm.Cond.fieldLink "MoodFare" (157 : Nat) "MoodFare" "faultKind" "I") ∈ lw_all := lw_g (lw_at lw_m1 183 rfl) rfl
theorem q251 : (Jvm.Cond.fieldLink "MoodFare" (46 : Nat) "MoodFare" "town" "LMoodFare$Town;") ∈ lw_all := lw_g (lw_at lw_m1 186 rfl) rfl
theorem q255 : (Jvm.Cond.fieldLink "MoodFare" (50 : Nat) "MoodFare" "then" "LMoodFare$Town;") ∈ lw_all := lw_g (lw_at lw_m1 190 rfl) rfl
theorem q256 : (Jvm.Cond.fieldLink "MoodFare" (53 : Nat) "MoodFare" "past" "[LMoodFare$Town;") ∈ lw_all := lw_g (lw_at lw_m1 191 rfl) rfl
theorem q257 : (Jvm.Cond.fieldLink "MoodFare" (171 : Nat) "MoodFare" "acts" "I") ∈ lw_all := lw_g (lw_at lw_m1 192 rfl) rfl
theorem q258 : (Jvm.Cond.fieldLink "MoodFare" (57 : Nat) "MoodFare" "images" "[LMoodFare$Town;") ∈ lw_all := lw_g (lw_at lw_m1 193 rfl) rfl
theorem q259 : (Jvm.Cond.fieldLink "MoodFare" (63 : Nat) "MoodFare" "trail" "LMoodFare$Trail;") ∈ lw_all := lw_g (lw_at lw_m1 194 rfl) rfl
theorem q260 : (Jvm.Cond.fieldLink "MoodFare" (77 : Nat) "MoodFare" "status" "I") ∈ lw_all := lw_g (lw_at lw_m1 195 rfl) rfl
theorem q261 : (Jvm.Cond.fieldLink "MoodFare" (67 : Nat) "MoodFare" "riders" "[LMoodFare$Town;") ∈ lw_all := lw_g (lw_at lw_m1 196 rfl) rfl
theorem q262 : (Jvm.Cond.fieldLink "MoodFare" (70 : Nat) "MoodFare" "tried" "[I") ∈ lw_all := lw_g (lw_at lw_m1 197 rfl) rfl
theorem q263 : (Jvm.Cond.fieldLink "MoodFare" (74 : Nat) "MoodFare" "best" "[I") ∈ lw_all := lw_g (lw_at lw_m1 198 rfl) rfl
theorem q264 : (Jvm.Cond.laysFinal "MoodFare" "MoodFare" "rows" "[LMoodFare$Shelf;") ∈ lw_all := lw_g (lw_at lw_m1 199 rfl) rfl
theorem q265 : (Jvm.Cond.soleField "MoodFare" "rows") ∈ lw_all := lw_g (lw_at lw_m1 200 rfl) rfl
theorem q266 : (Jvm.Cond.laysFinal "MoodFare" "MoodFare" "tape" "[B") ∈ lw_all := lw_g (lw_at lw_m1 201 rfl) rfl
theorem q267 : (Jvm.Cond.soleField "MoodFare" "tape") ∈ lw_all := lw_g (lw_at lw_m1 202 rfl) rfl
theorem q268 : (Jvm.Cond.lays "MoodFare" "MoodFare" "taped" "I") ∈ lw_all := lw_g (lw_at lw_m1 203 rfl) rfl
theorem q269 : (Jvm.Cond.soleField "MoodFare" "taped") ∈ lw_all := lw_g (lw_at lw_m1 204 rfl) rfl
theorem q270 : (Jvm.Cond.lays "MoodFare" "MoodFare" "faultKind" "I") ∈ lw_all := lw_g (lw_at lw_m1 205 rfl) rfl
theorem q271 : (Jvm.Cond.soleField "MoodFare" "faultKind") ∈ lw_all := lw_g (lw_at lw_m1 206 rfl) rfl
theorem q272 : (Jvm.Cond.laysFinal "MoodFare" "MoodFare" "town" "LMoodFare$Town;") ∈ lw_all := lw_g (lw_at lw_m1 207 rfl) rfl
theorem q273 : (Jvm.Cond.soleField "MoodFare" "town") ∈ lw_all := lw_g (lw_at lw_m1 208 rfl) rfl
theorem q274 : (Jvm.Cond.laysFinal "MoodFare" "MoodFare" "then" "LMoodFare$Town;") ∈ lw_all := lw_g (lw_at lw_m1 209 rfl) rfl
theorem q275 : (Jvm.Cond.soleField "MoodFare" "then") ∈ lw_all := lw_g (lw_at lw_m1 210 rfl) rfl
theorem q276 : (Jvm.Cond.laysFinal "MoodFare" "MoodFare" "past" "[LMoodFare$Town;") ∈ lw_all := lw_g (lw_at lw_m1 211 rfl) rfl
theorem q277 : (Jvm.Cond.soleField "MoodFare" "past") ∈ lw_all := lw_g (lw_at lw_m1 212 rfl) rfl
theorem q278 : (Jvm.Cond.lays "MoodFare" "MoodFare" "acts" "I") ∈ lw_all := lw_g (lw_at lw_m1 213 rfl) rfl
theorem q279 : (Jvm.Cond.soleField "MoodFare" "acts") ∈ lw_all := lw_g (lw_at lw_m1 214 rfl) rfl
theorem q280 : (Jvm.Cond.laysFinal "MoodFare" "MoodFare" "images" "[LMoodFare$Town;") ∈ lw_all := lw_g (lw_at lw_m1 215 rfl) rfl
theorem q281 : (Jvm.Cond.soleField "MoodFare" "images") ∈ lw_all := lw_g (lw_at lw_m1 216 rfl) rfl
theorem q282 : (Jvm.Cond.lays "MoodFare" "MoodFare" "trail" "LMoodFare$Trail;") ∈ lw_all := lw_g (lw_at lw_m1 217 rfl) rfl
theorem q283 : (Jvm.Cond.soleField "MoodFare" "trail") ∈ lw_all := lw_g (lw_at lw_m1 218 rfl) rfl
theorem q284 : (Jvm.Cond.lays "MoodFare" "MoodFare" "status" "I") ∈ lw_all := lw_g (lw_at lw_m1 219 rfl) rfl
theorem q285 : (Jvm.Cond.soleField "MoodFare" "status") ∈ lw_all := lw_g (lw_at lw_m1 220 rfl) rfl
theorem q286 : (Jvm.Cond.laysFinal "MoodFare" "MoodFare" "riders" "[LMoodFare$Town;") ∈ lw_all := lw_g (lw_at lw_m1 221 rfl) rfl
theorem q287 : (Jvm.Cond.soleField "MoodFare" "riders") ∈ lw_all := lw_g (lw_at lw_m1 222 rfl) rfl
theorem q288 : (Jvm.Cond.laysFinal "MoodFare" "MoodFare" "tried" "[I") ∈ lw_all := lw_g (lw_at lw_m1 223 rfl) rfl
theorem q289 : (Jvm.Cond.soleField "MoodFare" "tried") ∈ lw_all := lw_g (lw_at lw_m1 224 rfl) rfl
theorem q290 : (Jvm.Cond.laysFinal "MoodFare" "MoodFare" "best" "[I") ∈ lw_all := lw_g (lw_at lw_m1 225 rfl) rfl
theorem q291 : (Jvm.Cond.soleField "MoodFare" "best") ∈ lw_all := lw_g (lw_at lw_m1 226 rfl) rfl
theorem q292 : (Jvm.Cond.superclass "MoodFare" "java/lang/Object") ∈ lw_all := lw_g (lw_at lw_m1 227 rfl) rfl
theorem q294 : (Jvm.Cond.instanceMethod ({ cls := "MoodFare", name := "row", desc := "(III)I" } : Jvm.MethodName)) ∈ lw_all := lw_g (lw_at lw_m1 229 rfl) rfl
theorem q295 : (Jvm.Cond.selects "MoodFare" ({ cls := "MoodFare", name := "row", desc := "(III)I" } : Jvm.MethodName) ({ cls := "MoodFare", name := "row", desc := "(III)I" } : Jvm.MethodName)) ∈ lw_all := lw_g (lw_at lw_m1 230 rfl) rfl
theorem q296 : (Jvm.Cond.codeWith ({ cls := "MoodFare", name := "row", desc := "(III)I" } : Jvm.MethodName) prog_1_method_11_code (5 : Nat) (Option.some Jvm.ClassFile.FieldType.int) [((28 : Nat), (47 : Nat), (48 : Nat), (107 : Nat))]) ∈ lw_all := lw_g (lw_at lw_m1 231 rfl) rfl
theorem q297 : (Jvm.Cond.classLink "MoodFare" (107 : Nat) "java/lang/NegativeArraySizeException") ∈ lw_all := lw_g (lw_at lw_m1 232 rfl) rfl
theorem q383 : (Jvm.Cond.methodLink "MoodFare" (88 : Nat) ({ cls := "MoodFare", name := "isRow", desc := "(I)Z" } : Jvm.MethodName)) ∈ lw_all := lw_g (lw_at lw_m2 78 rfl) rfl
theorem q384 : (Jvm.Cond.static ({ cls := "MoodFare", name := "isRow", desc := "(I)Z" } : Jvm.MethodName)) ∈ lw_all := lw_g (lw_at lw_m2 79 rfl) rfl
theorem q385 : (Jvm.Cond.code ({ cls := "MoodFare", name := "isRow", desc := "(I)Z" } : Jvm.MethodName) prog_1_method_9_code (1 : Nat) (Option.some Jvm.ClassFile.FieldType.boolean)) ∈ lw_all := lw_g (lw_at lw_m2 80 rfl) rfl
theorem q386 : (Jvm.Cond.constantLong "MoodFare" (82 : Nat) (7 : Int64)) ∈ lw_all := lw_g (lw_at lw_m2 81 rfl) rfl
theorem q387 : (Jvm.Cond.methodLink "MoodFare" (84 : Nat) ({ cls := "MoodFare", name := "isIn", desc := "(JJJ)Z" } : Jvm.MethodName)) ∈ lw_all := lw_g (lw_at lw_m2 82 rfl) rfl
theorem q388 : (Jvm.Cond.static ({ cls := "MoodFare", name := "isIn", desc := "(JJJ)Z" } : Jvm.MethodName)) ∈ lw_all := lw_g (lw_at lw_m2 83 rfl) rfl
theorem q389 : (Jvm.Cond.code ({ cls := "MoodFare", name := "isIn", desc := "(JJJ)Z" } : Jvm.MethodName) prog_1_method_1_code (6 : Nat) (Option.some Jvm.ClassFile.FieldType.boolean)) ∈ lw_all := lw_g (lw_at lw_m2 84 rfl) rfl
theorem q390 : (Jvm.Cond.constantLong "MoodFare" (92 : Nat) (2 : Int64)) ∈ lw_all := lw_g (lw_at lw_m2 85 rfl) rfl
theorem q391 : (Jvm.Cond.constant "MoodFare" (94 : Nat) (-1000001 : Int32)) ∈ lw_all := lw_g (lw_at lw_m2 86 rfl) rfl
theorem q392 : (Jvm.Cond.methodLink "MoodFare" (95 : Nat) ({ cls := "MoodFare", name := "newLane", desc := "(II)Ljava/lang/Object;" } : Jvm.MethodName)) ∈ lw_all := lw_g (lw_at lw_m2 87 rfl) rfl
theorem q393 : (Jvm.Cond.static ({ cls := "MoodFare", name := "newLane", desc := "(II)Ljava/lang/Object;" } : Jvm.MethodName)) ∈ lw_all := lw_g (lw_at lw_m2 88 rfl) rfl
theorem q394 : (Jvm.Cond.code ({ cls := "MoodFare", name := "newLane", desc := "(II)Ljava/lang/Object;" } : Jvm.MethodName) prog_1_method_10_code (2 : Nat) (Option.some (Jvm.ClassFile.FieldType.object "java/lang/Object"))) ∈ lw_all := lw_g (lw_at lw_m2 89 rfl) rfl
theorem q395 : (Jvm.Cond.methodLink "MoodFare" (103 : Nat) ({ cls := "MoodFare", name := "well", desc := "(I)I" } : Jvm.MethodName)) ∈ lw_all := lw_g (lw_at lw_m2 90 rfl) rfl
theorem q396 : (Jvm.Cond.privateMethod ({ cls := "MoodFare", name := "well", desc := "(I)I" } : Jvm.MethodName)) ∈ lw_tbl := lw_at lw_m2 91 rfl
theorem q397 : (Jvm.Cond.instanceMethod ({ cls := "MoodFare", name := "well", desc := "(I)I" } : Jvm.MethodName)) ∈ lw_all := lw_g (lw_at lw_m2 92 rfl) rfl
theorem q398 : (Jvm.Cond.code ({ cls := "MoodFare", name := "well", desc := "(I)I" } : Jvm.MethodName) prog_1_method_8_code (2 : Nat) (Option.some Jvm.ClassFile.FieldType.int)) ∈ lw_all := lw_g (lw_at lw_m2 93 rfl) rfl
theorem q399 : (Jvm.Cond.methodLink "MoodFare" (109 : Nat) ({ cls := "MoodFare", name := "found", desc := "(I)I" } : Jvm.MethodName)) ∈ lw_all := lw_g (lw_at lw_m2 94 rfl) rfl
theorem q400 : (Jvm.Cond.privateMethod ({ cls := "MoodFare", name := "found", desc := "(I)I" } : Jvm.MethodName)) ∈ lw_tbl := lw_at lw_m2 95 rfl
theorem q401 : (Jvm.Cond.instanceMethod ({ cls := "MoodFare", name := "found", desc := "(I)I" } : Jvm.MethodName)) ∈ lw_all := lw_g (lw_at lw_m2 96 rfl) rfl
theorem q402 : (Jvm.Cond.code ({ cls := "MoodFare", name := "found", desc := "(I)I" } : Jvm.MethodName) prog_1_method_7_code (2 : Nat) (Option.some Jvm.ClassFile.FieldType.int)) ∈ lw_all := lw_g (lw_at lw_m2 97 rfl) rfl
theorem q403 : (Jvm.Cond.constant "MoodFare" (81 : Nat) (-1000010 : Int32)) ∈ lw_all := lw_g (lw_at lw_m2 98 rfl) rfl
theorem q406 : (Jvm.Cond.instanceMethod ({ cls := "MoodFare", name := "set", desc := "(III)I" } : Jvm.MethodName)) ∈ lw_all := lw_g (lw_at lw_m2 101 rfl) rfl
theorem q407 : (Jvm.Cond.selects "MoodFare" ({ cls := "MoodFare", name := "set", desc := "(III)I" } : Jvm.MethodName) ({ cls := "MoodFare", name := "set", desc := "(III)I" } : Jvm.MethodName)) ∈ lw_all := lw_g (lw_at lw_m2 102 rfl) rfl
theorem q408 : (Jvm.Cond.codeWith ({ cls := "MoodFare", name := "set", desc := "(III)I" } : Jvm.MethodName) prog_1_method_12_code (5 : Nat) (Option.some Jvm.ClassFile.FieldType.int) [((10 : Nat), (25 : Nat), (26 : Nat), (116 : Nat)), ((10 : Nat), (25 : Nat), (34 : Nat), (118 : Nat))]) ∈ lw_all := lw_g (lw_at lw_m2 103 rfl) rfl
theorem q409 : (Jvm.Cond.classLink "MoodFare" (116 : Nat) "java/lang/NullPointerException") ∈ lw_all := lw_g (lw_at lw_m2 104 rfl) rfl
theorem q434 : (Jvm.Cond.classLink "MoodFare" (118 : Nat) "java/lang/ArrayIndexOutOfBoundsException") ∈ lw_all := lw_g (lw_at lw_m2 129 rfl) rfl
theorem q453 : (Jvm.Cond.methodLinkNest "MoodFare" (112 : Nat) ({ cls := "MoodFare$Shelf", name := "put", desc := "(II)I" } : Jvm.MethodName) "MoodFare") ∈ lw_tbl := lw_at lw_m2 148 rfl
theorem q465 : (Jvm.Cond.instanceMethod ({ cls := "MoodFare", name := "copy", desc := "(IIIII)I" } : Jvm.MethodName)) ∈ lw_all := lw_g (lw_at lw_m2 160 rfl) rfl
theorem q466 : (Jvm.Cond.selects "MoodFare" ({ cls := "MoodFare", name := "copy", desc := "(IIIII)I" } : Jvm.MethodName) ({ cls := "MoodFare", name := "copy", desc := "(IIIII)I" } : Jvm.MethodName)) ∈ lw_all := lw_g (lw_at lw_m2 161 rfl) rfl
theorem q467 : (Jvm.Cond.codeWith ({ cls := "MoodFare", name := "copy", desc := "(IIIII)I" } : Jvm.MethodName) prog_1_method_13_code (7 : Nat) (Option.some Jvm.ClassFile.FieldType.int) [((17 : Nat), (49 : Nat), (50 : Nat), (116 : Nat)), ((17 : Nat), (49 : Nat), (58 : Nat), (126 : Nat)), ((17 : Nat), (49 : Nat), (66 : Nat), (128 : Nat))]) ∈ lw_all := lw_g (lw_at lw_m2 162 rfl) rfl
theorem q468 : (Jvm.Cond.classLink "MoodFare" (126 : Nat) "java/lang/ArrayStoreException") ∈ lw_all := lw_g (lw_at lw_m2 163 rfl) rfl
theorem q482 : (Jvm.Cond.classLink "MoodFare" (128 : Nat) "java/lang/IndexOutOfBoundsException") ∈ lw_all := lw_g (lw_at lw_m2 177 rfl) rfl
theorem q483 : (Jvm.Cond.methodLink "MoodFare" (120 : Nat) ({ cls := "java/lang/System", name := "arraycopy", desc := "(Ljava/lang/Object;ILjava/lang/Object;II)V" } : Jvm.MethodName)) ∈ lw_all := lw_g (lw_at lw_m2 178 rfl) rfl
theorem q487 : (Jvm.Cond.instanceMethod ({ cls := "MoodFare", name := "drop", desc := "(I)I" } : Jvm.MethodName)) ∈ lw_all := lw_g (lw_at lw_m2 182 rfl) rfl
theorem q488 : (Jvm.Cond.selects "MoodFare" ({ cls := "MoodFare", name := "drop", desc := "(I)I" } : Jvm.MethodName) ({ cls := "MoodFare", name := "drop", desc := "(I)I" } : Jvm.MethodName)) ∈ lw_all := lw_g (lw_at lw_m2 183 rfl) rfl
theorem q489 : (Jvm.Cond.codeWith ({ cls := "MoodFare", name := "drop", desc := "(I)I" } : Jvm.MethodName) prog_1_method_14_code (5 : Nat) (Option.some Jvm.ClassFile.FieldType.int) [((10 : Nat), (24 : Nat), (36 : Nat), (116 : Nat)), ((10 : Nat), (24 : Nat), (55 : Nat), (0 : Nat)), ((36 : Nat), (43 : Nat), (55 : Nat), (0 : Nat)), ((55 : Nat), (57 : Nat), (55 : Nat), (0 : Nat))]) ∈ lw_all := lw_g (lw_at lw_m2 184 rfl) rfl
theorem q490 : (Jvm.Cond.methodLinkNest "MoodFare" (130 : Nat) ({ cls := "MoodFare$Shelf", name := "many", desc := "()I" } : Jvm.MethodName) "MoodFare") ∈ lw_tbl := lw_at lw_m2 185 rfl
theorem q495 : (Jvm.Cond.instanceMethod ({ cls := "MoodFare", name := "feed", desc := "(I)I" } : Jvm.MethodName)) ∈ lw_all := lw_g (lw_at lw_m2 190 rfl) rfl
theorem q496 : (Jvm.Cond.selects "MoodFare" ({ cls := "MoodFare", name := "feed", desc := "(I)I" } : Jvm.MethodName) ({ cls := "MoodFare", name := "feed", desc := "(I)I" } : Jvm.MethodName)) ∈ lw_all := lw_g (lw_at lw_m2 191 rfl) rfl
theorem q497 : (Jvm.Cond.code ({ cls := "MoodFare", name := "feed", desc := "(I)I" } : Jvm.MethodName) prog_1_method_16_code (2 : Nat) (Option.some Jvm.ClassFile.FieldType.int)) ∈ lw_all := lw_g (lw_at lw_m2 192 rfl) rfl
theorem q498 : (Jvm.Cond.constantLong "MoodFare" (138 : Nat) (255 : Int64)) ∈ lw_all := lw_g (lw_at lw_m2 193 rfl) rfl
theorem q499 : (Jvm.Cond.constant "MoodFare" (143 : Nat) (-1000003 : Int32)) ∈ lw_all := lw_g (lw_at lw_m2 194 rfl) rfl
theorem q501 : (Jvm.Cond.instanceMethod ({ cls := "MoodFare", name := "town", desc := "()I" } : Jvm.MethodName)) ∈ lw_all := lw_g (lw_at lw_m2 196 rfl) rfl
theorem q502 : (Jvm.Cond.selects "MoodFare" ({ cls := "MoodFare", name := "town", desc := "()I" } : Jvm.MethodName) ({ cls := "MoodFare", name := "town", desc := "()I" } : Jvm.MethodName)) ∈ lw_all := lw_g (lw_at lw_m2 197 rfl) rfl
theorem q503 : (Jvm.Cond.codeWith ({ cls := "MoodFare", name := "town", desc := "()I" } : Jvm.MethodName) prog_1_method_17_code (5 : Nat) (Option.some Jvm.ClassFile.FieldType.int) [((16 : Nat), (20 : Nat), (28 : Nat), (152 : Nat)), ((16 : Nat), (20 : Nat), (52 : Nat), (0 : Nat)), ((28 : Nat), (45 : Nat), (52 : Nat), (0 : Nat)), ((52 : Nat), (54 : Nat), (52 : Nat), (0 : Nat))]) ∈ lw_all := lw_g (lw_at lw_m2 198 rfl) rfl
theorem q504 : (Jvm.Cond.classLink "MoodFare" (152 : Nat) "MoodFare$Fault") ∈ lw_all := lw_g (lw_at lw_m2 199 rfl) rfl
theorem q505 : (Jvm.Cond.classLink "MoodFare" (144 : Nat) "MoodFare$Reader") ∈ lw_all := lw_g (lw_at lw_m2 200 rfl) rfl
theorem q507 : (Jvm.Cond.methodLink "MoodFare" (146 : Nat) ({ cls := "MoodFare$Reader", name := "<init>", desc := "([BI)V" } : Jvm.MethodName)) ∈ lw_all := lw_g (lw_at lw_m2 202 rfl) rfl
theorem q520 : (Jvm.Cond.fieldLink "MoodFare" (164 : Nat) "MoodFare$Reader" "made" "LMoodFare$Town;") ∈ lw_all := lw_g (lw_at lw_m2 215 rfl) rfl
theorem q536 : (Jvm.Cond.methodLink "MoodFare" (149 : Nat) ({ cls := "MoodFare$Reader", name := "all", desc := "()V" } : Jvm.MethodName)) ∈ lw_all := lw_g (lw_at lw_m2 231 rfl) rfl
theorem q581 : (Jvm.Cond.fieldLink "MoodFare" (154 : Nat) "MoodFare$Fault" "kind" "I") ∈ lw_all := lw_g (lw_at lw_m3 36 rfl) rfl
theorem q583 : (Jvm.Cond.fieldLink "MoodFare" (161 : Nat) "MoodFare$Fault" "place" "I") ∈ lw_all := lw_g (lw_at lw_m3 38 rfl) rfl
theorem q704 : (Jvm.Cond.static ({ cls := "MoodFare", name := "cornerBy", desc := "(III)LMoodFare$Corner;" } : Jvm.MethodName)) ∈ lw_all := lw_g (lw_at lw_m3 159 rfl) rfl
theorem q705 : (Jvm.Cond.code ({ cls := "MoodFare", name := "cornerBy", desc := "(III)LMoodFare$Corner;" } : Jvm.MethodName) prog_1_method_3_code (3 : Nat) (Option.some (Jvm.ClassFile.FieldType.object "MoodFare$Corner"))) ∈ lw_all := lw_g (lw_at lw_m3 160 rfl) rfl
theorem q706 : (Jvm.Cond.classLink "MoodFare" (1 : Nat) "MoodFare$Joy") ∈ lw_all := lw_g (lw_at lw_m3 161 rfl) rfl
theorem q708 : (Jvm.Cond.methodLink "MoodFare" (3 : Nat) ({ cls := "MoodFare$Joy", name := "<init>", desc := "(II)V" } : Jvm.MethodName)) ∈ lw_all := lw_g (lw_at lw_m3 163 rfl) rfl
theorem q722 : (Jvm.Cond.classLink "MoodFare" (7 : Nat) "MoodFare$Love") ∈ lw_all := lw_g (lw_at lw_m3 177 rfl) rfl
theorem q724 : (Jvm.Cond.methodLink "MoodFare" (9 : Nat) ({ cls := "MoodFare$Love", name := "<init>", desc := "(II)V" } : Jvm.MethodName)) ∈ lw_all := lw_g (lw_at lw_m3 179 rfl) rfl
theorem q731 : (Jvm.Cond.classLink "MoodFare" (10 : Nat) "MoodFare$Haste") ∈ lw_all := lw_g (lw_at lw_m3 186 rfl) rfl
theorem q733 : (Jvm.Cond.methodLink "MoodFare" (12 : Nat) ({ cls := "MoodFare$Haste", name := "<init>", desc := "(II)V" } : Jvm.MethodName)) ∈ lw_all := lw_g (lw_at lw_m3 188 rfl) rfl
theorem q740 : (Jvm.Cond.classLink "MoodFare" (13 : Nat) "MoodFare$Grief") ∈ lw_all := lw_g (lw_at lw_m3 195 rfl) rfl
theorem q742 : (Jvm.Cond.methodLink "MoodFare" (15 : Nat) ({ cls := "MoodFare$Grief", name := "<init>", desc := "(II)V" } : Jvm.MethodName)) ∈ lw_all := lw_g (lw_at lw_m3 197 rfl) rfl
theorem q749 : (Jvm.Cond.classLink "MoodFare" (16 : Nat) "MoodFare$Ruin") ∈ lw_all := lw_g (lw_at lw_m3 204 rfl) rfl
theorem q751 : (Jvm.Cond.methodLink "MoodFare" (18 : Nat) ({ cls := "MoodFare$Ruin", name := "<init>", desc := "(II)V" } : Jvm.MethodName)) ∈ lw_all := lw_g (lw_at lw_m3 206 rfl) rfl
theorem q793 : (Jvm.Cond.selects "MoodFare" ({ cls := "java/lang/Object", name := "getClass", desc := "()Ljava/lang/Class;" } : Jvm.MethodName) ({ cls := "java/lang/Object", name := "getClass", desc := "()Ljava/lang/Class;" } : Jvm.MethodName)) ∈ lw_all := lw_g (lw_at lw_m4 8 rfl) rfl
theorem q838 : (Jvm.Cond.constant "MoodFare" (160 : Nat) (-1000100 : Int32)) ∈ lw_all := lw_g (lw_at lw_m4 53 rfl) rfl
theorem q839 : (Jvm.Cond.methodLink "MoodFare" (167 : Nat) ({ cls := "MoodFare$Town", name := "become", desc := "(LMoodFare$Town;)V" } : Jvm.MethodName)) ∈ lw_all := lw_g (lw_at lw_m4 54 rfl) rfl
theorem q880 : (Jvm.Cond.instanceMethod ({ cls := "MoodFare", name := "fault", desc := "()I" } : Jvm.MethodName)) ∈ lw_all := lw_g (lw_at lw_m4 95 rfl) rfl
theorem q881 : (Jvm.Cond.selects "MoodFare" ({ cls := "MoodFare", name := "fault", desc := "()I" } : Jvm.MethodName) ({ cls := "MoodFare", name := "fault", desc := "()I" } : Jvm.MethodName)) ∈ lw_all := lw_g (lw_at lw_m4 96 rfl) rfl
theorem q882 : (Jvm.Cond.code ({ cls := "MoodFare", name := "fault", desc := "()I" } : Jvm.MethodName) prog_1_method_18_code (1 : Nat) (Option.some Jvm.ClassFile.FieldType.int)) ∈ lw_all := lw_g (lw_at lw_m4 97 rfl) rfl
theorem q884 : (Jvm.Cond.instanceMethod ({ cls := "MoodFare", name := "ride", desc := "(I)I" } : Jvm.MethodName)) ∈ lw_all := lw_g (lw_at lw_m4 99 rfl) rfl
theorem q885 : (Jvm.Cond.selects "MoodFare" ({ cls := "MoodFare", name := "ride", desc := "(I)I" } : Jvm.MethodName) ({ cls := "MoodFare", name := "ride", desc := "(I)I" } : Jvm.MethodName)) ∈ lw_all := lw_g (lw_at lw_m4 100 rfl) rfl
theorem q886 : (Jvm.Cond.code ({ cls := "MoodFare", name := "ride", desc := "(I)I" } : Jvm.MethodName) prog_1_method_24_code (2 : Nat) (Option.some Jvm.ClassFile.FieldType.int)) ∈ lw_all := lw_g (lw_at lw_m4 101 rfl) rfl
theorem q887 : (Jvm.Cond.methodLink "MoodFare" (181 : Nat) ({ cls := "MoodFare", name := "isStreet", desc := "(I)Z" } : Jvm.MethodName)) ∈ lw_all := lw_g (lw_at lw_m4 102 rfl) rfl
theorem q888 : (Jvm.Cond.privateMethod ({ cls := "MoodFare", name := "isStreet", desc := "(I)Z" } : Jvm.MethodName)) ∈ lw_tbl := lw_at lw_m4 103 rfl
theorem q889 : (Jvm.Cond.instanceMethod ({ cls := "MoodFare", name := "isStreet", desc := "(I)Z" } : Jvm.MethodName)) ∈ lw_all := lw_g (lw_at lw_m4 104 rfl) rfl
theorem q890 : (Jvm.Cond.code ({ cls := "MoodFare", name := "isStreet", desc := "(I)Z" } : Jvm.MethodName) prog_1_method_21_code (2 : Nat) (Option.some Jvm.ClassFile.FieldType.boolean)) ∈ lw_all := lw_g (lw_at lw_m4 105 rfl) rfl
theorem q891 : (Jvm.Cond.methodLink "MoodFare" (184 : Nat) ({ cls := "MoodFare$Town", name := "isWay", desc := "(I)Z" } : Jvm.MethodName)) ∈ lw_all := lw_g (lw_at lw_m4 106 rfl) rfl
theorem q897 : (Jvm.Cond.static ({ cls := "MoodFare", name := "has", desc := "(II)Z" } : Jvm.MethodName)) ∈ lw_all := lw_g (lw_at lw_m4 112 rfl) rfl
theorem q898 : (Jvm.Cond.code ({ cls := "MoodFare", name := "has", desc := "(II)Z" } : Jvm.MethodName) prog_1_method_2_code (2 : Nat) (Option.some Jvm.ClassFile.FieldType.boolean)) ∈ lw_all := lw_g (lw_at lw_m4 113 rfl) rfl
theorem q899 : (Jvm.Cond.constant "MoodFare" (187 : Nat) (-1000002 : Int32)) ∈ lw_all := lw_g (lw_at lw_m4 114 rfl) rfl
theorem q900 : (Jvm.Cond.methodLink "MoodFare" (191 : Nat) ({ cls := "MoodFare", name := "keep", desc := "()V" } : Jvm.MethodName)) ∈ lw_all := lw_g (lw_at lw_m4 115 rfl) rfl
theorem q901 : (Jvm.Cond.privateMethod ({ cls := "MoodFare", name := "keep", desc := "()V" } : Jvm.MethodName)) ∈ lw_tbl := lw_at lw_m4 116 rfl
theorem q902 : (Jvm.Cond.instanceMethod ({ cls := "MoodFare", name := "keep", desc := "()V" } : Jvm.MethodName)) ∈ lw_all := lw_g (lw_at lw_m4 117 rfl) rfl
theorem q903 : (Jvm.Cond.code ({ cls := "MoodFare", name := "keep", desc := "()V" } : Jvm.MethodName) prog_1_method_23_code (3 : Nat) (Option.none : Option Jvm.ClassFile.FieldType)) ∈ lw_all := lw_g (lw_at lw_m4 118 rfl) rfl
theorem q904 : (Jvm.Cond.methodLink "MoodFare" (194 : Nat) ({ cls := "MoodFare$Town", name := "ride", desc := "(I)I" } : Jvm.MethodName)) ∈ lw_all := lw_g (lw_at lw_m4 119 rfl) rfl
theorem q953 : (Jvm.Cond.instanceMethod ({ cls := "MoodFare", name := "lesson", desc := "(II)I" } : Jvm.MethodName)) ∈ lw_all := lw_g (lw_at lw_m4 168 rfl) rfl
theorem q954 : (Jvm.Cond.selects "MoodFare" ({ cls := "MoodFare", name := "lesson", desc := "(II)I" } : Jvm.MethodName) ({ cls := "MoodFare", name := "lesson", desc := "(II)I" } : Jvm.MethodName)) ∈ lw_all := lw_g (lw_at lw_m4 169 rfl) rfl
theorem q955 : (Jvm.Cond.code ({ cls := "MoodFare", name := "lesson", desc := "(II)I" } : Jvm.MethodName) prog_1_method_25_code (4 : Nat) (Option.some Jvm.ClassFile.FieldType.int)) ∈ lw_all := lw_g (lw_at lw_m4 170 rfl) rfl
theorem q956 : (Jvm.Cond.methodLink "MoodFare" (200 : Nat) ({ cls := "MoodFare", name := "isCorner", desc := "(I)Z" } : Jvm.MethodName)) ∈ lw_all := lw_g (lw_at lw_m4 171 rfl) rfl
theorem q957 : (Jvm.Cond.privateMethod ({ cls := "MoodFare", name := "isCorner", desc := "(I)Z" } : Jvm.MethodName)) ∈ lw_tbl := lw_at lw_m4 172 rfl
theorem q958 : (Jvm.Cond.instanceMethod ({ cls := "MoodFare", name := "isCorner", desc := "(I)Z" } : Jvm.MethodName)) ∈ lw_all := lw_g (lw_at lw_m4 173 rfl) rfl
theorem q959 : (Jvm.Cond.code ({ cls := "MoodFare", name := "isCorner", desc := "(I)Z" } : Jvm.MethodName) prog_1_method_20_code (2 : Nat) (Option.some Jvm.ClassFile.FieldType.boolean)) ∈ lw_all := lw_g (lw_at lw_m4 174 rfl) rfl
theorem q960 : (Jvm.Cond.methodLink "MoodFare" (180 : Nat) ({ cls := "MoodFare$Town", name := "many", desc := "()I" } : Jvm.MethodName)) ∈ lw_all := lw_g (lw_at lw_m4 175 rfl) rfl
theorem q961 : (Jvm.Cond.constantLong "MoodFare" (203 : Nat) (9 : Int64)) ∈ lw_all := lw_g (lw_at lw_m4 176 rfl) rfl
theorem q963 : (Jvm.Cond.instanceMethod ({ cls := "MoodFare", name := "reset", desc := "()I" } : Jvm.MethodName)) ∈ lw_all := lw_g (lw_at lw_m4 178 rfl) rfl
theorem q964 : (Jvm.Cond.selects "MoodFare" ({ cls := "MoodFare", name := "reset", desc := "()I" } : Jvm.MethodName) ({ cls := "MoodFare", name := "reset", desc := "()I" } : Jvm.MethodName)) ∈ lw_all := lw_g (lw_at lw_m4 179 rfl) rfl
theorem q965 : (Jvm.Cond.code ({ cls := "MoodFare", name := "reset", desc := "()I" } : Jvm.MethodName) prog_1_method_26_code (2 : Nat) (Option.some Jvm.ClassFile.FieldType.int)) ∈ lw_all := lw_g (lw_at lw_m4 180 rfl) rfl
theorem q966 : (Jvm.Cond.methodLink "MoodFare" (208 : Nat) ({ cls := "MoodFare", name := "isThere", desc := "()Z" } : Jvm.MethodName)) ∈ lw_all := lw_g (lw_at lw_m4 181 rfl) rfl
theorem q967 : (Jvm.Cond.privateMethod ({ cls := "MoodFare", name := "isThere", desc := "()Z" } : Jvm.MethodName)) ∈ lw_tbl := lw_at lw_m4 182 rfl
theorem q968 : (Jvm.Cond.instanceMethod ({ cls := "MoodFare", name := "isThere", desc := "()Z" } : Jvm.MethodName)) ∈ lw_all := lw_g (lw_at lw_m4 183 rfl) rfl
theorem q969 : (Jvm.Cond.code ({ cls := "MoodFare", name := "isThere", desc := "()Z" } : Jvm.MethodName) prog_1_method_19_code (1 : Nat) (Option.some Jvm.ClassFile.FieldType.boolean)) ∈ lw_all := lw_g (lw_at lw_m4 184 rfl) rfl
theorem q971 : (Jvm.Cond.instanceMethod ({ cls := "MoodFare", name := "street", desc := "(II)I" } : Jvm.MethodName)) ∈ lw_all := lw_g (lw_at lw_m4 186 rfl) rfl
theorem q972 : (Jvm.Cond.selects "MoodFare" ({ cls := "MoodFare", name := "street", desc := "(II)I" } : Jvm.MethodName) ({ cls := "MoodFare", name := "street", desc := "(II)I" } : Jvm.MethodName)) ∈ lw_all := lw_g (lw_at lw_m4 187 rfl) rfl
theorem q973 : (Jvm.Cond.code ({ cls := "MoodFare", name := "street", desc := "(II)I" } : Jvm.MethodName) prog_1_method_27_code (3 : Nat) (Option.some Jvm.ClassFile.FieldType.int)) ∈ lw_all := lw_g (lw_at lw_m4 188 rfl) rfl
theorem q974 : (Jvm.Cond.methodLink "MoodFare" (215 : Nat) ({ cls := "MoodFare", name := "isHalf", desc := "(I)Z" } : Jvm.MethodName)) ∈ lw_all := lw_g (lw_at lw_m4 189 rfl) rfl
theorem q975 : (Jvm.Cond.static ({ cls := "MoodFare", name := "isHalf", desc := "(I)Z" } : Jvm.MethodName)) ∈ lw_all := lw_g (lw_at lw_m4 190 rfl) rfl
theorem q976 : (Jvm.Cond.code ({ cls := "MoodFare", name := "isHalf", desc := "(I)Z" } : Jvm.MethodName) prog_1_method_22_code (1 : Nat) (Option.some Jvm.ClassFile.FieldType.boolean)) ∈ lw_all := lw_g (lw_at lw_m4 191 rfl) rfl
theorem q977 : (Jvm.Cond.methodLink "MoodFare" (221 : Nat) ({ cls := "MoodFare", name := "has", desc := "(II)Z" } : Jvm.MethodName)) ∈ lw_all := lw_g (lw_at lw_m4 192 rfl) rfl
theorem q979 : (Jvm.Cond.instanceMethod ({ cls := "MoodFare", name := "undo", desc := "()I" } : Jvm.MethodName)) ∈ lw_all := lw_g (lw_at lw_m4 194 rfl) rfl
theorem q980 : (Jvm.Cond.selects "MoodFare" ({ cls := "MoodFare", name := "undo", desc := "()I" } : Jvm.MethodName) ({ cls := "MoodFare", name := "undo", desc := "()I" } : Jvm.MethodName)) ∈ lw_all := lw_g (lw_at lw_m4 195 rfl) rfl
theorem q981 : (Jvm.Cond.code ({ cls := "MoodFare", name := "undo", desc := "()I" } : Jvm.MethodName) prog_1_method_28_code (1 : Nat) (Option.some Jvm.ClassFile.FieldType.int)) ∈ lw_all := lw_g (lw_at lw_m4 196 rfl) rfl
theorem q983 : (Jvm.Cond.instanceMethod ({ cls := "MoodFare", name := "corner", desc := "(II)I" } : Jvm.MethodName)) ∈ lw_all := lw_g (lw_at lw_m4 198 rfl) rfl
theorem q984 : (Jvm.Cond.selects "MoodFare" ({ cls := "MoodFare", name := "corner", desc := "(II)I" } : Jvm.MethodName) ({ cls := "MoodFare", name := "corner", desc := "(II)I" } : Jvm.MethodName)) ∈ lw_all := lw_g (lw_at lw_m4 199 rfl) rfl
theorem q985 : (Jvm.Cond.code ({ cls := "MoodFare", name := "corner", desc := "(II)I" } : Jvm.MethodName) prog_1_method_30_code (3 : Nat) (Option.some Jvm.ClassFile.FieldType.int)) ∈ lw_all := lw_g (lw_at lw_m4 200 rfl) rfl
theorem q986 : (Jvm.Cond.interfaceEntry "MoodFare" (229 : Nat)) ∈ lw_tbl := lw_at lw_m4 201 rfl
theorem q987 : (Jvm.Cond.methodLink "MoodFare" (229 : Nat) ({ cls := "java/util/List", name := "get", desc := "(I)Ljava/lang/Object;" } : Jvm.MethodName)) ∈ lw_all := lw_g (lw_at lw_m4 202 rfl) rfl
theorem q988 : (Jvm.Cond.classLink "MoodFare" (19 : Nat) "MoodFare$Corner") ∈ lw_all := lw_g (lw_at lw_m4 203 rfl) rfl
theorem q989 : (Jvm.Cond.methodLink "MoodFare" (235 : Nat) ({ cls := "MoodFare$Corner", name := "fee", desc := "()I" } : Jvm.MethodName)) ∈ lw_all := lw_g (lw_at lw_m4 204 rfl) rfl
theorem q990 : (Jvm.Cond.methodLink "MoodFare" (241 : Nat) ({ cls := "MoodFare", name := "streetsAt", desc := "([II)I" } : Jvm.MethodName)) ∈ lw_all := lw_g (lw_at lw_m4 205 rfl) rfl
theorem q991 : (Jvm.Cond.privateMethod ({ cls := "MoodFare", name := "streetsAt", desc := "([II)I" } : Jvm.MethodName)) ∈ lw_tbl := lw_at lw_m4 206 rfl
theorem q992 : (Jvm.Cond.instanceMethod ({ cls := "MoodFare", name := "streetsAt", desc := "([II)I" } : Jvm.MethodName)) ∈ lw_all := lw_g (lw_at lw_m4 207 rfl) rfl
theorem q993 : (Jvm.Cond.code ({ cls := "MoodFare", name := "streetsAt", desc := "([II)I" } : Jvm.MethodName) prog_1_method_29_code (5 : Nat) (Option.some Jvm.ClassFile.FieldType.int)) ∈ lw_all := lw_g (lw_at lw_m4 208 rfl) rfl
theorem q994 : (Jvm.Cond.methodLink "MoodFare" (248 : Nat) ({ cls := "MoodFare$Town", name := "passed", desc := "(I)I" } : Jvm.MethodName)) ∈ lw_all := lw_g (lw_at lw_m4 209 rfl) rfl
theorem q996 : (Jvm.Cond.instanceMethod ({ cls := "MoodFare", name := "way", desc := "(II)I" } : Jvm.MethodName)) ∈ lw_all := lw_g (lw_at lw_m4 211 rfl) rfl
theorem q997 : (Jvm.Cond.selects "MoodFare" ({ cls := "MoodFare", name := "way", desc := "(II)I" } : Jvm.MethodName) ({ cls := "MoodFare", name := "way", desc := "(II)I" } : Jvm.MethodName)) ∈ lw_all := lw_g (lw_at lw_m4 212 rfl) rfl
theorem q998 : (Jvm.Cond.code ({ cls := "MoodFare", name := "way", desc := "(II)I" } : Jvm.MethodName) prog_1_method_31_code (3 : Nat) (Option.some Jvm.ClassFile.FieldType.int)) ∈ lw_all := lw_g (lw_at lw_m4 213 rfl) rfl
theorem q1000 : (Jvm.Cond.instanceMethod ({ cls := "MoodFare", name := "would", desc := "(II)I" } : Jvm.MethodName)) ∈ lw_all := lw_g (lw_at lw_m4 215 rfl) rfl
theorem q1001 : (Jvm.Cond.selects "MoodFare" ({ cls := "MoodFare", name := "would", desc := "(II)I" } : Jvm.MethodName) ({ cls := "MoodFare", name := "would", desc := "(II)I" } : Jvm.MethodName)) ∈ lw_all := lw_g (lw_at lw_m4 216 rfl) rfl
theorem q1002 : (Jvm.Cond.code ({ cls := "MoodFare", name := "would", desc := "(II)I" } : Jvm.MethodName) prog_1_method_33_code (3 : Nat) (Option.some Jvm.ClassFile.FieldType.int)) ∈ lw_all := lw_g (lw_at lw_m4 217 rfl) rfl
theorem q1003 : (Jvm.Cond.constant "MoodFare" (251 : Nat) (-1000000 : Int32)) ∈ lw_all := lw_g (lw_at lw_m4 218 rfl) rfl
theorem q1004 : (Jvm.Cond.methodLink "MoodFare" (252 : Nat) ({ cls := "MoodFare$Town", name := "cost", desc := "(I)I" } : Jvm.MethodName)) ∈ lw_all := lw_g (lw_at lw_m4 219 rfl) rfl
theorem q1006 : (Jvm.Cond.instanceMethod ({ cls := "MoodFare", name := "reach", desc := "()I" } : Jvm.MethodName)) ∈ lw_all := lw_g (lw_at lw_m4 221 rfl) rfl
theorem q1007 : (Jvm.Cond.selects "MoodFare" ({ cls := "MoodFare", name := "reach", desc := "()I" } : Jvm.MethodName) ({ cls := "MoodFare", name := "reach", desc := "()I" } : Jvm.MethodName)) ∈ lw_all := lw_g (lw_at lw_m4 222 rfl) rfl
theorem q1008 : (Jvm.Cond.code ({ cls := "MoodFare", name := "reach", desc := "()I" } : Jvm.MethodName) prog_1_method_34_code (4 : Nat) (Option.some Jvm.ClassFile.FieldType.int)) ∈ lw_all := lw_g (lw_at lw_m4 223 rfl) rfl
theorem q1010 : (Jvm.Cond.instanceMethod ({ cls := "MoodFare", name := "cheapest", desc := "(II)I" } : Jvm.MethodName)) ∈ lw_all := lw_g (lw_at lw_m4 225 rfl) rfl
theorem q1011 : (Jvm.Cond.selects "MoodFare" ({ cls := "MoodFare", name := "cheapest", desc := "(II)I" } : Jvm.MethodName) ({ cls := "MoodFare", name := "cheapest", desc := "(II)I" } : Jvm.MethodName)) ∈ lw_all := lw_g (lw_at lw_m4 226 rfl) rfl
theorem q1012 : (Jvm.Cond.code ({ cls := "MoodFare", name := "cheapest", desc := "(II)I" } : Jvm.MethodName) prog_1_method_38_code (4 : Nat) (Option.some Jvm.ClassFile.FieldType.int)) ∈ lw_all := lw_g (lw_at lw_m4 227 rfl) rfl
theorem q1013 : (Jvm.Cond.constantLong "MoodFare" (279 : Nat) (-2 : Int64)) ∈ lw_all := lw_g (lw_at lw_m4 228 rfl) rfl
theorem q1014 : (Jvm.Cond.methodLink "MoodFare" (281 : Nat) ({ cls := "MoodFare", name := "asNow", desc := "()LMoodFare$Town;" } : Jvm.MethodName)) ∈ lw_all := lw_g (lw_at lw_m4 229 rfl) rfl
theorem q1015 : (Jvm.Cond.privateMethod ({ cls := "MoodFare", name := "asNow", desc := "()LMoodFare$Town;" } : Jvm.MethodName)) ∈ lw_tbl := lw_at lw_m4 230 rfl
theorem q1016 : (Jvm.Cond.instanceMethod ({ cls := "MoodFare", name := "asNow", desc := "()LMoodFare$Town;" } : Jvm.MethodName)) ∈ lw_all := lw_g (lw_at lw_m4 231 rfl) rfl
theorem q1017 : (Jvm.Cond.code ({ cls := "MoodFare", name := "asNow", desc := "()LMoodFare$Town;" } : Jvm.MethodName) prog_1_method_32_code (1 : Nat) (Option.some (Jvm.ClassFile.FieldType.object "MoodFare$Town"))) ∈ lw_all := lw_g (lw_at lw_m4 232 rfl) rfl
theorem q1018 : (Jvm.Cond.methodLink "MoodFare" (285 : Nat) ({ cls := "MoodFare", name := "cheapestTo", desc := "(I)LMoodFare$Cheapest;" } : Jvm.MethodName)) ∈ lw_all := lw_g (lw_at lw_m4 233 rfl) rfl
theorem q1019 : (Jvm.Cond.privateMethod ({ cls := "MoodFare", name := "cheapestTo", desc := "(I)LMoodFare$Cheapest;" } : Jvm.MethodName)) ∈ lw_tbl := lw_at lw_m4 234 rfl
theorem q1020 : (Jvm.Cond.instanceMethod ({ cls := "MoodFare", name := "cheapestTo", desc := "(I)LMoodFare$Cheapest;" } : Jvm.MethodName)) ∈ lw_all := lw_g (lw_at lw_m4 235 rfl) rfl
theorem q1021 : (Jvm.Cond.code ({ cls := "MoodFare", name := "cheapestTo", desc := "(I)LMoodFare$Cheapest;" } : Jvm.MethodName) prog_1_method_37_code (3 : Nat) (Option.some (Jvm.ClassFile.FieldType.object "MoodFare$Cheapest"))) ∈ lw_all := lw_g (lw_at lw_m4 236 rfl) rfl
theorem q1022 : (Jvm.Cond.classLink "MoodFare" (274 : Nat) "MoodFare$Cheapest") ∈ lw_all := lw_g (lw_at lw_m4 237 rfl) rfl
theorem q1024 : (Jvm.Cond.methodLink "MoodFare" (276 : Nat) ({ cls := "MoodFare$Cheapest", name := "<init>", desc := "(I)V" } : Jvm.MethodName)) ∈ lw_all := lw_g (lw_at lw_m4 239 rfl) rfl
theorem q1031 : (Jvm.Cond.fieldLink "MoodFare" (289 : Nat) "MoodFare$Cheapest" "much" "I") ∈ lw_all := lw_g (lw_at lw_m5 6 rfl) rfl
theorem q1033 : (Jvm.Cond.fieldLink "MoodFare" (291 : Nat) "MoodFare$Cheapest" "many" "I") ∈ lw_all := lw_g (lw_at lw_m5 8 rfl) rfl
theorem q1041 : (Jvm.Cond.methodLink "MoodFare" (270 : Nat) ({ cls := "MoodFare", name := "rowsOf", desc := "(IIILMoodFare$Worth;)V" } : Jvm.MethodName)) ∈ lw_all := lw_g (lw_at lw_m5 16 rfl) rfl
theorem q1042 : (Jvm.Cond.privateMethod ({ cls := "MoodFare", name := "rowsOf", desc := "(IIILMoodFare$Worth;)V" } : Jvm.MethodName)) ∈ lw_tbl := lw_at lw_m5 17 rfl
theorem q1043 : (Jvm.Cond.instanceMethod ({ cls := "MoodFare", name := "rowsOf", desc := "(IIILMoodFare$Worth;)V" } : Jvm.MethodName)) ∈ lw_all := lw_g (lw_at lw_m5 18 rfl) rfl
theorem q1044 : (Jvm.Cond.code ({ cls := "MoodFare", name := "rowsOf", desc := "(IIILMoodFare$Worth;)V" } : Jvm.MethodName) prog_1_method_36_code (6 : Nat) (Option.none : Option Jvm.ClassFile.FieldType)) ∈ lw_all := lw_g (lw_at lw_m5 19 rfl) rfl
theorem q1045 : (Jvm.Cond.interfaceEntry "MoodFare" (257 : Nat)) ∈ lw_tbl := lw_at lw_m5 20 rfl
theorem q1046 : (Jvm.Cond.methodLink "MoodFare" (257 : Nat) ({ cls := "MoodFare$Worth", name := "isBetter", desc := "(LMoodFare$Town;II)Z" } : Jvm.MethodName)) ∈ lw_all := lw_g (lw_at lw_m5 21 rfl) rfl
theorem q1074 : (Jvm.Cond.methodLink "MoodFare" (263 : Nat) ({ cls := "MoodFare", name := "rider", desc := "(I)LMoodFare$Town;" } : Jvm.MethodName)) ∈ lw_all := lw_g (lw_at lw_m5 49 rfl) rfl
theorem q1075 : (Jvm.Cond.privateMethod ({ cls := "MoodFare", name := "rider", desc := "(I)LMoodFare$Town;" } : Jvm.MethodName)) ∈ lw_tbl := lw_at lw_m5 50 rfl
theorem q1076 : (Jvm.Cond.instanceMethod ({ cls := "MoodFare", name := "rider", desc := "(I)LMoodFare$Town;" } : Jvm.MethodName)) ∈ lw_all := lw_g (lw_at lw_m5 51 rfl) rfl
theorem q1077 : (Jvm.Cond.code ({ cls := "MoodFare", name := "rider", desc := "(I)LMoodFare$Town;" } : Jvm.MethodName) prog_1_method_35_code (2 : Nat) (Option.some (Jvm.ClassFile.FieldType.object "MoodFare$Town"))) ∈ lw_all := lw_g (lw_at lw_m5 52 rfl) rfl
theorem q1078 : (Jvm.Cond.methodLink "MoodFare" (267 : Nat) ({ cls := "MoodFare$Town", name := "rideAs", desc := "(LMoodFare$Town;)V" } : Jvm.MethodName)) ∈ lw_all := lw_g (lw_at lw_m5 53 rfl) rfl
theorem q1080 : (Jvm.Cond.instanceMethod ({ cls := "MoodFare", name := "dearest", desc := "(II)I" } : Jvm.MethodName)) ∈ lw_all := lw_g (lw_at lw_m5 55 rfl) rfl
theorem q1081 : (Jvm.Cond.selects "MoodFare" ({ cls := "MoodFare", name := "dearest", desc := "(II)I" } : Jvm.MethodName) ({ cls := "MoodFare", name := "dearest", desc := "(II)I" } : Jvm.MethodName)) ∈ lw_all := lw_g (lw_at lw_m5 56 rfl) rfl
theorem q1082 : (Jvm.Cond.code ({ cls := "MoodFare", name := "dearest", desc := "(II)I" } : Jvm.MethodName) prog_1_method_39_code (4 : Nat) (Option.some Jvm.ClassFile.FieldType.int)) ∈ lw_all := lw_g (lw_at lw_m5 57 rfl) rfl
theorem q1083 : (Jvm.Cond.constantLong "MoodFare" (293 : Nat) (8 : Int64)) ∈ lw_all := lw_g (lw_at lw_m5 58 rfl) rfl
theorem q1084 : (Jvm.Cond.classLink "MoodFare" (295 : Nat) "MoodFare$Dearest") ∈ lw_all := lw_g (lw_at lw_m5 59 rfl) rfl
theorem q1086 : (Jvm.Cond.methodLink "MoodFare" (297 : Nat) ({ cls := "MoodFare$Dearest", name := "<init>", desc := "(I)V" } : Jvm.MethodName)) ∈ lw_all := lw_g (lw_at lw_m5 61 rfl) rfl
theorem q1093 : (Jvm.Cond.fieldLink "MoodFare" (298 : Nat) "MoodFare$Dearest" "much" "I") ∈ lw_all := lw_g (lw_at lw_m5 68 rfl) rfl
theorem q1095 : (Jvm.Cond.fieldLink "MoodFare" (299 : Nat) "MoodFare$Dearest" "where" "I") ∈ lw_all := lw_g (lw_at lw_m5 70 rfl) rfl
theorem q1104 : (Jvm.Cond.instanceMethod ({ cls := "MoodFare", name := "moods", desc := "(II)I" } : Jvm.MethodName)) ∈ lw_all := lw_g (lw_at lw_m5 79 rfl) rfl
theorem q1105 : (Jvm.Cond.selects "MoodFare" ({ cls := "MoodFare", name := "moods", desc := "(II)I" } : Jvm.MethodName) ({ cls := "MoodFare", name := "moods", desc := "(II)I" } : Jvm.MethodName)) ∈ lw_all := lw_g (lw_at lw_m5 80 rfl) rfl
theorem q1106 : (Jvm.Cond.code ({ cls := "MoodFare", name := "moods", desc := "(II)I" } : Jvm.MethodName) prog_1_method_40_code (4 : Nat) (Option.some Jvm.ClassFile.FieldType.int)) ∈ lw_all := lw_g (lw_at lw_m5 81 rfl) rfl
theorem q1107 : (Jvm.Cond.classLink "MoodFare" (302 : Nat) "MoodFare$Moods") ∈ lw_all := lw_g (lw_at lw_m5 82 rfl) rfl
theorem q1109 : (Jvm.Cond.methodLink "MoodFare" (304 : Nat) ({ cls := "MoodFare$Moods", name := "<init>", desc := "(II)V" } : Jvm.MethodName)) ∈ lw_all := lw_g (lw_at lw_m5 84 rfl) rfl
theorem q1116 : (Jvm.Cond.fieldLink "MoodFare" (305 : Nat) "MoodFare$Moods" "set" "I") ∈ lw_all := lw_g (lw_at lw_m5 91 rfl) rfl
theorem q1125 : (Jvm.Cond.instanceMethod ({ cls := "MoodFare", name := "gets", desc := "(II)I" } : Jvm.MethodName)) ∈ lw_all := lw_g (lw_at lw_m5 100 rfl) rfl
theorem q1126 : (Jvm.Cond.selects "MoodFare" ({ cls := "MoodFare", name := "gets", desc := "(II)I" } : Jvm.MethodName) ({ cls := "MoodFare", name := "gets", desc := "(II)I" } : Jvm.MethodName)) ∈ lw_all := lw_g (lw_at lw_m5 101 rfl) rfl
theorem q1127 : (Jvm.Cond.code ({ cls := "MoodFare", name := "gets", desc := "(II)I" } : Jvm.MethodName) prog_1_method_41_code (4 : Nat) (Option.some Jvm.ClassFile.FieldType.int)) ∈ lw_all := lw_g (lw_at lw_m5 102 rfl) rfl
theorem q1128 : (Jvm.Cond.constantLong "MoodFare" (308 : Nat) (-1 : Int64)) ∈ lw_all := lw_g (lw_at lw_m5 103 rfl) rfl
theorem q1129 : (Jvm.Cond.classLink "MoodFare" (310 : Nat) "MoodFare$Soonest") ∈ lw_all := lw_g (lw_at lw_m5 104 rfl) rfl
theorem q1131 : (Jvm.Cond.methodLink "MoodFare" (312 : Nat) ({ cls := "MoodFare$Soonest", name := "<init>", desc := "(I)V" } : Jvm.MethodName)) ∈ lw_all := lw_g (lw_at lw_m5 106 rfl) rfl
theorem q1137 : (Jvm.Cond.fieldLink "MoodFare" (313 : Nat) "MoodFare$Soonest" "many" "I") ∈ lw_all := lw_g (lw_at lw_m5 112 rfl) rfl
theorem q1144 : (Jvm.Cond.instanceMethod ({ cls := "MoodFare", name := "fits", desc := "(IIIIII)I" } : Jvm.MethodName)) ∈ lw_all := lw_g (lw_at lw_m5 119 rfl) rfl
theorem q1145 : (Jvm.Cond.selects "MoodFare" ({ cls := "MoodFare", name := "fits", desc := "(IIIIII)I" } : Jvm.MethodName) ({ cls := "MoodFare", name := "fits", desc := "(IIIIII)I" } : Jvm.MethodName)) ∈ lw_all := lw_g (lw_at lw_m5 120 rfl) rfl
theorem q1146 : (Jvm.Cond.code ({ cls := "MoodFare", name := "fits", desc := "(IIIIII)I" } : Jvm.MethodName) prog_1_method_45_code (7 : Nat) (Option.some Jvm.ClassFile.FieldType.int)) ∈ lw_all := lw_g (lw_at lw_m5 121 rfl) rfl
theorem q1147 : (Jvm.Cond.methodLink "MoodFare" (324 : Nat) ({ cls := "MoodFare", name := "isMany", desc := "(II)Z" } : Jvm.MethodName)) ∈ lw_all := lw_g (lw_at lw_m5 122 rfl) rfl
theorem q1148 : (Jvm.Cond.static ({ cls := "MoodFare", name := "isMany", desc := "(II)Z" } : Jvm.MethodName)) ∈ lw_all := lw_g (lw_at lw_m5 123 rfl) rfl
theorem q1149 : (Jvm.Cond.code ({ cls := "MoodFare", name := "isMany", desc := "(II)Z" } : Jvm.MethodName) prog_1_method_44_code (2 : Nat) (Option.some Jvm.ClassFile.FieldType.boolean)) ∈ lw_all := lw_g (lw_at lw_m5 124 rfl) rfl
theorem q1150 : (Jvm.Cond.classLink "MoodFare" (327 : Nat) "MoodFare$Fits") ∈ lw_all := lw_g (lw_at lw_m5 125 rfl) rfl
theorem q1152 : (Jvm.Cond.methodLink "MoodFare" (329 : Nat) ({ cls := "MoodFare$Fits", name := "<init>", desc := "(LMoodFare;I)V" } : Jvm.MethodName)) ∈ lw_all := lw_g (lw_at lw_m5 127 rfl) rfl
theorem q1163 : (Jvm.Cond.methodLink "MoodFare" (332 : Nat) ({ cls := "MoodFare", name := "told", desc := "(IIIIILMoodFare$Told;)I" } : Jvm.MethodName)) ∈ lw_all := lw_g (lw_at lw_m5 138 rfl) rfl
theorem q1164 : (Jvm.Cond.privateMethod ({ cls := "MoodFare", name := "told", desc := "(IIIIILMoodFare$Told;)I" } : Jvm.MethodName)) ∈ lw_tbl := lw_at lw_m5 139 rfl
theorem q1165 : (Jvm.Cond.instanceMethod ({ cls := "MoodFare", name := "told", desc := "(IIIIILMoodFare$Told;)I" } : Jvm.MethodName)) ∈ lw_all := lw_g (lw_at lw_m5 140 rfl) rfl
theorem q1166 : (Jvm.Cond.codeWith ({ cls := "MoodFare", name := "told", desc := "(IIIIILMoodFare$Told;)I" } : Jvm.MethodName) prog_1_method_43_code (8 : Nat) (Option.some Jvm.ClassFile.FieldType.int) [((0 : Nat), (32 : Nat), (33 : Nat), (116 : Nat)), ((0 : Nat), (32 : Nat), (41 : Nat), (118 : Nat))]) ∈ lw_all := lw_g (lw_at lw_m5 141 rfl) rfl
theorem q1167 : (Jvm.Cond.methodLink "MoodFare" (314 : Nat) ({ cls := "MoodFare", name := "items", desc := "(III)[I" } : Jvm.MethodName)) ∈ lw_all := lw_g (lw_at lw_m5 142 rfl) rfl
theorem q1168 : (Jvm.Cond.privateMethod ({ cls := "MoodFare", name := "items", desc := "(III)[I" } : Jvm.MethodName)) ∈ lw_tbl := lw_at lw_m5 143 rfl
theorem q1169 : (Jvm.Cond.instanceMethod ({ cls := "MoodFare", name := "items", desc := "(III)[I" } : Jvm.MethodName)) ∈ lw_all := lw_g (lw_at lw_m5 144 rfl) rfl
theorem q1170 : (Jvm.Cond.code ({ cls := "MoodFare", name := "items", desc := "(III)[I" } : Jvm.MethodName) prog_1_method_15_code (7 : Nat) (Option.some (Jvm.ClassFile.FieldType.array Jvm.ClassFile.FieldType.int))) ∈ lw_all := lw_g (lw_at lw_m5 145 rfl) rfl
theorem q1171 : (Jvm.Cond.methodLink "MoodFare" (134 : Nat) ({ cls := "java/lang/ArrayIndexOutOfBoundsException", name := "<init>", desc := "()V" } : Jvm.MethodName)) ∈ lw_all := lw_g (lw_at lw_m5 146 rfl) rfl
theorem q1178 : (Jvm.Cond.methodLinkNest "MoodFare" (135 : Nat) ({ cls := "MoodFare$Shelf", name := "at", desc := "(I)I" } : Jvm.MethodName) "MoodFare") ∈ lw_tbl := lw_at lw_m5 153 rfl
theorem q1179 : (Jvm.Cond.interfaceEntry "MoodFare" (318 : Nat)) ∈ lw_tbl := lw_at lw_m5 154 rfl
theorem q1180 : (Jvm.Cond.methodLink "MoodFare" (318 : Nat) ({ cls := "MoodFare$Told", name := "by", desc := "([I[I)I" } : Jvm.MethodName)) ∈ lw_all := lw_g (lw_at lw_m5 155 rfl) rfl
theorem q1191 : (Jvm.Cond.privateMethod ({ cls := "MoodFare", name := "costsSo", desc := "([I[I)Z" } : Jvm.MethodName)) ∈ lw_tbl := lw_at lw_m5 166 rfl
theorem q1192 : (Jvm.Cond.instanceMethod ({ cls := "MoodFare", name := "costsSo", desc := "([I[I)Z" } : Jvm.MethodName)) ∈ lw_all := lw_g (lw_at lw_m5 167 rfl) rfl
theorem q1193 : (Jvm.Cond.code ({ cls := "MoodFare", name := "costsSo", desc := "([I[I)Z" } : Jvm.MethodName) prog_1_method_42_code (4 : Nat) (Option.some Jvm.ClassFile.FieldType.boolean)) ∈ lw_all := lw_g (lw_at lw_m5 168 rfl) rfl
theorem q1227 : (Jvm.Cond.instanceMethod ({ cls := "MoodFare", name := "fitsOf", desc := "(IIIIIII)I" } : Jvm.MethodName)) ∈ lw_all := lw_g (lw_at lw_m5 202 rfl) rfl
theorem q1228 : (Jvm.Cond.selects "MoodFare" ({ cls := "MoodFare", name := "fitsOf", desc := "(IIIIIII)I" } : Jvm.MethodName) ({ cls := "MoodFare", name := "fitsOf", desc := "(IIIIIII)I" } : Jvm.MethodName)) ∈ lw_all := lw_g (lw_at lw_m5 203 rfl) rfl
theorem q1229 : (Jvm.Cond.code ({ cls := "MoodFare", name := "fitsOf", desc := "(IIIIIII)I" } : Jvm.MethodName) prog_1_method_46_code (8 : Nat) (Option.some Jvm.ClassFile.FieldType.int)) ∈ lw_all := lw_g (lw_at lw_m5 204 rfl) rfl
theorem q1230 : (Jvm.Cond.classLink "MoodFare" (336 : Nat) "MoodFare$FitsOf") ∈ lw_all := lw_g (lw_at lw_m5 205 rfl) rfl
theorem q1232 : (Jvm.Cond.methodLink "MoodFare" (338 : Nat) ({ cls := "MoodFare$FitsOf", name := "<init>", desc := "(LMoodFare;II)V" } : Jvm.MethodName)) ∈ lw_all := lw_g (lw_at lw_m5 207 rfl) rfl
theorem q1247 : (Jvm.Cond.instanceMethod ({ cls := "MoodFare", name := "share", desc := "(IIII)I" } : Jvm.MethodName)) ∈ lw_all := lw_g (lw_at lw_m5 222 rfl) rfl
theorem q1248 : (Jvm.Cond.selects "MoodFare" ({ cls := "MoodFare", name := "share", desc := "(IIII)I" } : Jvm.MethodName) ({ cls := "MoodFare", name := "share", desc := "(IIII)I" } : Jvm.MethodName)) ∈ lw_all := lw_g (lw_at lw_m5 223 rfl) rfl
theorem q1249 : (Jvm.Cond.code ({ cls := "MoodFare", name := "share", desc := "(IIII)I" } : Jvm.MethodName) prog_1_method_47_code (5 : Nat) (Option.some Jvm.ClassFile.FieldType.int)) ∈ lw_all := lw_g (lw_at lw_m5 224 rfl) rfl
theorem q1250 : (Jvm.Cond.classLink "MoodFare" (341 : Nat) "MoodFare$Shares") ∈ lw_all := lw_g (lw_at lw_m5 225 rfl) rfl
theorem q1252 : (Jvm.Cond.methodLink "MoodFare" (343 : Nat) ({ cls := "MoodFare$Shares", name := "<init>", desc := "(LMoodFare;I)V" } : Jvm.MethodName)) ∈ lw_all := lw_g (lw_at lw_m5 227 rfl) rfl
theorem q1264 : (Jvm.Cond.instanceMethod ({ cls := "MoodFare", name := "shut", desc := "(IIII)I" } : Jvm.MethodName)) ∈ lw_all := lw_g (lw_at lw_m5 239 rfl) rfl
theorem q1265 : (Jvm.Cond.selects "MoodFare" ({ cls := "MoodFare", name := "shut", desc := "(IIII)I" } : Jvm.MethodName) ({ cls := "MoodFare", name := "shut", desc := "(IIII)I" } : Jvm.MethodName)) ∈ lw_all := lw_g (lw_at lw_m6 0 rfl) rfl
theorem q1266 : (Jvm.Cond.code ({ cls := "MoodFare", name := "shut", desc := "(IIII)I" } : Jvm.MethodName) prog_1_method_49_code (10 : Nat) (Option.some Jvm.ClassFile.FieldType.int)) ∈ lw_all := lw_g (lw_at lw_m6 1 rfl) rfl
theorem q1267 : (Jvm.Cond.constantLong "MoodFare" (344 : Nat) (999 : Int64)) ∈ lw_all := lw_g (lw_at lw_m6 2 rfl) rfl
theorem q1268 : (Jvm.Cond.constantLong "MoodFare" (346 : Nat) (10 : Int64)) ∈ lw_all := lw_g (lw_at lw_m6 3 rfl) rfl
theorem q1269 : (Jvm.Cond.methodLink "MoodFare" (348 : Nat) ({ cls := "MoodFare", name := "common", desc := "(II)I" } : Jvm.MethodName)) ∈ lw_all := lw_g (lw_at lw_m6 4 rfl) rfl
theorem q1270 : (Jvm.Cond.static ({ cls := "MoodFare", name := "common", desc := "(II)I" } : Jvm.MethodName)) ∈ lw_all := lw_g (lw_at lw_m6 5 rfl) rfl
theorem q1271 : (Jvm.Cond.code ({ cls := "MoodFare", name := "common", desc := "(II)I" } : Jvm.MethodName) prog_1_method_48_code (5 : Nat) (Option.some Jvm.ClassFile.FieldType.int)) ∈ lw_all := lw_g (lw_at lw_m6 6 rfl) rfl
theorem q1273 : (Jvm.Cond.instanceMethod ({ cls := "MoodFare", name := "drawn", desc := "(III)I" } : Jvm.MethodName)) ∈ lw_all := lw_g (lw_at lw_m6 8 rfl) rfl
theorem q1274 : (Jvm.Cond.selects "MoodFare" ({ cls := "MoodFare", name := "drawn", desc := "(III)I" } : Jvm.MethodName) ({ cls := "MoodFare", name := "drawn", desc := "(III)I" } : Jvm.MethodName)) ∈ lw_all := lw_g (lw_at lw_m6 9 rfl) rfl
theorem q1275 : (Jvm.Cond.code ({ cls := "MoodFare", name := "drawn", desc := "(III)I" } : Jvm.MethodName) prog_1_method_50_code (11 : Nat) (Option.some Jvm.ClassFile.FieldType.int)) ∈ lw_all := lw_g (lw_at lw_m6 10 rfl) rfl
theorem q1276 : (Jvm.Cond.constantLong "MoodFare" (351 : Nat) (60 : Int64)) ∈ lw_all := lw_g (lw_at lw_m6 11 rfl) rfl
theorem q1277 : (Jvm.Cond.constantLong "MoodFare" (353 : Nat) (999999 : Int64)) ∈ lw_all := lw_g (lw_at lw_m6 12 rfl) rfl
theorem q1278 : (Jvm.Cond.constantLong "MoodFare" (355 : Nat) (16807 : Int64)) ∈ lw_all := lw_g (lw_at lw_m6 13 rfl) rfl
theorem q1279 : (Jvm.Cond.constantLong "MoodFare" (357 : Nat) (2147483647 : Int64)) ∈ lw_all := lw_g (lw_at lw_m6 14 rfl) rfl
theorem q1281 : (Jvm.Cond.instanceMethod ({ cls := "MoodFare", name := "image", desc := "(I)I" } : Jvm.MethodName)) ∈ lw_all := lw_g (lw_at lw_m6 16 rfl) rfl
theorem q1282 : (Jvm.Cond.selects "MoodFare" ({ cls := "MoodFare", name := "image", desc := "(I)I" } : Jvm.MethodName) ({ cls := "MoodFare", name := "image", desc := "(I)I" } : Jvm.MethodName)) ∈ lw_all := lw_g (lw_at lw_m6 17 rfl) rfl
theorem q1283 : (Jvm.Cond.code ({ cls := "MoodFare", name := "image", desc := "(I)I" } : Jvm.MethodName) prog_1_method_51_code (2 : Nat) (Option.some Jvm.ClassFile.FieldType.int)) ∈ lw_all := lw_g (lw_at lw_m6 18 rfl) rfl
theorem q1285 : (Jvm.Cond.instanceMethod ({ cls := "MoodFare", name := "restore", desc := "(I)I" } : Jvm.MethodName)) ∈ lw_all := lw_g (lw_at lw_m6 20 rfl) rfl
theorem q1286 : (Jvm.Cond.selects "MoodFare" ({ cls := "MoodFare", name := "restore", desc := "(I)I" } : Jvm.MethodName) ({ cls := "MoodFare", name := "restore", desc := "(I)I" } : Jvm.MethodName)) ∈ lw_all := lw_g (lw_at lw_m6 21 rfl) rfl
theorem q1287 : (Jvm.Cond.code ({ cls := "MoodFare", name := "restore", desc := "(I)I" } : Jvm.MethodName) prog_1_method_52_code (2 : Nat) (Option.some Jvm.ClassFile.FieldType.int)) ∈ lw_all := lw_g (lw_at lw_m6 22 rfl) rfl
theorem q1289 : (Jvm.Cond.instanceMethod ({ cls := "MoodFare", name := "kind", desc := "(I)I" } : Jvm.MethodName)) ∈ lw_all := lw_g (lw_at lw_m6 24 rfl) rfl
theorem q1290 : (Jvm.Cond.selects "MoodFare" ({ cls := "MoodFare", name := "kind", desc := "(I)I" } : Jvm.MethodName) ({ cls := "MoodFare", name := "kind", desc := "(I)I" } : Jvm.MethodName)) ∈ lw_all := lw_g (lw_at lw_m6 25 rfl) rfl
theorem q1291 : (Jvm.Cond.code ({ cls := "MoodFare", name := "kind", desc := "(I)I" } : Jvm.MethodName) prog_1_method_53_code (2 : Nat) (Option.some Jvm.ClassFile.FieldType.int)) ∈ lw_all := lw_g (lw_at lw_m6 26 rfl) rfl
theorem q1292 : (Jvm.Cond.methodLink "MoodFare" (359 : Nat) ({ cls := "MoodFare$Corner", name := "kind", desc := "()I" } : Jvm.MethodName)) ∈ lw_all := lw_g (lw_at lw_m6 27 rfl) rfl
theorem q1311 : (Jvm.Cond.instanceMethod ({ cls := "MoodFare", name := "as", desc := "(II)I" } : Jvm.MethodName)) ∈ lw_all := lw_g (lw_at lw_m6 46 rfl) rfl
theorem q1312 : (Jvm.Cond.selects "MoodFare" ({ cls := "MoodFare", name := "as", desc := "(II)I" } : Jvm.MethodName) ({ cls := "MoodFare", name := "as", desc := "(II)I" } : Jvm.MethodName)) ∈ lw_all := lw_g (lw_at lw_m6 47 rfl) rfl
theorem q1313 : (Jvm.Cond.codeWith ({ cls := "MoodFare", name := "as", desc := "(II)I" } : Jvm.MethodName) prog_1_method_54_code (4 : Nat) (Option.some Jvm.ClassFile.FieldType.int) [((23 : Nat), (47 : Nat), (48 : Nat), (370 : Nat))]) ∈ lw_all := lw_g (lw_at lw_m6 48 rfl) rfl
theorem q1314 : (Jvm.Cond.classLink "MoodFare" (370 : Nat) "java/lang/ClassCastException") ∈ lw_all := lw_g (lw_at lw_m6 49 rfl) rfl
theorem q1328 : (Jvm.Cond.constantLong "MoodFare" (361 : Nat) (5 : Int64)) ∈ lw_all := lw_g (lw_at lw_m6 63 rfl) rfl
theorem q1329 : (Jvm.Cond.methodLink "MoodFare" (363 : Nat) ({ cls := "MoodFare", name := "taken", desc := "(Ljava/lang/Object;I)LMoodFare$Corner;" } : Jvm.MethodName)) ∈ lw_all := lw_g (lw_at lw_m6 64 rfl) rfl
theorem q1330 : (Jvm.Cond.static ({ cls := "MoodFare", name := "taken", desc := "(Ljava/lang/Object;I)LMoodFare$Corner;" } : Jvm.MethodName)) ∈ lw_all := lw_g (lw_at lw_m6 65 rfl) rfl
theorem q1331 : (Jvm.Cond.code ({ cls := "MoodFare", name := "taken", desc := "(Ljava/lang/Object;I)LMoodFare$Corner;" } : Jvm.MethodName) prog_1_method_4_code (2 : Nat) (Option.some (Jvm.ClassFile.FieldType.object "MoodFare$Corner"))) ∈ lw_all := lw_g (lw_at lw_m6 66 rfl) rfl
theorem q1332 : (Jvm.Cond.methodLink "MoodFare" (367 : Nat) ({ cls := "MoodFare$Corner", name := "number", desc := "()I" } : Jvm.MethodName)) ∈ lw_all := lw_g (lw_at lw_m6 67 rfl) rfl
theorem q1342 : (Jvm.Cond.instanceMethod ({ cls := "MoodFare", name := "ask", desc := "(II)I" } : Jvm.MethodName)) ∈ lw_all := lw_g (lw_at lw_m6 77 rfl) rfl
theorem q1343 : (Jvm.Cond.selects "MoodFare" ({ cls := "MoodFare", name := "ask", desc := "(II)I" } : Jvm.MethodName) ({ cls := "MoodFare", name := "ask", desc := "(II)I" } : Jvm.MethodName)) ∈ lw_all := lw_g (lw_at lw_m6 78 rfl) rfl
theorem q1344 : (Jvm.Cond.code ({ cls := "MoodFare", name := "ask", desc := "(II)I" } : Jvm.MethodName) prog_1_method_55_code (5 : Nat) (Option.some Jvm.ClassFile.FieldType.int)) ∈ lw_all := lw_g (lw_at lw_m6 79 rfl) rfl
theorem q1345 : (Jvm.Cond.classLink "MoodFare" (372 : Nat) "MoodFare$Has") ∈ lw_all := lw_g (lw_at lw_m6 80 rfl) rfl
theorem q1347 : (Jvm.Cond.methodLink "MoodFare" (374 : Nat) ({ cls := "MoodFare$Has", name := "<init>", desc := "(LMoodFare;I)V" } : Jvm.MethodName)) ∈ lw_all := lw_g (lw_at lw_m6 82 rfl) rfl
theorem q1456 : (Jvm.Cond.instanceMethod ({ cls := "MoodFare", name := "trace", desc := "(I)I" } : Jvm.MethodName)) ∈ lw_all := lw_g (lw_at lw_m6 191 rfl) rfl
theorem q1457 : (Jvm.Cond.selects "MoodFare" ({ cls := "MoodFare", name := "trace", desc := "(I)I" } : Jvm.MethodName) ({ cls := "MoodFare", name := "trace", desc := "(I)I" } : Jvm.MethodName)) ∈ lw_all := lw_g (lw_at lw_m6 192 rfl) rfl
theorem q1458 : (Jvm.Cond.code ({ cls := "MoodFare", name := "trace", desc := "(I)I" } : Jvm.MethodName) prog_1_method_56_code (2 : Nat) (Option.some Jvm.ClassFile.FieldType.int)) ∈ lw_all := lw_g (lw_at lw_m6 193 rfl) rfl
theorem q1460 : (Jvm.Cond.instanceMethod ({ cls := "MoodFare", name := "count", desc := "(I)I" } : Jvm.MethodName)) ∈ lw_all := lw_g (lw_at lw_m6 195 rfl) rfl
theorem q1461 : (Jvm.Cond.selects "MoodFare" ({ cls := "MoodFare", name := "count", desc := "(I)I" } : Jvm.MethodName) ({ cls := "MoodFare", name := "count", desc := "(I)I" } : Jvm.MethodName)) ∈ lw_all := lw_g (lw_at lw_m6 196 rfl) rfl
theorem q1462 : (Jvm.Cond.code ({ cls := "MoodFare", name := "count", desc := "(I)I" } : Jvm.MethodName) prog_1_method_57_code (4 : Nat) (Option.some Jvm.ClassFile.FieldType.int)) ∈ lw_all := lw_g (lw_at lw_m6 197 rfl) rfl
theorem q1464 : (Jvm.Cond.instanceMethod ({ cls := "MoodFare", name := "status", desc := "()I" } : Jvm.MethodName)) ∈ lw_all := lw_g (lw_at lw_m6 199 rfl) rfl
theorem q1465 : (Jvm.Cond.selects "MoodFare" ({ cls := "MoodFare", name := "status", desc := "()I" } : Jvm.MethodName) ({ cls := "MoodFare", name := "status", desc := "()I" } : Jvm.MethodName)) ∈ lw_all := lw_g (lw_at lw_m6 200 rfl) rfl
theorem q1466 : (Jvm.Cond.code ({ cls := "MoodFare", name := "status", desc := "()I" } : Jvm.MethodName) prog_1_method_58_code (1 : Nat) (Option.some Jvm.ClassFile.FieldType.int)) ∈ lw_all := lw_g (lw_at lw_m6 201 rfl) rfl
theorem q1900 : (Jvm.Cond.castable "MoodFare" "java/lang/Object") ∈ lw_tbl := lw_at lw_m8 155 rfl
theorem in_X0 : ∀ w ∈ wsX00, w ∈ lw_all := lw_in wsX00 [264, 266, 268, 270, 272, 274, 276, 278, 280, 282, 284, 286, 288, 290] (by decide +kernel) (by decide +kernel)
