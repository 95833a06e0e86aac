/-! MoodFare$Shelf -/
set_option maxRecDepth 100000
def RX1 : String := "MoodFare$Shelf"
def TX1 : u_T := fun k => match k with
  | _ => ("MoodFare$Shelf", "held", "Ljava/lang/Object;", false)
def tyX1 : Nat → FieldType := fun k => match k with
  | _ => .object "java/lang/Object"
abbrev wsX10 : List Cond := u_ws RX1 TX1 1
theorem nmX1 : ∀ a, a < 1 → ∀ b, b < 1 → a ≠ b → (TX1 a).2.1 ≠ (TX1 b).2.1 := by decide +kernel
theorem tyX1_ok : ∀ k, k < 1 → parseFieldDescriptor (TX1 k).2.2.1 = some (tyX1 k) := by decide +kernel
abbrev cX1_init : ByteArray := prog_19_method_1_code
def yX1_init : MethodName := ⟨RX1, "<init>", "()V"⟩
theorem dX1_init_0 : decode cX1_init 0 = .ok (.aload_n 0, 1) := by decide +kernel
theorem dX1_init_1 : decode cX1_init 1 = .ok (.invokespecial 1, 3) := by decide +kernel
theorem dX1_init_4 : decode cX1_init 4 = .ok (.return_, 1) := by decide +kernel
abbrev cX1_put : ByteArray := prog_19_method_4_code
def yX1_put : MethodName := ⟨RX1, "put", "(II)I"⟩
def dkwX1_put_2 : List UInt8 := [42, 180, 0, 7, 192, 0, 17, 27, 28, 79, 42, 27, 182, 0, 19, 172]
abbrev dktX1_put_2 : List UInt8 := dkwX1_put_2 ++ []
def dkwX1_put_1 : List UInt8 := [42, 180, 0, 7, 193, 0, 15, 153, 0, 17, 42, 180, 0, 7, 192, 0, 15, 27, 28, 147, 86, 167, 0, 13]
abbrev dktX1_put_1 : List UInt8 := dkwX1_put_1 ++ dktX1_put_2
def dkwX1_put_0 : List UInt8 := [42, 180, 0, 7, 193, 0, 13, 153, 0, 17, 42, 180, 0, 7, 192, 0, 13, 27, 28, 145, 84, 167, 0, 37]
abbrev dktX1_put_0 : List UInt8 := dkwX1_put_0 ++ dktX1_put_1
theorem dksX1_put_0 : cX1_put.data.toList.drop 0 = dktX1_put_0 := by decide +kernel
theorem dksX1_put_1 : cX1_put.data.toList.drop 24 = dktX1_put_1 := dk_seg dksX1_put_0 24 rfl rfl
theorem dksX1_put_2 : cX1_put.data.toList.drop 48 = dktX1_put_2 := dk_seg dksX1_put_1 24 rfl rfl
theorem dX1_put_0 : decode cX1_put 0 = .ok (.aload_n 0, 1) := dk_42 (dk_at dksX1_put_0 0 rfl rfl)
theorem dX1_put_1 : decode cX1_put 1 = .ok (.getfield 7, 3) := dk_180 0 7 (dk_at dksX1_put_0 1 rfl rfl)
theorem dX1_put_4 : decode cX1_put 4 = .ok (.instanceof 13, 3) := dk_193 0 13 (dk_at dksX1_put_0 4 rfl rfl)
theorem dX1_put_7 : decode cX1_put 7 = .ok (.ifCond .eq 17, 3) := dk_153 0 17 (dk_at dksX1_put_0 7 rfl rfl)
theorem dX1_put_10 : decode cX1_put 10 = .ok (.aload_n 0, 1) := dk_42 (dk_at dksX1_put_0 10 rfl rfl)
theorem dX1_put_11 : decode cX1_put 11 = .ok (.getfield 7, 3) := dk_180 0 7 (dk_at dksX1_put_0 11 rfl rfl)
theorem dX1_put_14 : decode cX1_put 14 = .ok (.checkcast 13, 3) := dk_192 0 13 (dk_at dksX1_put_0 14 rfl rfl)
theorem dX1_put_17 : decode cX1_put 17 = .ok (.iload_n 1, 1) := dk_27 (dk_at dksX1_put_0 17 rfl rfl)
theorem dX1_put_18 : decode cX1_put 18 = .ok (.iload_n 2, 1) := dk_28 (dk_at dksX1_put_0 18 rfl rfl)
theorem dX1_put_19 : decode cX1_put 19 = .ok (.i2b, 1) := dk_145 (dk_at dksX1_put_0 19 rfl rfl)
theorem dX1_put_20 : decode cX1_put 20 = .ok (.bastore, 1) := dk_84 (dk_at dksX1_put_0 20 rfl rfl)
theorem dX1_put_21 : decode cX1_put 21 = .ok (.goto 37, 3) := dk_167 0 37 (dk_at dksX1_put_0 21 rfl rfl)
theorem dX1_put_24 : decode cX1_put 24 = .ok (.aload_n 0, 1) := dk_42 (dk_at dksX1_put_1 0 rfl rfl)
theorem dX1_put_25 : decode cX1_put 25 = .ok (.getfield 7, 3) := dk_180 0 7 (dk_at dksX1_put_1 1 rfl rfl)
theorem dX1_put_28 : decode cX1_put 28 = .ok (.instanceof 15, 3) := dk_193 0 15 (dk_at dksX1_put_1 4 rfl rfl)
theorem dX1_put_31 : decode cX1_put 31 = .ok (.ifCond .eq 17, 3) := dk_153 0 17 (dk_at dksX1_put_1 7 rfl rfl)
theorem dX1_put_34 : decode cX1_put 34 = .ok (.aload_n 0, 1) := dk_42 (dk_at dksX1_put_1 10 rfl rfl)
theorem dX1_put_35 : decode cX1_put 35 = .ok (.getfield 7, 3) := dk_180 0 7 (dk_at dksX1_put_1 11 rfl rfl)
theorem dX1_put_38 : decode cX1_put 38 = .ok (.checkcast 15, 3) := dk_192 0 15 (dk_at dksX1_put_1 14 rfl rfl)
theorem dX1_put_41 : decode cX1_put 41 = .ok (.iload_n 1, 1) := dk_27 (dk_at dksX1_put_1 17 rfl rfl)
theorem dX1_put_42 : decode cX1_put 42 = .ok (.iload_n 2, 1) := dk_28 (dk_at dksX1_put_1 18 rfl rfl)
theorem dX1_put_43 : decode cX1_put 43 = .ok (.i2s, 1) := dk_147 (dk_at dksX1_put_1 19 rfl rfl)
theorem dX1_put_44 : decode cX1_put 44 = .ok (.sastore, 1) := dk_86 (dk_at dksX1_put_1 20 rfl rfl)
theorem dX1_put_45 : decode cX1_put 45 = .ok (.goto 13, 3) := dk_167 0 13 (dk_at dksX1_put_1 21 rfl rfl)
theorem dX1_put_48 : decode cX1_put 48 = .ok (.aload_n 0, 1) := dk_42 (dk_at dksX1_put_2 0 rfl rfl)
theorem dX1_put_49 : decode cX1_put 49 = .ok (.getfield 7, 3) := dk_180 0 7 (dk_at dksX1_put_2 1 rfl rfl)
theorem dX1_put_52 : decode cX1_put 52 = .ok (.checkcast 17, 3) := dk_192 0 17 (dk_at dksX1_put_2 4 rfl rfl)
theorem dX1_put_55 : decode cX1_put 55 = .ok (.iload_n 1, 1) := dk_27 (dk_at dksX1_put_2 7 rfl rfl)
theorem dX1_put_56 : decode cX1_put 56 = .ok (.iload_n 2, 1) := dk_28 (dk_at dksX1_put_2 8 rfl rfl)
theorem dX1_put_57 : decode cX1_put 57 = .ok (.iastore, 1) := dk_79 (dk_at dksX1_put_2 9 rfl rfl)
theorem dX1_put_58 : decode cX1_put 58 = .ok (.aload_n 0, 1) := dk_42 (dk_at dksX1_put_2 10 rfl rfl)
theorem dX1_put_59 : decode cX1_put 59 = .ok (.iload_n 1, 1) := dk_27 (dk_at dksX1_put_2 11 rfl rfl)
theorem dX1_put_60 : decode cX1_put 60 = .ok (.invokevirtual 19, 3) := dk_182 0 19 (dk_at dksX1_put_2 12 rfl rfl)
theorem dX1_put_63 : decode cX1_put 63 = .ok (.ireturn, 1) := dk_172 (dk_at dksX1_put_2 15 rfl rfl)
abbrev cX1_at : ByteArray := prog_19_method_3_code
def yX1_at : MethodName := ⟨RX1, "at", "(I)I"⟩
def dkwX1_at_2 : List UInt8 := [46, 172]
abbrev dktX1_at_2 : List UInt8 := dkwX1_at_2 ++ []
def dkwX1_at_1 : List UInt8 := [193, 0, 15, 153, 0, 13, 42, 180, 0, 7, 192, 0, 15, 27, 53, 172, 42, 180, 0, 7, 192, 0, 17, 27]
abbrev dktX1_at_1 : List UInt8 := dkwX1_at_1 ++ dktX1_at_2
def dkwX1_at_0 : List UInt8 := [42, 180, 0, 7, 193, 0, 13, 153, 0, 13, 42, 180, 0, 7, 192, 0, 13, 27, 51, 172, 42, 180, 0, 7]
abbrev dktX1_at_0 : List UInt8 := dkwX1_at_0 ++ dktX1_at_1
theorem dksX1_at_0 : cX1_at.data.toList.drop 0 = dktX1_at_0 := by decide +kernel
theorem dksX1_at_1 : cX1_at.data.toList.drop 24 = dktX1_at_1 := dk_seg dksX1_at_0 24 rfl rfl
theorem dksX1_at_2 : cX1_at.data.toList.drop 48 = dktX1_at_2 := dk_seg dksX1_at_1 24 rfl rfl
theorem dX1_at_0 : decode cX1_at 0 = .ok (.aload_n 0, 1) := dk_42 (dk_at dksX1_at_0 0 rfl rfl)
theorem dX1_at_1 : decode cX1_at 1 = .ok (.getfield 7, 3) := dk_180 0 7 (dk_at dksX1_at_0 1 rfl rfl)
theorem dX1_at_4 : decode cX1_at 4 = .ok (.instanceof 13, 3) := dk_193 0 13 (dk_at dksX1_at_0 4 rfl rfl)
theorem dX1_at_7 : decode cX1_at 7 = .ok (.ifCond .eq 13, 3) := dk_153 0 13 (dk_at dksX1_at_0 7 rfl rfl)
theorem dX1_at_10 : decode cX1_at 10 = .ok (.aload_n 0, 1) := dk_42 (dk_at dksX1_at_0 10 rfl rfl)
theorem dX1_at_11 : decode cX1_at 11 = .ok (.getfield 7, 3) := dk_180 0 7 (dk_at dksX1_at_0 11 rfl rfl)
theorem dX1_at_14 : decode cX1_at 14 = .ok (.checkcast 13, 3) := dk_192 0 13 (dk_at dksX1_at_0 14 rfl rfl)
theorem dX1_at_17 : decode cX1_at 17 = .ok (.iload_n 1, 1) := dk_27 (dk_at dksX1_at_0 17 rfl rfl)
theorem dX1_at_18 : decode cX1_at 18 = .ok (.baload, 1) := dk_51 (dk_at dksX1_at_0 18 rfl rfl)
theorem dX1_at_19 : decode cX1_at 19 = .ok (.ireturn, 1) := dk_172 (dk_at dksX1_at_0 19 rfl rfl)
theorem dX1_at_20 : decode cX1_at 20 = .ok (.aload_n 0, 1) := dk_42 (dk_at dksX1_at_0 20 rfl rfl)
theorem dX1_at_21 : decode cX1_at 21 = .ok (.getfield 7, 3) := dk_180 0 7 (dk_at dksX1_at_0 21 rfl rfl)
theorem dX1_at_24 : decode cX1_at 24 = .ok (.instanceof 15, 3) := dk_193 0 15 (dk_at dksX1_at_1 0 rfl rfl)
theorem dX1_at_27 : decode cX1_at 27 = .ok (.ifCond .eq 13, 3) := dk_153 0 13 (dk_at dksX1_at_1 3 rfl rfl)
theorem dX1_at_30 : decode cX1_at 30 = .ok (.aload_n 0, 1) := dk_42 (dk_at dksX1_at_1 6 rfl rfl)
theorem dX1_at_31 : decode cX1_at 31 = .ok (.getfield 7, 3) := dk_180 0 7 (dk_at dksX1_at_1 7 rfl rfl)
theorem dX1_at_34 : decode cX1_at 34 = .ok (.checkcast 15, 3) := dk_192 0 15 (dk_at dksX1_at_1 10 rfl rfl)
theorem dX1_at_37 : decode cX1_at 37 = .ok (.iload_n 1, 1) := dk_27 (dk_at dksX1_at_1 13 rfl rfl)
theorem dX1_at_38 : decode cX1_at 38 = .ok (.saload, 1) := dk_53 (dk_at dksX1_at_1 14 rfl rfl)
theorem dX1_at_39 : decode cX1_at 39 = .ok (.ireturn, 1) := dk_172 (dk_at dksX1_at_1 15 rfl rfl)
theorem dX1_at_40 : decode cX1_at 40 = .ok (.aload_n 0, 1) := dk_42 (dk_at dksX1_at_1 16 rfl rfl)
theorem dX1_at_41 : decode cX1_at 41 = .ok (.getfield 7, 3) := dk_180 0 7 (dk_at dksX1_at_1 17 rfl rfl)
theorem dX1_at_44 : decode cX1_at 44 = .ok (.checkcast 17, 3) := dk_192 0 17 (dk_at dksX1_at_1 20 rfl rfl)
theorem dX1_at_47 : decode cX1_at 47 = .ok (.iload_n 1, 1) := dk_27 (dk_at dksX1_at_1 23 rfl rfl)
theorem dX1_at_48 : decode cX1_at 48 = .ok (.iaload, 1) := dk_46 (dk_at dksX1_at_2 0 rfl rfl)
theorem dX1_at_49 : decode cX1_at 49 = .ok (.ireturn, 1) := dk_172 (dk_at dksX1_at_2 1 rfl rfl)
abbrev cX1_many : ByteArray := prog_19_method_2_code
def yX1_many : MethodName := ⟨RX1, "many", "()I"⟩
def dkwX1_many_1 : List UInt8 := [193, 0, 15, 153, 0, 12, 42, 180, 0, 7, 192, 0, 15, 190, 172, 42, 180, 0, 7, 192, 0, 17, 190, 172]
abbrev dktX1_many_1 : List UInt8 := dkwX1_many_1 ++ []
def dkwX1_many_0 : List UInt8 := [42, 180, 0, 7, 193, 0, 13, 153, 0, 12, 42, 180, 0, 7, 192, 0, 13, 190, 172, 42, 180, 0, 7]
abbrev dktX1_many_0 : List UInt8 := dkwX1_many_0 ++ dktX1_many_1
theorem dksX1_many_0 : cX1_many.data.toList.drop 0 = dktX1_many_0 := by decide +kernel
theorem dksX1_many_1 : cX1_many.data.toList.drop 23 = dktX1_many_1 := dk_seg dksX1_many_0 23 rfl rfl
theorem dX1_many_0 : decode cX1_many 0 = .ok (.aload_n 0, 1) := dk_42 (dk_at dksX1_many_0 0 rfl rfl)
theorem dX1_many_1 : decode cX1_many 1 = .ok (.getfield 7, 3) := dk_180 0 7 (dk_at dksX1_many_0 1 rfl rfl)
theorem dX1_many_4 : decode cX1_many 4 = .ok (.instanceof 13, 3) := dk_193 0 13 (dk_at dksX1_many_0 4 rfl rfl)
theorem dX1_many_7 : decode cX1_many 7 = .ok (.ifCond .eq 12, 3) := dk_153 0 12 (dk_at dksX1_many_0 7 rfl rfl)
theorem dX1_many_10 : decode cX1_many 10 = .ok (.aload_n 0, 1) := dk_42 (dk_at dksX1_many_0 10 rfl rfl)
theorem dX1_many_11 : decode cX1_many 11 = .ok (.getfield 7, 3) := dk_180 0 7 (dk_at dksX1_many_0 11 rfl rfl)
theorem dX1_many_14 : decode cX1_many 14 = .ok (.checkcast 13, 3) := dk_192 0 13 (dk_at dksX1_many_0 14 rfl rfl)
theorem dX1_many_17 : decode cX1_many 17 = .ok (.arraylength, 1) := dk_190 (dk_at dksX1_many_0 17 rfl rfl)
theorem dX1_many_18 : decode cX1_many 18 = .ok (.ireturn, 1) := dk_172 (dk_at dksX1_many_0 18 rfl rfl)
theorem dX1_many_19 : decode cX1_many 19 = .ok (.aload_n 0, 1) := dk_42 (dk_at dksX1_many_0 19 rfl rfl)
theorem dX1_many_20 : decode cX1_many 20 = .ok (.getfield 7, 3) := dk_180 0 7 (dk_at dksX1_many_0 20 rfl rfl)
theorem dX1_many_23 : decode cX1_many 23 = .ok (.instanceof 15, 3) := dk_193 0 15 (dk_at dksX1_many_1 0 rfl rfl)
theorem dX1_many_26 : decode cX1_many 26 = .ok (.ifCond .eq 12, 3) := dk_153 0 12 (dk_at dksX1_many_1 3 rfl rfl)
theorem dX1_many_29 : decode cX1_many 29 = .ok (.aload_n 0, 1) := dk_42 (dk_at dksX1_many_1 6 rfl rfl)
theorem dX1_many_30 : decode cX1_many 30 = .ok (.getfield 7, 3) := dk_180 0 7 (dk_at dksX1_many_1 7 rfl rfl)
theorem dX1_many_33 : decode cX1_many 33 = .ok (.checkcast 15, 3) := dk_192 0 15 (dk_at dksX1_many_1 10 rfl rfl)
theorem dX1_many_36 : decode cX1_many 36 = .ok (.arraylength, 1) := dk_190 (dk_at dksX1_many_1 13 rfl rfl)
theorem dX1_many_37 : decode cX1_many 37 = .ok (.ireturn, 1) := dk_172 (dk_at dksX1_many_1 14 rfl rfl)
theorem dX1_many_38 : decode cX1_many 38 = .ok (.aload_n 0, 1) := dk_42 (dk_at dksX1_many_1 15 rfl rfl)
theorem dX1_many_39 : decode cX1_many 39 = .ok (.getfield 7, 3) := dk_180 0 7 (dk_at dksX1_many_1 16 rfl rfl)
theorem dX1_many_42 : decode cX1_many 42 = .ok (.checkcast 17, 3) := dk_192 0 17 (dk_at dksX1_many_1 19 rfl rfl)
theorem dX1_many_45 : decode cX1_many 45 = .ok (.arraylength, 1) := dk_190 (dk_at dksX1_many_1 22 rfl rfl)
theorem dX1_many_46 : decode cX1_many 46 = .ok (.ireturn, 1) := dk_172 (dk_at dksX1_many_1 23 rfl rfl)
theorem q67 : (Jvm.Cond.initialized "MoodFare$Shelf") ∈ lw_all := lw_g (lw_at lw_m1 2 rfl) rfl
theorem q122 : (Jvm.Cond.instantiable "MoodFare$Shelf" (1 : Nat)) ∈ lw_all := lw_g (lw_at lw_m1 57 rfl) rfl
theorem q124 : (Jvm.Cond.instanceMethod ({ cls := "MoodFare$Shelf", name := "<init>", desc := "()V" } : Jvm.MethodName)) ∈ lw_all := lw_g (lw_at lw_m1 59 rfl) rfl
theorem q125 : (Jvm.Cond.code ({ cls := "MoodFare$Shelf", name := "<init>", desc := "()V" } : Jvm.MethodName) prog_19_method_1_code (1 : Nat) (Option.none : Option Jvm.ClassFile.FieldType)) ∈ lw_all := lw_g (lw_at lw_m1 60 rfl) rfl
theorem q126 : (Jvm.Cond.methodLink "MoodFare$Shelf" (1 : Nat) ({ cls := "java/lang/Object", name := "<init>", desc := "()V" } : Jvm.MethodName)) ∈ lw_all := lw_g (lw_at lw_m1 61 rfl) rfl
theorem q127 : (Jvm.Cond.fieldLink "MoodFare$Shelf" (7 : Nat) "MoodFare$Shelf" "held" "Ljava/lang/Object;") ∈ lw_all := lw_g (lw_at lw_m1 62 rfl) rfl
theorem q129 : (Jvm.Cond.lays "MoodFare$Shelf" "MoodFare$Shelf" "held" "Ljava/lang/Object;") ∈ lw_all := lw_g (lw_at lw_m1 64 rfl) rfl
theorem q130 : (Jvm.Cond.soleField "MoodFare$Shelf" "held") ∈ lw_all := lw_g (lw_at lw_m1 65 rfl) rfl
theorem q131 : (Jvm.Cond.superclass "MoodFare$Shelf" "java/lang/Object") ∈ lw_all := lw_g (lw_at lw_m1 66 rfl) rfl
theorem q454 : (Jvm.Cond.privateMethod ({ cls := "MoodFare$Shelf", name := "put", desc := "(II)I" } : Jvm.MethodName)) ∈ lw_tbl := lw_at lw_m2 149 rfl
theorem q455 : (Jvm.Cond.instanceMethod ({ cls := "MoodFare$Shelf", name := "put", desc := "(II)I" } : Jvm.MethodName)) ∈ lw_all := lw_g (lw_at lw_m2 150 rfl) rfl
theorem q456 : (Jvm.Cond.code ({ cls := "MoodFare$Shelf", name := "put", desc := "(II)I" } : Jvm.MethodName) prog_19_method_4_code (3 : Nat) (Option.some Jvm.ClassFile.FieldType.int)) ∈ lw_all := lw_g (lw_at lw_m2 151 rfl) rfl
theorem q457 : (Jvm.Cond.classLink "MoodFare$Shelf" (13 : Nat) "[B") ∈ lw_all := lw_g (lw_at lw_m2 152 rfl) rfl
theorem q458 : (Jvm.Cond.classLink "MoodFare$Shelf" (15 : Nat) "[S") ∈ lw_all := lw_g (lw_at lw_m2 153 rfl) rfl
theorem q459 : (Jvm.Cond.classLink "MoodFare$Shelf" (17 : Nat) "[I") ∈ lw_all := lw_g (lw_at lw_m2 154 rfl) rfl
theorem q460 : (Jvm.Cond.methodLink "MoodFare$Shelf" (19 : Nat) ({ cls := "MoodFare$Shelf", name := "at", desc := "(I)I" } : Jvm.MethodName)) ∈ lw_all := lw_g (lw_at lw_m2 155 rfl) rfl
theorem q461 : (Jvm.Cond.privateMethod ({ cls := "MoodFare$Shelf", name := "at", desc := "(I)I" } : Jvm.MethodName)) ∈ lw_tbl := lw_at lw_m2 156 rfl
theorem q462 : (Jvm.Cond.instanceMethod ({ cls := "MoodFare$Shelf", name := "at", desc := "(I)I" } : Jvm.MethodName)) ∈ lw_all := lw_g (lw_at lw_m2 157 rfl) rfl
theorem q463 : (Jvm.Cond.code ({ cls := "MoodFare$Shelf", name := "at", desc := "(I)I" } : Jvm.MethodName) prog_19_method_3_code (2 : Nat) (Option.some Jvm.ClassFile.FieldType.int)) ∈ lw_all := lw_g (lw_at lw_m2 158 rfl) rfl
theorem q491 : (Jvm.Cond.privateMethod ({ cls := "MoodFare$Shelf", name := "many", desc := "()I" } : Jvm.MethodName)) ∈ lw_tbl := lw_at lw_m2 186 rfl
theorem q492 : (Jvm.Cond.instanceMethod ({ cls := "MoodFare$Shelf", name := "many", desc := "()I" } : Jvm.MethodName)) ∈ lw_all := lw_g (lw_at lw_m2 187 rfl) rfl
theorem q493 : (Jvm.Cond.code ({ cls := "MoodFare$Shelf", name := "many", desc := "()I" } : Jvm.MethodName) prog_19_method_2_code (1 : Nat) (Option.some Jvm.ClassFile.FieldType.int)) ∈ lw_all := lw_g (lw_at lw_m2 188 rfl) rfl
theorem q808 : (Jvm.Cond.selects "MoodFare$Shelf" ({ cls := "java/lang/Object", name := "getClass", desc := "()Ljava/lang/Class;" } : Jvm.MethodName) ({ cls := "java/lang/Object", name := "getClass", desc := "()Ljava/lang/Class;" } : Jvm.MethodName)) ∈ lw_all := lw_g (lw_at lw_m4 23 rfl) rfl
theorem q1898 : (Jvm.Cond.castable "MoodFare$Shelf" "java/lang/Object") ∈ lw_tbl := lw_at lw_m8 153 rfl
theorem in_X1 : ∀ w ∈ wsX10, w ∈ lw_all := lw_in wsX10 [129] (by decide +kernel) (by decide +kernel)

/-! MoodFare$Town -/
set_option maxRecDepth 100000
def RX2 : String := "MoodFare$Town"
def TX2 : u_T := fun k => match k with
  | 0 => ("MoodFare$Town", "rate", "I", false)
  | 1 => ("MoodFare$Town", "mood", "I", false)
  | 2 => ("MoodFare$Town", "at", "I", false)
  | 3 => ("MoodFare$Town", "meter", "I", false)
  | 4 => ("MoodFare$Town", "step", "I", false)
  | 5 => ("MoodFare$Town", "corners", "Ljava/util/List;", true)
  | 6 => ("MoodFare$Town", "much", "[I", true)
  | 7 => ("MoodFare$Town", "streets", "I", false)
  | 8 => ("MoodFare$Town", "from", "[I", true)
  | 9 => ("MoodFare$Town", "to", "[I", true)
  | _ => ("MoodFare$Town", "open", "I", false)
def tyX2 : Nat → FieldType := fun k => match k with
  | 0 => .int
  | 1 => .int
  | 2 => .int
  | 3 => .int
  | 4 => .int
  | 5 => .object "java/util/List"
  | 6 => .array .int
  | 7 => .int
  | 8 => .array .int
  | 9 => .array .int
  | _ => .int
abbrev wsX20 : List Cond := u_ws RX2 TX2 11
theorem nmX2 : ∀ a, a < 11 → ∀ b, b < 11 → a ≠ b → (TX2 a).2.1 ≠ (TX2 b).2.1 := by decide +kernel
theorem tyX2_ok : ∀ k, k < 11 → parseFieldDescriptor (TX2 k).2.2.1 = some (tyX2 k) := by decide +kernel
abbrev cX2_init : ByteArray := prog_22_method_1_code
def yX2_init : MethodName := ⟨RX2, "<init>", "()V"⟩
def dkwX2_init_1 : List UInt8 := [16, 8, 188, 10, 181, 0, 22, 42, 16, 8, 188, 10, 181, 0, 25, 177]
abbrev dktX2_init_1 : List UInt8 := dkwX2_init_1 ++ []
def dkwX2_init_0 : List UInt8 := [42, 183, 0, 3, 42, 187, 0, 9, 89, 183, 0, 11, 181, 0, 12, 42, 16, 6, 188, 10, 181, 0, 18, 42]
abbrev dktX2_init_0 : List UInt8 := dkwX2_init_0 ++ dktX2_init_1
theorem dksX2_init_0 : cX2_init.data.toList.drop 0 = dktX2_init_0 := by decide +kernel
theorem dksX2_init_1 : cX2_init.data.toList.drop 24 = dktX2_init_1 := dk_seg dksX2_init_0 24 rfl rfl
theorem dX2_init_0 : decode cX2_init 0 = .ok (.aload_n 0, 1) := dk_42 (dk_at dksX2_init_0 0 rfl rfl)
theorem dX2_init_1 : decode cX2_init 1 = .ok (.invokespecial 3, 3) := dk_183 0 3 (dk_at dksX2_init_0 1 rfl rfl)
theorem dX2_init_4 : decode cX2_init 4 = .ok (.aload_n 0, 1) := dk_42 (dk_at dksX2_init_0 4 rfl rfl)
theorem dX2_init_5 : decode cX2_init 5 = .ok (.new 9, 3) := dk_187 0 9 (dk_at dksX2_init_0 5 rfl rfl)
theorem dX2_init_8 : decode cX2_init 8 = .ok (.dup, 1) := dk_89 (dk_at dksX2_init_0 8 rfl rfl)
theorem dX2_init_9 : decode cX2_init 9 = .ok (.invokespecial 11, 3) := dk_183 0 11 (dk_at dksX2_init_0 9 rfl rfl)
theorem dX2_init_12 : decode cX2_init 12 = .ok (.putfield 12, 3) := dk_181 0 12 (dk_at dksX2_init_0 12 rfl rfl)
theorem dX2_init_15 : decode cX2_init 15 = .ok (.aload_n 0, 1) := dk_42 (dk_at dksX2_init_0 15 rfl rfl)
theorem dX2_init_16 : decode cX2_init 16 = .ok (.bipush 6, 2) := dk_16 6 (dk_at dksX2_init_0 16 rfl rfl)
theorem dX2_init_18 : decode cX2_init 18 = .ok (.newarray .int, 2) := dk_188_10 (dk_at dksX2_init_0 18 rfl rfl)
theorem dX2_init_20 : decode cX2_init 20 = .ok (.putfield 18, 3) := dk_181 0 18 (dk_at dksX2_init_0 20 rfl rfl)
theorem dX2_init_23 : decode cX2_init 23 = .ok (.aload_n 0, 1) := dk_42 (dk_at dksX2_init_0 23 rfl rfl)
theorem dX2_init_24 : decode cX2_init 24 = .ok (.bipush 8, 2) := dk_16 8 (dk_at dksX2_init_1 0 rfl rfl)
theorem dX2_init_26 : decode cX2_init 26 = .ok (.newarray .int, 2) := dk_188_10 (dk_at dksX2_init_1 2 rfl rfl)
theorem dX2_init_28 : decode cX2_init 28 = .ok (.putfield 22, 3) := dk_181 0 22 (dk_at dksX2_init_1 4 rfl rfl)
theorem dX2_init_31 : decode cX2_init 31 = .ok (.aload_n 0, 1) := dk_42 (dk_at dksX2_init_1 7 rfl rfl)
theorem dX2_init_32 : decode cX2_init 32 = .ok (.bipush 8, 2) := dk_16 8 (dk_at dksX2_init_1 8 rfl rfl)
theorem dX2_init_34 : decode cX2_init 34 = .ok (.newarray .int, 2) := dk_188_10 (dk_at dksX2_init_1 10 rfl rfl)
theorem dX2_init_36 : decode cX2_init 36 = .ok (.putfield 25, 3) := dk_181 0 25 (dk_at dksX2_init_1 12 rfl rfl)
theorem dX2_init_39 : decode cX2_init 39 = .ok (.return_, 1) := dk_177 (dk_at dksX2_init_1 15 rfl rfl)
abbrev cX2_many : ByteArray := prog_22_method_4_code
def yX2_many : MethodName := ⟨RX2, "many", "()I"⟩
def dkwX2_many_0 : List UInt8 := [42, 180, 0, 12, 185, 0, 46, 1, 0, 172]
abbrev dktX2_many_0 : List UInt8 := dkwX2_many_0 ++ []
theorem dksX2_many_0 : cX2_many.data.toList.drop 0 = dktX2_many_0 := by decide +kernel
theorem dX2_many_0 : decode cX2_many 0 = .ok (.aload_n 0, 1) := dk_42 (dk_at dksX2_many_0 0 rfl rfl)
theorem dX2_many_1 : decode cX2_many 1 = .ok (.getfield 12, 3) := dk_180 0 12 (dk_at dksX2_many_0 1 rfl rfl)
theorem dX2_many_4 : decode cX2_many 4 = .ok (.invokeinterface 46 1, 5) := by decide +kernel
theorem dX2_many_9 : decode cX2_many 9 = .ok (.ireturn, 1) := dk_172 (dk_at dksX2_many_0 9 rfl rfl)
abbrev cX2_hasStreet : ByteArray := prog_22_method_9_code
def yX2_hasStreet : MethodName := ⟨RX2, "hasStreet", "(II)Z"⟩
def dkwX2_hasStreet_1 : List UInt8 := [29, 46, 28, 160, 0, 5, 4, 172, 132, 3, 1, 167, 255, 223, 3, 172]
abbrev dktX2_hasStreet_1 : List UInt8 := dkwX2_hasStreet_1 ++ []
def dkwX2_hasStreet_0 : List UInt8 := [3, 62, 29, 42, 180, 0, 32, 162, 0, 31, 42, 180, 0, 22, 29, 46, 27, 160, 0, 15, 42, 180, 0, 25]
abbrev dktX2_hasStreet_0 : List UInt8 := dkwX2_hasStreet_0 ++ dktX2_hasStreet_1
theorem dksX2_hasStreet_0 : cX2_hasStreet.data.toList.drop 0 = dktX2_hasStreet_0 := by decide +kernel
theorem dksX2_hasStreet_1 : cX2_hasStreet.data.toList.drop 24 = dktX2_hasStreet_1 := dk_seg dksX2_hasStreet_0 24 rfl rfl
theorem dX2_hasStreet_0 : decode cX2_hasStreet 0 = .ok (.iconst 0, 1) := dk_3 (dk_at dksX2_hasStreet_0 0 rfl rfl)
theorem dX2_hasStreet_1 : decode cX2_hasStreet 1 = .ok (.istore_n 3, 1) := dk_62 (dk_at dksX2_hasStreet_0 1 rfl rfl)
theorem dX2_hasStreet_2 : decode cX2_hasStreet 2 = .ok (.iload_n 3, 1) := dk_29 (dk_at dksX2_hasStreet_0 2 rfl rfl)
theorem dX2_hasStreet_3 : decode cX2_hasStreet 3 = .ok (.aload_n 0, 1) := dk_42 (dk_at dksX2_hasStreet_0 3 rfl rfl)
theorem dX2_hasStreet_4 : decode cX2_hasStreet 4 = .ok (.getfield 32, 3) := dk_180 0 32 (dk_at dksX2_hasStreet_0 4 rfl rfl)
theorem dX2_hasStreet_7 : decode cX2_hasStreet 7 = .ok (.if_icmp .ge 31, 3) := dk_162 0 31 (dk_at dksX2_hasStreet_0 7 rfl rfl)
theorem dX2_hasStreet_10 : decode cX2_hasStreet 10 = .ok (.aload_n 0, 1) := dk_42 (dk_at dksX2_hasStreet_0 10 rfl rfl)
theorem dX2_hasStreet_11 : decode cX2_hasStreet 11 = .ok (.getfield 22, 3) := dk_180 0 22 (dk_at dksX2_hasStreet_0 11 rfl rfl)
theorem dX2_hasStreet_14 : decode cX2_hasStreet 14 = .ok (.iload_n 3, 1) := dk_29 (dk_at dksX2_hasStreet_0 14 rfl rfl)
theorem dX2_hasStreet_15 : decode cX2_hasStreet 15 = .ok (.iaload, 1) := dk_46 (dk_at dksX2_hasStreet_0 15 rfl rfl)
theorem dX2_hasStreet_16 : decode cX2_hasStreet 16 = .ok (.iload_n 1, 1) := dk_27 (dk_at dksX2_hasStreet_0 16 rfl rfl)
theorem dX2_hasStreet_17 : decode cX2_hasStreet 17 = .ok (.if_icmp .ne 15, 3) := dk_160 0 15 (dk_at dksX2_hasStreet_0 17 rfl rfl)
theorem dX2_hasStreet_20 : decode cX2_hasStreet 20 = .ok (.aload_n 0, 1) := dk_42 (dk_at dksX2_hasStreet_0 20 rfl rfl)
theorem dX2_hasStreet_21 : decode cX2_hasStreet 21 = .ok (.getfield 25, 3) := dk_180 0 25 (dk_at dksX2_hasStreet_0 21 rfl rfl)
theorem dX2_hasStreet_24 : decode cX2_hasStreet 24 = .ok (.iload_n 3, 1) := dk_29 (dk_at dksX2_hasStreet_1 0 rfl rfl)
theorem dX2_hasStreet_25 : decode cX2_hasStreet 25 = .ok (.iaload, 1) := dk_46 (dk_at dksX2_hasStreet_1 1 rfl rfl)
theorem dX2_hasStreet_26 : decode cX2_hasStreet 26 = .ok (.iload_n 2, 1) := dk_28 (dk_at dksX2_hasStreet_1 2 rfl rfl)
theorem dX2_hasStreet_27 : decode cX2_hasStreet 27 = .ok (.if_icmp .ne 5, 3) := dk_160 0 5 (dk_at dksX2_hasStreet_1 3 rfl rfl)
theorem dX2_hasStreet_30 : decode cX2_hasStreet 30 = .ok (.iconst 1, 1) := dk_4 (dk_at dksX2_hasStreet_1 6 rfl rfl)
theorem dX2_hasStreet_31 : decode cX2_hasStreet 31 = .ok (.ireturn, 1) := dk_172 (dk_at dksX2_hasStreet_1 7 rfl rfl)
theorem dX2_hasStreet_32 : decode cX2_hasStreet 32 = .ok (.iinc 3 1, 3) := dk_132 3 1 (dk_at dksX2_hasStreet_1 8 rfl rfl)
theorem dX2_hasStreet_35 : decode cX2_hasStreet 35 = .ok (.goto (-33), 3) := dk_167 255 223 (dk_at dksX2_hasStreet_1 11 rfl rfl)
theorem dX2_hasStreet_38 : decode cX2_hasStreet 38 = .ok (.iconst 0, 1) := dk_3 (dk_at dksX2_hasStreet_1 14 rfl rfl)
theorem dX2_hasStreet_39 : decode cX2_hasStreet 39 = .ok (.ireturn, 1) := dk_172 (dk_at dksX2_hasStreet_1 15 rfl rfl)
abbrev cX2_become : ByteArray := prog_22_method_2_code
def yX2_become : MethodName := ⟨RX2, "become", "(LMoodFare$Town;)V"⟩
def dkwX2_become_5 : List UInt8 := [182, 0, 60, 177]
abbrev dktX2_become_5 : List UInt8 := dkwX2_become_5 ++ []
def dkwX2_become_4 : List UInt8 := [185, 0, 50, 2, 0, 192, 0, 54, 185, 0, 56, 2, 0, 87, 132, 2, 1, 167, 255, 217, 42, 43]
abbrev dktX2_become_4 : List UInt8 := dkwX2_become_4 ++ dktX2_become_5
def dkwX2_become_3 : List UInt8 := [3, 61, 28, 43, 180, 0, 12, 185, 0, 46, 1, 0, 162, 0, 32, 42, 180, 0, 12, 43, 180, 0, 12, 28]
abbrev dktX2_become_3 : List UInt8 := dkwX2_become_3 ++ dktX2_become_4
def dkwX2_become_2 : List UInt8 := [43, 180, 0, 25, 3, 42, 180, 0, 25, 3, 16, 8, 184, 0, 35, 42, 180, 0, 12, 185, 0, 41, 1, 0]
abbrev dktX2_become_2 : List UInt8 := dkwX2_become_2 ++ dktX2_become_3
def dkwX2_become_1 : List UInt8 := [180, 0, 18, 3, 16, 6, 184, 0, 35, 43, 180, 0, 22, 3, 42, 180, 0, 22, 3, 16, 8, 184, 0, 35]
abbrev dktX2_become_1 : List UInt8 := dkwX2_become_1 ++ dktX2_become_2
def dkwX2_become_0 : List UInt8 := [42, 43, 180, 0, 28, 181, 0, 28, 42, 43, 180, 0, 32, 181, 0, 32, 43, 180, 0, 18, 3, 42]
abbrev dktX2_become_0 : List UInt8 := dkwX2_become_0 ++ dktX2_become_1
theorem dksX2_become_0 : cX2_become.data.toList.drop 0 = dktX2_become_0 := by decide +kernel
theorem dksX2_become_1 : cX2_become.data.toList.drop 22 = dktX2_become_1 := dk_seg dksX2_become_0 22 rfl rfl
theorem dksX2_become_2 : cX2_become.data.toList.drop 46 = dktX2_become_2 := dk_seg dksX2_become_1 24 rfl rfl
theorem dksX2_become_3 : cX2_become.data.toList.drop 70 = dktX2_become_3 := dk_seg dksX2_become_2 24 rfl rfl
theorem dksX2_become_4 : cX2_become.data.toList.drop 94 = dktX2_become_4 := dk_seg dksX2_become_3 24 rfl rfl
theorem dksX2_become_5 : cX2_become.data.toList.drop 116 = dktX2_become_5 := dk_seg dksX2_become_4 22 rfl rfl
theorem dX2_become_0 : decode cX2_become 0 = .ok (.aload_n 0, 1) := dk_42 (dk_at dksX2_become_0 0 rfl rfl)
theorem dX2_become_1 : decode cX2_become 1 = .ok (.aload_n 1, 1) := dk_43 (dk_at dksX2_become_0 1 rfl rfl)
theorem dX2_become_2 : decode cX2_become 2 = .ok (.getfield 28, 3) := dk_180 0 28 (dk_at dksX2_become_0 2 rfl rfl)
theorem dX2_become_5 : decode cX2_become 5 = .ok (.putfield 28, 3) := dk_181 0 28 (dk_at dksX2_become_0 5 rfl rfl)
theorem dX2_become_8 : decode cX2_become 8 = .ok (.aload_n 0, 1) := dk_42 (dk_at dksX2_become_0 8 rfl rfl)
theorem dX2_become_9 : decode cX2_become 9 = .ok (.aload_n 1, 1) := dk_43 (dk_at dksX2_become_0 9 rfl rfl)
theorem dX2_become_10 : decode cX2_become 10 = .ok (.getfield 32, 3) := dk_180 0 32 (dk_at dksX2_become_0 10 rfl rfl)
theorem dX2_become_13 : decode cX2_become 13 = .ok (.putfield 32, 3) := dk_181 0 32 (dk_at dksX2_become_0 13 rfl rfl)
theorem dX2_become_16 : decode cX2_become 16 = .ok (.aload_n 1, 1) := dk_43 (dk_at dksX2_become_0 16 rfl rfl)
theorem dX2_become_17 : decode cX2_become 17 = .ok (.getfield 18, 3) := dk_180 0 18 (dk_at dksX2_become_0 17 rfl rfl)
theorem dX2_become_20 : decode cX2_become 20 = .ok (.iconst 0, 1) := dk_3 (dk_at dksX2_become_0 20 rfl rfl)
theorem dX2_become_21 : decode cX2_become 21 = .ok (.aload_n 0, 1) := dk_42 (dk_at dksX2_become_0 21 rfl rfl)
theorem dX2_become_22 : decode cX2_become 22 = .ok (.getfield 18, 3) := dk_180 0 18 (dk_at dksX2_become_1 0 rfl rfl)
theorem dX2_become_25 : decode cX2_become 25 = .ok (.iconst 0, 1) := dk_3 (dk_at dksX2_become_1 3 rfl rfl)
theorem dX2_become_26 : decode cX2_become 26 = .ok (.bipush 6, 2) := dk_16 6 (dk_at dksX2_become_1 4 rfl rfl)
theorem dX2_become_28 : decode cX2_become 28 = .ok (.invokestatic 35, 3) := dk_184 0 35 (dk_at dksX2_become_1 6 rfl rfl)
theorem dX2_become_31 : decode cX2_become 31 = .ok (.aload_n 1, 1) := dk_43 (dk_at dksX2_become_1 9 rfl rfl)
theorem dX2_become_32 : decode cX2_become 32 = .ok (.getfield 22, 3) := dk_180 0 22 (dk_at dksX2_become_1 10 rfl rfl)
theorem dX2_become_35 : decode cX2_become 35 = .ok (.iconst 0, 1) := dk_3 (dk_at dksX2_become_1 13 rfl rfl)
theorem dX2_become_36 : decode cX2_become 36 = .ok (.aload_n 0, 1) := dk_42 (dk_at dksX2_become_1 14 rfl rfl)
theorem dX2_become_37 : decode cX2_become 37 = .ok (.getfield 22, 3) := dk_180 0 22 (dk_at dksX2_become_1 15 rfl rfl)
theorem dX2_become_40 : decode cX2_become 40 = .ok (.iconst 0, 1) := dk_3 (dk_at dksX2_become_1 18 rfl rfl)
theorem dX2_become_41 : decode cX2_become 41 = .ok (.bipush 8, 2) := dk_16 8 (dk_at dksX2_become_1 19 rfl rfl)
theorem dX2_become_43 : decode cX2_become 43 = .ok (.invokestatic 35, 3) := dk_184 0 35 (dk_at dksX2_become_1 21 rfl rfl)
theorem dX2_become_46 : decode cX2_become 46 = .ok (.aload_n 1, 1) := dk_43 (dk_at dksX2_become_2 0 rfl rfl)
theorem dX2_become_47 : decode cX2_become 47 = .ok (.getfield 25, 3) := dk_180 0 25 (dk_at dksX2_become_2 1 rfl rfl)
theorem dX2_become_50 : decode cX2_become 50 = .ok (.iconst 0, 1) := dk_3 (dk_at dksX2_become_2 4 rfl rfl)
theorem dX2_become_51 : decode cX2_become 51 = .ok (.aload_n 0, 1) := dk_42 (dk_at dksX2_become_2 5 rfl rfl)
theorem dX2_become_52 : decode cX2_become 52 = .ok (.getfield 25, 3) := dk_180 0 25 (dk_at dksX2_become_2 6 rfl rfl)
theorem dX2_become_55 : decode cX2_become 55 = .ok (.iconst 0, 1) := dk_3 (dk_at dksX2_become_2 9 rfl rfl)
theorem dX2_become_56 : decode cX2_become 56 = .ok (.bipush 8, 2) := dk_16 8 (dk_at dksX2_become_2 10 rfl rfl)
theorem dX2_become_58 : decode cX2_become 58 = .ok (.invokestatic 35, 3) := dk_184 0 35 (dk_at dksX2_become_2 12 rfl rfl)
theorem dX2_become_61 : decode cX2_become 61 = .ok (.aload_n 0, 1) := dk_42 (dk_at dksX2_become_2 15 rfl rfl)
theorem dX2_become_62 : decode cX2_become 62 = .ok (.getfield 12, 3) := dk_180 0 12 (dk_at dksX2_become_2 16 rfl rfl)
theorem dX2_become_65 : decode cX2_become 65 = .ok (.invokeinterface 41 1, 5) := by decide +kernel
theorem dX2_become_70 : decode cX2_become 70 = .ok (.iconst 0, 1) := dk_3 (dk_at dksX2_become_3 0 rfl rfl)
theorem dX2_become_71 : decode cX2_become 71 = .ok (.istore_n 2, 1) := dk_61 (dk_at dksX2_become_3 1 rfl rfl)
theorem dX2_become_72 : decode cX2_become 72 = .ok (.iload_n 2, 1) := dk_28 (dk_at dksX2_become_3 2 rfl rfl)
theorem dX2_become_73 : decode cX2_become 73 = .ok (.aload_n 1, 1) := dk_43 (dk_at dksX2_become_3 3 rfl rfl)
theorem dX2_become_74 : decode cX2_become 74 = .ok (.getfield 12, 3) := dk_180 0 12 (dk_at dksX2_become_3 4 rfl rfl)
theorem dX2_become_77 : decode cX2_become 77 = .ok (.invokeinterface 46 1, 5) := by decide +kernel
theorem dX2_become_82 : decode cX2_become 82 = .ok (.if_icmp .ge 32, 3) := dk_162 0 32 (dk_at dksX2_become_3 12 rfl rfl)
theorem dX2_become_85 : decode cX2_become 85 = .ok (.aload_n 0, 1) := dk_42 (dk_at dksX2_become_3 15 rfl rfl)
theorem dX2_become_86 : decode cX2_become 86 = .ok (.getfield 12, 3) := dk_180 0 12 (dk_at dksX2_become_3 16 rfl rfl)
theorem dX2_become_89 : decode cX2_become 89 = .ok (.aload_n 1, 1) := dk_43 (dk_at dksX2_become_3 19 rfl rfl)
theorem dX2_become_90 : decode cX2_become 90 = .ok (.getfield 12, 3) := dk_180 0 12 (dk_at dksX2_become_3 20 rfl rfl)
theorem dX2_become_93 : decode cX2_become 93 = .ok (.iload_n 2, 1) := dk_28 (dk_at dksX2_become_3 23 rfl rfl)
theorem dX2_become_94 : decode cX2_become 94 = .ok (.invokeinterface 50 2, 5) := by decide +kernel
theorem dX2_become_99 : decode cX2_become 99 = .ok (.checkcast 54, 3) := dk_192 0 54 (dk_at dksX2_become_4 5 rfl rfl)
theorem dX2_become_102 : decode cX2_become 102 = .ok (.invokeinterface 56 2, 5) := by decide +kernel
theorem dX2_become_107 : decode cX2_become 107 = .ok (.pop, 1) := dk_87 (dk_at dksX2_become_4 13 rfl rfl)
theorem dX2_become_108 : decode cX2_become 108 = .ok (.iinc 2 1, 3) := dk_132 2 1 (dk_at dksX2_become_4 14 rfl rfl)
theorem dX2_become_111 : decode cX2_become 111 = .ok (.goto (-39), 3) := dk_167 255 217 (dk_at dksX2_become_4 17 rfl rfl)
theorem dX2_become_114 : decode cX2_become 114 = .ok (.aload_n 0, 1) := dk_42 (dk_at dksX2_become_4 20 rfl rfl)
theorem dX2_become_115 : decode cX2_become 115 = .ok (.aload_n 1, 1) := dk_43 (dk_at dksX2_become_4 21 rfl rfl)
theorem dX2_become_116 : decode cX2_become 116 = .ok (.invokevirtual 60, 3) := dk_182 0 60 (dk_at dksX2_become_5 0 rfl rfl)
theorem dX2_become_119 : decode cX2_become 119 = .ok (.return_, 1) := dk_177 (dk_at dksX2_become_5 3 rfl rfl)
abbrev cX2_rideAs : ByteArray := prog_22_method_3_code
def yX2_rideAs : MethodName := ⟨RX2, "rideAs", "(LMoodFare$Town;)V"⟩
def dkwX2_rideAs_1 : List UInt8 := [42, 43, 180, 0, 73, 181, 0, 73, 42, 43, 180, 0, 76, 181, 0, 76, 177]
abbrev dktX2_rideAs_1 : List UInt8 := dkwX2_rideAs_1 ++ []
def dkwX2_rideAs_0 : List UInt8 := [42, 43, 180, 0, 64, 181, 0, 64, 42, 43, 180, 0, 67, 181, 0, 67, 42, 43, 180, 0, 70, 181, 0, 70]
abbrev dktX2_rideAs_0 : List UInt8 := dkwX2_rideAs_0 ++ dktX2_rideAs_1
theorem dksX2_rideAs_0 : cX2_rideAs.data.toList.drop 0 = dktX2_rideAs_0 := by decide +kernel
theorem dksX2_rideAs_1 : cX2_rideAs.data.toList.drop 24 = dktX2_rideAs_1 := dk_seg dksX2_rideAs_0 24 rfl rfl
theorem dX2_rideAs_0 : decode cX2_rideAs 0 = .ok (.aload_n 0, 1) := dk_42 (dk_at dksX2_rideAs_0 0 rfl rfl)
theorem dX2_rideAs_1 : decode cX2_rideAs 1 = .ok (.aload_n 1, 1) := dk_43 (dk_at dksX2_rideAs_0 1 rfl rfl)
theorem dX2_rideAs_2 : decode cX2_rideAs 2 = .ok (.getfield 64, 3) := dk_180 0 64 (dk_at dksX2_rideAs_0 2 rfl rfl)
theorem dX2_rideAs_5 : decode cX2_rideAs 5 = .ok (.putfield 64, 3) := dk_181 0 64 (dk_at dksX2_rideAs_0 5 rfl rfl)
theorem dX2_rideAs_8 : decode cX2_rideAs 8 = .ok (.aload_n 0, 1) := dk_42 (dk_at dksX2_rideAs_0 8 rfl rfl)
theorem dX2_rideAs_9 : decode cX2_rideAs 9 = .ok (.aload_n 1, 1) := dk_43 (dk_at dksX2_rideAs_0 9 rfl rfl)
theorem dX2_rideAs_10 : decode cX2_rideAs 10 = .ok (.getfield 67, 3) := dk_180 0 67 (dk_at dksX2_rideAs_0 10 rfl rfl)
theorem dX2_rideAs_13 : decode cX2_rideAs 13 = .ok (.putfield 67, 3) := dk_181 0 67 (dk_at dksX2_rideAs_0 13 rfl rfl)
theorem dX2_rideAs_16 : decode cX2_rideAs 16 = .ok (.aload_n 0, 1) := dk_42 (dk_at dksX2_rideAs_0 16 rfl rfl)
theorem dX2_rideAs_17 : decode cX2_rideAs 17 = .ok (.aload_n 1, 1) := dk_43 (dk_at dksX2_rideAs_0 17 rfl rfl)
theorem dX2_rideAs_18 : decode cX2_rideAs 18 = .ok (.getfield 70, 3) := dk_180 0 70 (dk_at dksX2_rideAs_0 18 rfl rfl)
theorem dX2_rideAs_21 : decode cX2_rideAs 21 = .ok (.putfield 70, 3) := dk_181 0 70 (dk_at dksX2_rideAs_0 21 rfl rfl)
theorem dX2_rideAs_24 : decode cX2_rideAs 24 = .ok (.aload_n 0, 1) := dk_42 (dk_at dksX2_rideAs_1 0 rfl rfl)
theorem dX2_rideAs_25 : decode cX2_rideAs 25 = .ok (.aload_n 1, 1) := dk_43 (dk_at dksX2_rideAs_1 1 rfl rfl)
theorem dX2_rideAs_26 : decode cX2_rideAs 26 = .ok (.getfield 73, 3) := dk_180 0 73 (dk_at dksX2_rideAs_1 2 rfl rfl)
theorem dX2_rideAs_29 : decode cX2_rideAs 29 = .ok (.putfield 73, 3) := dk_181 0 73 (dk_at dksX2_rideAs_1 5 rfl rfl)
theorem dX2_rideAs_32 : decode cX2_rideAs 32 = .ok (.aload_n 0, 1) := dk_42 (dk_at dksX2_rideAs_1 8 rfl rfl)
theorem dX2_rideAs_33 : decode cX2_rideAs 33 = .ok (.aload_n 1, 1) := dk_43 (dk_at dksX2_rideAs_1 9 rfl rfl)
theorem dX2_rideAs_34 : decode cX2_rideAs 34 = .ok (.getfield 76, 3) := dk_180 0 76 (dk_at dksX2_rideAs_1 10 rfl rfl)
theorem dX2_rideAs_37 : decode cX2_rideAs 37 = .ok (.putfield 76, 3) := dk_181 0 76 (dk_at dksX2_rideAs_1 13 rfl rfl)
theorem dX2_rideAs_40 : decode cX2_rideAs 40 = .ok (.return_, 1) := dk_177 (dk_at dksX2_rideAs_1 16 rfl rfl)
abbrev cX2_isWay : ByteArray := prog_22_method_5_code
def yX2_isWay : MethodName := ⟨RX2, "isWay", "(I)Z"⟩
def dkwX2_isWay_1 : List UInt8 := [153, 0, 20, 42, 180, 0, 22, 27, 46, 42, 180, 0, 67, 160, 0, 7, 4, 167, 0, 4, 3, 172]
abbrev dktX2_isWay_1 : List UInt8 := dkwX2_isWay_1 ++ []
def dkwX2_isWay_0 : List UInt8 := [27, 133, 9, 42, 180, 0, 32, 4, 100, 133, 184, 0, 79, 153, 0, 31, 42, 180, 0, 76, 27, 184, 0, 83]
abbrev dktX2_isWay_0 : List UInt8 := dkwX2_isWay_0 ++ dktX2_isWay_1
theorem dksX2_isWay_0 : cX2_isWay.data.toList.drop 0 = dktX2_isWay_0 := by decide +kernel
theorem dksX2_isWay_1 : cX2_isWay.data.toList.drop 24 = dktX2_isWay_1 := dk_seg dksX2_isWay_0 24 rfl rfl
theorem dX2_isWay_0 : decode cX2_isWay 0 = .ok (.iload_n 1, 1) := dk_27 (dk_at dksX2_isWay_0 0 rfl rfl)
theorem dX2_isWay_1 : decode cX2_isWay 1 = .ok (.i2l, 1) := dk_133 (dk_at dksX2_isWay_0 1 rfl rfl)
theorem dX2_isWay_2 : decode cX2_isWay 2 = .ok (.lconst 0, 1) := dk_9 (dk_at dksX2_isWay_0 2 rfl rfl)
theorem dX2_isWay_3 : decode cX2_isWay 3 = .ok (.aload_n 0, 1) := dk_42 (dk_at dksX2_isWay_0 3 rfl rfl)
theorem dX2_isWay_4 : decode cX2_isWay 4 = .ok (.getfield 32, 3) := dk_180 0 32 (dk_at dksX2_isWay_0 4 rfl rfl)
theorem dX2_isWay_7 : decode cX2_isWay 7 = .ok (.iconst 1, 1) := dk_4 (dk_at dksX2_isWay_0 7 rfl rfl)
theorem dX2_isWay_8 : decode cX2_isWay 8 = .ok (.isub, 1) := dk_100 (dk_at dksX2_isWay_0 8 rfl rfl)
theorem dX2_isWay_9 : decode cX2_isWay 9 = .ok (.i2l, 1) := dk_133 (dk_at dksX2_isWay_0 9 rfl rfl)
theorem dX2_isWay_10 : decode cX2_isWay 10 = .ok (.invokestatic 79, 3) := dk_184 0 79 (dk_at dksX2_isWay_0 10 rfl rfl)
theorem dX2_isWay_13 : decode cX2_isWay 13 = .ok (.ifCond .eq 31, 3) := dk_153 0 31 (dk_at dksX2_isWay_0 13 rfl rfl)
theorem dX2_isWay_16 : decode cX2_isWay 16 = .ok (.aload_n 0, 1) := dk_42 (dk_at dksX2_isWay_0 16 rfl rfl)
theorem dX2_isWay_17 : decode cX2_isWay 17 = .ok (.getfield 76, 3) := dk_180 0 76 (dk_at dksX2_isWay_0 17 rfl rfl)
theorem dX2_isWay_20 : decode cX2_isWay 20 = .ok (.iload_n 1, 1) := dk_27 (dk_at dksX2_isWay_0 20 rfl rfl)
theorem dX2_isWay_21 : decode cX2_isWay 21 = .ok (.invokestatic 83, 3) := dk_184 0 83 (dk_at dksX2_isWay_0 21 rfl rfl)
theorem dX2_isWay_24 : decode cX2_isWay 24 = .ok (.ifCond .eq 20, 3) := dk_153 0 20 (dk_at dksX2_isWay_1 0 rfl rfl)
theorem dX2_isWay_27 : decode cX2_isWay 27 = .ok (.aload_n 0, 1) := dk_42 (dk_at dksX2_isWay_1 3 rfl rfl)
theorem dX2_isWay_28 : decode cX2_isWay 28 = .ok (.getfield 22, 3) := dk_180 0 22 (dk_at dksX2_isWay_1 4 rfl rfl)
theorem dX2_isWay_31 : decode cX2_isWay 31 = .ok (.iload_n 1, 1) := dk_27 (dk_at dksX2_isWay_1 7 rfl rfl)
theorem dX2_isWay_32 : decode cX2_isWay 32 = .ok (.iaload, 1) := dk_46 (dk_at dksX2_isWay_1 8 rfl rfl)
theorem dX2_isWay_33 : decode cX2_isWay 33 = .ok (.aload_n 0, 1) := dk_42 (dk_at dksX2_isWay_1 9 rfl rfl)
theorem dX2_isWay_34 : decode cX2_isWay 34 = .ok (.getfield 67, 3) := dk_180 0 67 (dk_at dksX2_isWay_1 10 rfl rfl)
theorem dX2_isWay_37 : decode cX2_isWay 37 = .ok (.if_icmp .ne 7, 3) := dk_160 0 7 (dk_at dksX2_isWay_1 13 rfl rfl)
theorem dX2_isWay_40 : decode cX2_isWay 40 = .ok (.iconst 1, 1) := dk_4 (dk_at dksX2_isWay_1 16 rfl rfl)
theorem dX2_isWay_41 : decode cX2_isWay 41 = .ok (.goto 4, 3) := dk_167 0 4 (dk_at dksX2_isWay_1 17 rfl rfl)
theorem dX2_isWay_44 : decode cX2_isWay 44 = .ok (.iconst 0, 1) := dk_3 (dk_at dksX2_isWay_1 20 rfl rfl)
theorem dX2_isWay_45 : decode cX2_isWay 45 = .ok (.ireturn, 1) := dk_172 (dk_at dksX2_isWay_1 21 rfl rfl)
abbrev cX2_ride : ByteArray := prog_22_method_8_code
def yX2_ride : MethodName := ⟨RX2, "ride", "(I)I"⟩
def dkwX2_ride_2 : List UInt8 := [180, 0, 73, 4, 96, 181, 0, 73, 28, 172]
abbrev dktX2_ride_2 : List UInt8 := dkwX2_ride_2 ++ []
def dkwX2_ride_1 : List UInt8 := [42, 180, 0, 70, 28, 96, 184, 0, 105, 181, 0, 70, 42, 42, 180, 0, 25, 27, 46, 181, 0, 67, 42, 89]
abbrev dktX2_ride_1 : List UInt8 := dkwX2_ride_1 ++ dktX2_ride_2
def dkwX2_ride_0 : List UInt8 := [42, 27, 182, 0, 102, 61, 42, 42, 42, 180, 0, 25, 27, 46, 182, 0, 91, 181, 0, 64, 42, 17, 39, 15]
abbrev dktX2_ride_0 : List UInt8 := dkwX2_ride_0 ++ dktX2_ride_1
theorem dksX2_ride_0 : cX2_ride.data.toList.drop 0 = dktX2_ride_0 := by decide +kernel
theorem dksX2_ride_1 : cX2_ride.data.toList.drop 24 = dktX2_ride_1 := dk_seg dksX2_ride_0 24 rfl rfl
theorem dksX2_ride_2 : cX2_ride.data.toList.drop 48 = dktX2_ride_2 := dk_seg dksX2_ride_1 24 rfl rfl
theorem dX2_ride_0 : decode cX2_ride 0 = .ok (.aload_n 0, 1) := dk_42 (dk_at dksX2_ride_0 0 rfl rfl)
theorem dX2_ride_1 : decode cX2_ride 1 = .ok (.iload_n 1, 1) := dk_27 (dk_at dksX2_ride_0 1 rfl rfl)
theorem dX2_ride_2 : decode cX2_ride 2 = .ok (.invokevirtual 102, 3) := dk_182 0 102 (dk_at dksX2_ride_0 2 rfl rfl)
theorem dX2_ride_5 : decode cX2_ride 5 = .ok (.istore_n 2, 1) := dk_61 (dk_at dksX2_ride_0 5 rfl rfl)
theorem dX2_ride_6 : decode cX2_ride 6 = .ok (.aload_n 0, 1) := dk_42 (dk_at dksX2_ride_0 6 rfl rfl)
theorem dX2_ride_7 : decode cX2_ride 7 = .ok (.aload_n 0, 1) := dk_42 (dk_at dksX2_ride_0 7 rfl rfl)
theorem dX2_ride_8 : decode cX2_ride 8 = .ok (.aload_n 0, 1) := dk_42 (dk_at dksX2_ride_0 8 rfl rfl)
theorem dX2_ride_9 : decode cX2_ride 9 = .ok (.getfield 25, 3) := dk_180 0 25 (dk_at dksX2_ride_0 9 rfl rfl)
theorem dX2_ride_12 : decode cX2_ride 12 = .ok (.iload_n 1, 1) := dk_27 (dk_at dksX2_ride_0 12 rfl rfl)
theorem dX2_ride_13 : decode cX2_ride 13 = .ok (.iaload, 1) := dk_46 (dk_at dksX2_ride_0 13 rfl rfl)
theorem dX2_ride_14 : decode cX2_ride 14 = .ok (.invokevirtual 91, 3) := dk_182 0 91 (dk_at dksX2_ride_0 14 rfl rfl)
theorem dX2_ride_17 : decode cX2_ride 17 = .ok (.putfield 64, 3) := dk_181 0 64 (dk_at dksX2_ride_0 17 rfl rfl)
theorem dX2_ride_20 : decode cX2_ride 20 = .ok (.aload_n 0, 1) := dk_42 (dk_at dksX2_ride_0 20 rfl rfl)
theorem dX2_ride_21 : decode cX2_ride 21 = .ok (.sipush 9999, 3) := dk_17 39 15 (dk_at dksX2_ride_0 21 rfl rfl)
theorem dX2_ride_24 : decode cX2_ride 24 = .ok (.aload_n 0, 1) := dk_42 (dk_at dksX2_ride_1 0 rfl rfl)
theorem dX2_ride_25 : decode cX2_ride 25 = .ok (.getfield 70, 3) := dk_180 0 70 (dk_at dksX2_ride_1 1 rfl rfl)
theorem dX2_ride_28 : decode cX2_ride 28 = .ok (.iload_n 2, 1) := dk_28 (dk_at dksX2_ride_1 4 rfl rfl)
theorem dX2_ride_29 : decode cX2_ride 29 = .ok (.iadd, 1) := dk_96 (dk_at dksX2_ride_1 5 rfl rfl)
theorem dX2_ride_30 : decode cX2_ride 30 = .ok (.invokestatic 105, 3) := dk_184 0 105 (dk_at dksX2_ride_1 6 rfl rfl)
theorem dX2_ride_33 : decode cX2_ride 33 = .ok (.putfield 70, 3) := dk_181 0 70 (dk_at dksX2_ride_1 9 rfl rfl)
theorem dX2_ride_36 : decode cX2_ride 36 = .ok (.aload_n 0, 1) := dk_42 (dk_at dksX2_ride_1 12 rfl rfl)
theorem dX2_ride_37 : decode cX2_ride 37 = .ok (.aload_n 0, 1) := dk_42 (dk_at dksX2_ride_1 13 rfl rfl)
theorem dX2_ride_38 : decode cX2_ride 38 = .ok (.getfield 25, 3) := dk_180 0 25 (dk_at dksX2_ride_1 14 rfl rfl)
theorem dX2_ride_41 : decode cX2_ride 41 = .ok (.iload_n 1, 1) := dk_27 (dk_at dksX2_ride_1 17 rfl rfl)
theorem dX2_ride_42 : decode cX2_ride 42 = .ok (.iaload, 1) := dk_46 (dk_at dksX2_ride_1 18 rfl rfl)
theorem dX2_ride_43 : decode cX2_ride 43 = .ok (.putfield 67, 3) := dk_181 0 67 (dk_at dksX2_ride_1 19 rfl rfl)
theorem dX2_ride_46 : decode cX2_ride 46 = .ok (.aload_n 0, 1) := dk_42 (dk_at dksX2_ride_1 22 rfl rfl)
theorem dX2_ride_47 : decode cX2_ride 47 = .ok (.dup, 1) := dk_89 (dk_at dksX2_ride_1 23 rfl rfl)
theorem dX2_ride_48 : decode cX2_ride 48 = .ok (.getfield 73, 3) := dk_180 0 73 (dk_at dksX2_ride_2 0 rfl rfl)
theorem dX2_ride_51 : decode cX2_ride 51 = .ok (.iconst 1, 1) := dk_4 (dk_at dksX2_ride_2 3 rfl rfl)
theorem dX2_ride_52 : decode cX2_ride 52 = .ok (.iadd, 1) := dk_96 (dk_at dksX2_ride_2 4 rfl rfl)
theorem dX2_ride_53 : decode cX2_ride 53 = .ok (.putfield 73, 3) := dk_181 0 73 (dk_at dksX2_ride_2 5 rfl rfl)
theorem dX2_ride_56 : decode cX2_ride 56 = .ok (.iload_n 2, 1) := dk_28 (dk_at dksX2_ride_2 8 rfl rfl)
theorem dX2_ride_57 : decode cX2_ride 57 = .ok (.ireturn, 1) := dk_172 (dk_at dksX2_ride_2 9 rfl rfl)
abbrev cX2_cost : ByteArray := prog_22_method_7_code
def yX2_cost : MethodName := ⟨RX2, "cost", "(I)I"⟩
def dkwX2_cost_1 : List UInt8 := [180, 0, 12, 42, 180, 0, 25, 27, 46, 185, 0, 50, 2, 0, 192, 0, 54, 182, 0, 99, 96, 172]
abbrev dktX2_cost_1 : List UInt8 := dkwX2_cost_1 ++ []
def dkwX2_cost_0 : List UInt8 := [42, 180, 0, 28, 42, 42, 180, 0, 25, 27, 46, 182, 0, 91, 42, 180, 0, 64, 100, 184, 0, 94, 104, 42]
abbrev dktX2_cost_0 : List UInt8 := dkwX2_cost_0 ++ dktX2_cost_1
theorem dksX2_cost_0 : cX2_cost.data.toList.drop 0 = dktX2_cost_0 := by decide +kernel
theorem dksX2_cost_1 : cX2_cost.data.toList.drop 24 = dktX2_cost_1 := dk_seg dksX2_cost_0 24 rfl rfl
theorem dX2_cost_0 : decode cX2_cost 0 = .ok (.aload_n 0, 1) := dk_42 (dk_at dksX2_cost_0 0 rfl rfl)
theorem dX2_cost_1 : decode cX2_cost 1 = .ok (.getfield 28, 3) := dk_180 0 28 (dk_at dksX2_cost_0 1 rfl rfl)
theorem dX2_cost_4 : decode cX2_cost 4 = .ok (.aload_n 0, 1) := dk_42 (dk_at dksX2_cost_0 4 rfl rfl)
theorem dX2_cost_5 : decode cX2_cost 5 = .ok (.aload_n 0, 1) := dk_42 (dk_at dksX2_cost_0 5 rfl rfl)
theorem dX2_cost_6 : decode cX2_cost 6 = .ok (.getfield 25, 3) := dk_180 0 25 (dk_at dksX2_cost_0 6 rfl rfl)
theorem dX2_cost_9 : decode cX2_cost 9 = .ok (.iload_n 1, 1) := dk_27 (dk_at dksX2_cost_0 9 rfl rfl)
theorem dX2_cost_10 : decode cX2_cost 10 = .ok (.iaload, 1) := dk_46 (dk_at dksX2_cost_0 10 rfl rfl)
theorem dX2_cost_11 : decode cX2_cost 11 = .ok (.invokevirtual 91, 3) := dk_182 0 91 (dk_at dksX2_cost_0 11 rfl rfl)
theorem dX2_cost_14 : decode cX2_cost 14 = .ok (.aload_n 0, 1) := dk_42 (dk_at dksX2_cost_0 14 rfl rfl)
theorem dX2_cost_15 : decode cX2_cost 15 = .ok (.getfield 64, 3) := dk_180 0 64 (dk_at dksX2_cost_0 15 rfl rfl)
theorem dX2_cost_18 : decode cX2_cost 18 = .ok (.isub, 1) := dk_100 (dk_at dksX2_cost_0 18 rfl rfl)
theorem dX2_cost_19 : decode cX2_cost 19 = .ok (.invokestatic 94, 3) := dk_184 0 94 (dk_at dksX2_cost_0 19 rfl rfl)
theorem dX2_cost_22 : decode cX2_cost 22 = .ok (.imul, 1) := dk_104 (dk_at dksX2_cost_0 22 rfl rfl)
theorem dX2_cost_23 : decode cX2_cost 23 = .ok (.aload_n 0, 1) := dk_42 (dk_at dksX2_cost_0 23 rfl rfl)
theorem dX2_cost_24 : decode cX2_cost 24 = .ok (.getfield 12, 3) := dk_180 0 12 (dk_at dksX2_cost_1 0 rfl rfl)
theorem dX2_cost_27 : decode cX2_cost 27 = .ok (.aload_n 0, 1) := dk_42 (dk_at dksX2_cost_1 3 rfl rfl)
theorem dX2_cost_28 : decode cX2_cost 28 = .ok (.getfield 25, 3) := dk_180 0 25 (dk_at dksX2_cost_1 4 rfl rfl)
theorem dX2_cost_31 : decode cX2_cost 31 = .ok (.iload_n 1, 1) := dk_27 (dk_at dksX2_cost_1 7 rfl rfl)
theorem dX2_cost_32 : decode cX2_cost 32 = .ok (.iaload, 1) := dk_46 (dk_at dksX2_cost_1 8 rfl rfl)
theorem dX2_cost_33 : decode cX2_cost 33 = .ok (.invokeinterface 50 2, 5) := by decide +kernel
theorem dX2_cost_38 : decode cX2_cost 38 = .ok (.checkcast 54, 3) := dk_192 0 54 (dk_at dksX2_cost_1 14 rfl rfl)
theorem dX2_cost_41 : decode cX2_cost 41 = .ok (.invokevirtual 99, 3) := dk_182 0 99 (dk_at dksX2_cost_1 17 rfl rfl)
theorem dX2_cost_44 : decode cX2_cost 44 = .ok (.iadd, 1) := dk_96 (dk_at dksX2_cost_1 20 rfl rfl)
theorem dX2_cost_45 : decode cX2_cost 45 = .ok (.ireturn, 1) := dk_172 (dk_at dksX2_cost_1 21 rfl rfl)
abbrev cX2_passed : ByteArray := prog_22_method_6_code
def yX2_passed : MethodName := ⟨RX2, "passed", "(I)I"⟩
def dkwX2_passed_1 : List UInt8 := [180, 0, 73, 182, 0, 87, 172]
abbrev dktX2_passed_1 : List UInt8 := dkwX2_passed_1 ++ []
def dkwX2_passed_0 : List UInt8 := [42, 180, 0, 12, 27, 185, 0, 50, 2, 0, 192, 0, 54, 42, 180, 0, 64, 42, 180, 0, 18, 27, 46, 42]
abbrev dktX2_passed_0 : List UInt8 := dkwX2_passed_0 ++ dktX2_passed_1
theorem dksX2_passed_0 : cX2_passed.data.toList.drop 0 = dktX2_passed_0 := by decide +kernel
theorem dksX2_passed_1 : cX2_passed.data.toList.drop 24 = dktX2_passed_1 := dk_seg dksX2_passed_0 24 rfl rfl
theorem dX2_passed_0 : decode cX2_passed 0 = .ok (.aload_n 0, 1) := dk_42 (dk_at dksX2_passed_0 0 rfl rfl)
theorem dX2_passed_1 : decode cX2_passed 1 = .ok (.getfield 12, 3) := dk_180 0 12 (dk_at dksX2_passed_0 1 rfl rfl)
theorem dX2_passed_4 : decode cX2_passed 4 = .ok (.iload_n 1, 1) := dk_27 (dk_at dksX2_passed_0 4 rfl rfl)
theorem dX2_passed_5 : decode cX2_passed 5 = .ok (.invokeinterface 50 2, 5) := by decide +kernel
theorem dX2_passed_10 : decode cX2_passed 10 = .ok (.checkcast 54, 3) := dk_192 0 54 (dk_at dksX2_passed_0 10 rfl rfl)
theorem dX2_passed_13 : decode cX2_passed 13 = .ok (.aload_n 0, 1) := dk_42 (dk_at dksX2_passed_0 13 rfl rfl)
theorem dX2_passed_14 : decode cX2_passed 14 = .ok (.getfield 64, 3) := dk_180 0 64 (dk_at dksX2_passed_0 14 rfl rfl)
theorem dX2_passed_17 : decode cX2_passed 17 = .ok (.aload_n 0, 1) := dk_42 (dk_at dksX2_passed_0 17 rfl rfl)
theorem dX2_passed_18 : decode cX2_passed 18 = .ok (.getfield 18, 3) := dk_180 0 18 (dk_at dksX2_passed_0 18 rfl rfl)
theorem dX2_passed_21 : decode cX2_passed 21 = .ok (.iload_n 1, 1) := dk_27 (dk_at dksX2_passed_0 21 rfl rfl)
theorem dX2_passed_22 : decode cX2_passed 22 = .ok (.iaload, 1) := dk_46 (dk_at dksX2_passed_0 22 rfl rfl)
theorem dX2_passed_23 : decode cX2_passed 23 = .ok (.aload_n 0, 1) := dk_42 (dk_at dksX2_passed_0 23 rfl rfl)
theorem dX2_passed_24 : decode cX2_passed 24 = .ok (.getfield 73, 3) := dk_180 0 73 (dk_at dksX2_passed_1 0 rfl rfl)
theorem dX2_passed_27 : decode cX2_passed 27 = .ok (.invokevirtual 87, 3) := dk_182 0 87 (dk_at dksX2_passed_1 3 rfl rfl)
theorem dX2_passed_30 : decode cX2_passed 30 = .ok (.ireturn, 1) := dk_172 (dk_at dksX2_passed_1 6 rfl rfl)
theorem q68 : (Jvm.Cond.initialized "MoodFare$Town") ∈ lw_all := lw_g (lw_at lw_m1 3 rfl) rfl
theorem q133 : (Jvm.Cond.instantiable "MoodFare$Town" (11 : Nat)) ∈ lw_all := lw_g (lw_at lw_m1 68 rfl) rfl
theorem q135 : (Jvm.Cond.instanceMethod ({ cls := "MoodFare$Town", name := "<init>", desc := "()V" } : Jvm.MethodName)) ∈ lw_all := lw_g (lw_at lw_m1 70 rfl) rfl
theorem q136 : (Jvm.Cond.code ({ cls := "MoodFare$Town", name := "<init>", desc := "()V" } : Jvm.MethodName) prog_22_method_1_code (1 : Nat) (Option.none : Option Jvm.ClassFile.FieldType)) ∈ lw_all := lw_g (lw_at lw_m1 71 rfl) rfl
theorem q137 : (Jvm.Cond.methodLink "MoodFare$Town" (3 : Nat) ({ cls := "java/lang/Object", name := "<init>", desc := "()V" } : Jvm.MethodName)) ∈ lw_all := lw_g (lw_at lw_m1 72 rfl) rfl
theorem q138 : (Jvm.Cond.classLink "MoodFare$Town" (9 : Nat) "java/util/ArrayList") ∈ lw_all := lw_g (lw_at lw_m1 73 rfl) rfl
theorem q140 : (Jvm.Cond.methodLink "MoodFare$Town" (11 : Nat) ({ cls := "java/util/ArrayList", name := "<init>", desc := "()V" } : Jvm.MethodName)) ∈ lw_all := lw_g (lw_at lw_m1 75 rfl) rfl
theorem q165 : (Jvm.Cond.fieldLink "MoodFare$Town" (28 : Nat) "MoodFare$Town" "rate" "I") ∈ lw_all := lw_g (lw_at lw_m1 100 rfl) rfl
theorem q172 : (Jvm.Cond.fieldLink "MoodFare$Town" (64 : Nat) "MoodFare$Town" "mood" "I") ∈ lw_all := lw_g (lw_at lw_m1 107 rfl) rfl
theorem q178 : (Jvm.Cond.fieldLink "MoodFare$Town" (67 : Nat) "MoodFare$Town" "at" "I") ∈ lw_all := lw_g (lw_at lw_m1 113 rfl) rfl
theorem q180 : (Jvm.Cond.fieldLink "MoodFare$Town" (70 : Nat) "MoodFare$Town" "meter" "I") ∈ lw_all := lw_g (lw_at lw_m1 115 rfl) rfl
theorem q182 : (Jvm.Cond.fieldLink "MoodFare$Town" (73 : Nat) "MoodFare$Town" "step" "I") ∈ lw_all := lw_g (lw_at lw_m1 117 rfl) rfl
theorem q184 : (Jvm.Cond.fieldLink "MoodFare$Town" (12 : Nat) "MoodFare$Town" "corners" "Ljava/util/List;") ∈ lw_all := lw_g (lw_at lw_m1 119 rfl) rfl
theorem q188 : (Jvm.Cond.fieldLink "MoodFare$Town" (18 : Nat) "MoodFare$Town" "much" "[I") ∈ lw_all := lw_g (lw_at lw_m1 123 rfl) rfl
theorem q193 : (Jvm.Cond.fieldLink "MoodFare$Town" (32 : Nat) "MoodFare$Town" "streets" "I") ∈ lw_all := lw_g (lw_at lw_m1 128 rfl) rfl
theorem q196 : (Jvm.Cond.fieldLink "MoodFare$Town" (22 : Nat) "MoodFare$Town" "from" "[I") ∈ lw_all := lw_g (lw_at lw_m1 131 rfl) rfl
theorem q199 : (Jvm.Cond.fieldLink "MoodFare$Town" (25 : Nat) "MoodFare$Town" "to" "[I") ∈ lw_all := lw_g (lw_at lw_m1 134 rfl) rfl
theorem q202 : (Jvm.Cond.fieldLink "MoodFare$Town" (76 : Nat) "MoodFare$Town" "open" "I") ∈ lw_all := lw_g (lw_at lw_m1 137 rfl) rfl
theorem q205 : (Jvm.Cond.lays "MoodFare$Town" "MoodFare$Town" "rate" "I") ∈ lw_all := lw_g (lw_at lw_m1 140 rfl) rfl
theorem q206 : (Jvm.Cond.soleField "MoodFare$Town" "rate") ∈ lw_all := lw_g (lw_at lw_m1 141 rfl) rfl
theorem q207 : (Jvm.Cond.lays "MoodFare$Town" "MoodFare$Town" "mood" "I") ∈ lw_all := lw_g (lw_at lw_m1 142 rfl) rfl
theorem q208 : (Jvm.Cond.soleField "MoodFare$Town" "mood") ∈ lw_all := lw_g (lw_at lw_m1 143 rfl) rfl
theorem q209 : (Jvm.Cond.lays "MoodFare$Town" "MoodFare$Town" "at" "I") ∈ lw_all := lw_g (lw_at lw_m1 144 rfl) rfl
theorem q210 : (Jvm.Cond.soleField "MoodFare$Town" "at") ∈ lw_all := lw_g (lw_at lw_m1 145 rfl) rfl
theorem q211 : (Jvm.Cond.lays "MoodFare$Town" "MoodFare$Town" "meter" "I") ∈ lw_all := lw_g (lw_at lw_m1 146 rfl) rfl
theorem q212 : (Jvm.Cond.soleField "MoodFare$Town" "meter") ∈ lw_all := lw_g (lw_at lw_m1 147 rfl) rfl
theorem q213 : (Jvm.Cond.lays "MoodFare$Town" "MoodFare$Town" "step" "I") ∈ lw_all := lw_g (lw_at lw_m1 148 rfl) rfl
theorem q214 : (Jvm.Cond.soleField "MoodFare$Town" "step") ∈ lw_all := lw_g (lw_at lw_m1 149 rfl) rfl
theorem q215 : (Jvm.Cond.laysFinal "MoodFare$Town" "MoodFare$Town" "corners" "Ljava/util/List;") ∈ lw_all := lw_g (lw_at lw_m1 150 rfl) rfl
theorem q216 : (Jvm.Cond.soleField "MoodFare$Town" "corners") ∈ lw_all := lw_g (lw_at lw_m1 151 rfl) rfl
theorem q217 : (Jvm.Cond.laysFinal "MoodFare$Town" "MoodFare$Town" "much" "[I") ∈ lw_all := lw_g (lw_at lw_m1 152 rfl) rfl
theorem q218 : (Jvm.Cond.soleField "MoodFare$Town" "much") ∈ lw_all := lw_g (lw_at lw_m1 153 rfl) rfl
theorem q219 : (Jvm.Cond.lays "MoodFare$Town" "MoodFare$Town" "streets" "I") ∈ lw_all := lw_g (lw_at lw_m1 154 rfl) rfl
theorem q220 : (Jvm.Cond.soleField "MoodFare$Town" "streets") ∈ lw_all := lw_g (lw_at lw_m1 155 rfl) rfl
theorem q221 : (Jvm.Cond.laysFinal "MoodFare$Town" "MoodFare$Town" "from" "[I") ∈ lw_all := lw_g (lw_at lw_m1 156 rfl) rfl
theorem q222 : (Jvm.Cond.soleField "MoodFare$Town" "from") ∈ lw_all := lw_g (lw_at lw_m1 157 rfl) rfl
theorem q223 : (Jvm.Cond.laysFinal "MoodFare$Town" "MoodFare$Town" "to" "[I") ∈ lw_all := lw_g (lw_at lw_m1 158 rfl) rfl
theorem q224 : (Jvm.Cond.soleField "MoodFare$Town" "to") ∈ lw_all := lw_g (lw_at lw_m1 159 rfl) rfl
theorem q225 : (Jvm.Cond.lays "MoodFare$Town" "MoodFare$Town" "open" "I") ∈ lw_all := lw_g (lw_at lw_m1 160 rfl) rfl
theorem q226 : (Jvm.Cond.soleField "MoodFare$Town" "open") ∈ lw_all := lw_g (lw_at lw_m1 161 rfl) rfl
theorem q227 : (Jvm.Cond.superclass "MoodFare$Town" "java/lang/Object") ∈ lw_all := lw_g (lw_at lw_m1 162 rfl) rfl
theorem q690 : (Jvm.Cond.instanceMethod ({ cls := "MoodFare$Town", name := "many", desc := "()I" } : Jvm.MethodName)) ∈ lw_all := lw_g (lw_at lw_m3 145 rfl) rfl
theorem q691 : (Jvm.Cond.selects "MoodFare$Town" ({ cls := "MoodFare$Town", name := "many", desc := "()I" } : Jvm.MethodName) ({ cls := "MoodFare$Town", name := "many", desc := "()I" } : Jvm.MethodName)) ∈ lw_all := lw_g (lw_at lw_m3 146 rfl) rfl
theorem q692 : (Jvm.Cond.code ({ cls := "MoodFare$Town", name := "many", desc := "()I" } : Jvm.MethodName) prog_22_method_4_code (1 : Nat) (Option.some Jvm.ClassFile.FieldType.int)) ∈ lw_all := lw_g (lw_at lw_m3 147 rfl) rfl
theorem q693 : (Jvm.Cond.interfaceEntry "MoodFare$Town" (46 : Nat)) ∈ lw_tbl := lw_at lw_m3 148 rfl
theorem q694 : (Jvm.Cond.methodLink "MoodFare$Town" (46 : Nat) ({ cls := "java/util/List", name := "size", desc := "()I" } : Jvm.MethodName)) ∈ lw_all := lw_g (lw_at lw_m3 149 rfl) rfl
theorem q810 : (Jvm.Cond.selects "MoodFare$Town" ({ cls := "java/lang/Object", name := "getClass", desc := "()Ljava/lang/Class;" } : Jvm.MethodName) ({ cls := "java/lang/Object", name := "getClass", desc := "()Ljava/lang/Class;" } : Jvm.MethodName)) ∈ lw_all := lw_g (lw_at lw_m4 25 rfl) rfl
theorem q835 : (Jvm.Cond.instanceMethod ({ cls := "MoodFare$Town", name := "hasStreet", desc := "(II)Z" } : Jvm.MethodName)) ∈ lw_all := lw_g (lw_at lw_m4 50 rfl) rfl
theorem q836 : (Jvm.Cond.selects "MoodFare$Town" ({ cls := "MoodFare$Town", name := "hasStreet", desc := "(II)Z" } : Jvm.MethodName) ({ cls := "MoodFare$Town", name := "hasStreet", desc := "(II)Z" } : Jvm.MethodName)) ∈ lw_all := lw_g (lw_at lw_m4 51 rfl) rfl
theorem q837 : (Jvm.Cond.code ({ cls := "MoodFare$Town", name := "hasStreet", desc := "(II)Z" } : Jvm.MethodName) prog_22_method_9_code (4 : Nat) (Option.some Jvm.ClassFile.FieldType.boolean)) ∈ lw_all := lw_g (lw_at lw_m4 52 rfl) rfl
theorem q840 : (Jvm.Cond.instanceMethod ({ cls := "MoodFare$Town", name := "become", desc := "(LMoodFare$Town;)V" } : Jvm.MethodName)) ∈ lw_all := lw_g (lw_at lw_m4 55 rfl) rfl
theorem q841 : (Jvm.Cond.selects "MoodFare$Town" ({ cls := "MoodFare$Town", name := "become", desc := "(LMoodFare$Town;)V" } : Jvm.MethodName) ({ cls := "MoodFare$Town", name := "become", desc := "(LMoodFare$Town;)V" } : Jvm.MethodName)) ∈ lw_all := lw_g (lw_at lw_m4 56 rfl) rfl
theorem q842 : (Jvm.Cond.code ({ cls := "MoodFare$Town", name := "become", desc := "(LMoodFare$Town;)V" } : Jvm.MethodName) prog_22_method_2_code (3 : Nat) (Option.none : Option Jvm.ClassFile.FieldType)) ∈ lw_all := lw_g (lw_at lw_m4 57 rfl) rfl
theorem q843 : (Jvm.Cond.methodLink "MoodFare$Town" (35 : Nat) ({ cls := "java/lang/System", name := "arraycopy", desc := "(Ljava/lang/Object;ILjava/lang/Object;II)V" } : Jvm.MethodName)) ∈ lw_all := lw_g (lw_at lw_m4 58 rfl) rfl
theorem q844 : (Jvm.Cond.interfaceEntry "MoodFare$Town" (41 : Nat)) ∈ lw_tbl := lw_at lw_m4 59 rfl
theorem q845 : (Jvm.Cond.methodLink "MoodFare$Town" (41 : Nat) ({ cls := "java/util/List", name := "clear", desc := "()V" } : Jvm.MethodName)) ∈ lw_all := lw_g (lw_at lw_m4 60 rfl) rfl
theorem q853 : (Jvm.Cond.interfaceEntry "MoodFare$Town" (50 : Nat)) ∈ lw_tbl := lw_at lw_m4 68 rfl
theorem q854 : (Jvm.Cond.methodLink "MoodFare$Town" (50 : Nat) ({ cls := "java/util/List", name := "get", desc := "(I)Ljava/lang/Object;" } : Jvm.MethodName)) ∈ lw_all := lw_g (lw_at lw_m4 69 rfl) rfl
theorem q872 : (Jvm.Cond.classLink "MoodFare$Town" (54 : Nat) "MoodFare$Corner") ∈ lw_all := lw_g (lw_at lw_m4 87 rfl) rfl
theorem q873 : (Jvm.Cond.interfaceEntry "MoodFare$Town" (56 : Nat)) ∈ lw_tbl := lw_at lw_m4 88 rfl
theorem q874 : (Jvm.Cond.methodLink "MoodFare$Town" (56 : Nat) ({ cls := "java/util/List", name := "add", desc := "(Ljava/lang/Object;)Z" } : Jvm.MethodName)) ∈ lw_all := lw_g (lw_at lw_m4 89 rfl) rfl
theorem q875 : (Jvm.Cond.methodLink "MoodFare$Town" (60 : Nat) ({ cls := "MoodFare$Town", name := "rideAs", desc := "(LMoodFare$Town;)V" } : Jvm.MethodName)) ∈ lw_all := lw_g (lw_at lw_m4 90 rfl) rfl
theorem q876 : (Jvm.Cond.instanceMethod ({ cls := "MoodFare$Town", name := "rideAs", desc := "(LMoodFare$Town;)V" } : Jvm.MethodName)) ∈ lw_all := lw_g (lw_at lw_m4 91 rfl) rfl
theorem q877 : (Jvm.Cond.selects "MoodFare$Town" ({ cls := "MoodFare$Town", name := "rideAs", desc := "(LMoodFare$Town;)V" } : Jvm.MethodName) ({ cls := "MoodFare$Town", name := "rideAs", desc := "(LMoodFare$Town;)V" } : Jvm.MethodName)) ∈ lw_all := lw_g (lw_at lw_m4 92 rfl) rfl
theorem q878 : (Jvm.Cond.code ({ cls := "MoodFare$Town", name := "rideAs", desc := "(LMoodFare$Town;)V" } : Jvm.MethodName) prog_22_method_3_code (2 : Nat) (Option.none : Option Jvm.ClassFile.FieldType)) ∈ lw_all := lw_g (lw_at lw_m4 93 rfl) rfl
theorem q892 : (Jvm.Cond.instanceMethod ({ cls := "MoodFare$Town", name := "isWay", desc := "(I)Z" } : Jvm.MethodName)) ∈ lw_all := lw_g (lw_at lw_m4 107 rfl) rfl
theorem q893 : (Jvm.Cond.selects "MoodFare$Town" ({ cls := "MoodFare$Town", name := "isWay", desc := "(I)Z" } : Jvm.MethodName) ({ cls := "MoodFare$Town", name := "isWay", desc := "(I)Z" } : Jvm.MethodName)) ∈ lw_all := lw_g (lw_at lw_m4 108 rfl) rfl
theorem q894 : (Jvm.Cond.code ({ cls := "MoodFare$Town", name := "isWay", desc := "(I)Z" } : Jvm.MethodName) prog_22_method_5_code (2 : Nat) (Option.some Jvm.ClassFile.FieldType.boolean)) ∈ lw_all := lw_g (lw_at lw_m4 109 rfl) rfl
theorem q895 : (Jvm.Cond.methodLinkNest "MoodFare$Town" (79 : Nat) ({ cls := "MoodFare", name := "isIn", desc := "(JJJ)Z" } : Jvm.MethodName) "MoodFare") ∈ lw_tbl := lw_at lw_m4 110 rfl
theorem q896 : (Jvm.Cond.methodLinkNest "MoodFare$Town" (83 : Nat) ({ cls := "MoodFare", name := "has", desc := "(II)Z" } : Jvm.MethodName) "MoodFare") ∈ lw_tbl := lw_at lw_m4 111 rfl
theorem q905 : (Jvm.Cond.instanceMethod ({ cls := "MoodFare$Town", name := "ride", desc := "(I)I" } : Jvm.MethodName)) ∈ lw_all := lw_g (lw_at lw_m4 120 rfl) rfl
theorem q906 : (Jvm.Cond.selects "MoodFare$Town" ({ cls := "MoodFare$Town", name := "ride", desc := "(I)I" } : Jvm.MethodName) ({ cls := "MoodFare$Town", name := "ride", desc := "(I)I" } : Jvm.MethodName)) ∈ lw_all := lw_g (lw_at lw_m4 121 rfl) rfl
theorem q907 : (Jvm.Cond.code ({ cls := "MoodFare$Town", name := "ride", desc := "(I)I" } : Jvm.MethodName) prog_22_method_8_code (3 : Nat) (Option.some Jvm.ClassFile.FieldType.int)) ∈ lw_all := lw_g (lw_at lw_m4 122 rfl) rfl
theorem q908 : (Jvm.Cond.methodLink "MoodFare$Town" (102 : Nat) ({ cls := "MoodFare$Town", name := "cost", desc := "(I)I" } : Jvm.MethodName)) ∈ lw_all := lw_g (lw_at lw_m4 123 rfl) rfl
theorem q909 : (Jvm.Cond.instanceMethod ({ cls := "MoodFare$Town", name := "cost", desc := "(I)I" } : Jvm.MethodName)) ∈ lw_all := lw_g (lw_at lw_m4 124 rfl) rfl
theorem q910 : (Jvm.Cond.selects "MoodFare$Town" ({ cls := "MoodFare$Town", name := "cost", desc := "(I)I" } : Jvm.MethodName) ({ cls := "MoodFare$Town", name := "cost", desc := "(I)I" } : Jvm.MethodName)) ∈ lw_all := lw_g (lw_at lw_m4 125 rfl) rfl
theorem q911 : (Jvm.Cond.code ({ cls := "MoodFare$Town", name := "cost", desc := "(I)I" } : Jvm.MethodName) prog_22_method_7_code (2 : Nat) (Option.some Jvm.ClassFile.FieldType.int)) ∈ lw_all := lw_g (lw_at lw_m4 126 rfl) rfl
theorem q912 : (Jvm.Cond.methodLink "MoodFare$Town" (91 : Nat) ({ cls := "MoodFare$Town", name := "passed", desc := "(I)I" } : Jvm.MethodName)) ∈ lw_all := lw_g (lw_at lw_m4 127 rfl) rfl
theorem q913 : (Jvm.Cond.instanceMethod ({ cls := "MoodFare$Town", name := "passed", desc := "(I)I" } : Jvm.MethodName)) ∈ lw_all := lw_g (lw_at lw_m4 128 rfl) rfl
theorem q914 : (Jvm.Cond.selects "MoodFare$Town" ({ cls := "MoodFare$Town", name := "passed", desc := "(I)I" } : Jvm.MethodName) ({ cls := "MoodFare$Town", name := "passed", desc := "(I)I" } : Jvm.MethodName)) ∈ lw_all := lw_g (lw_at lw_m4 129 rfl) rfl
theorem q915 : (Jvm.Cond.code ({ cls := "MoodFare$Town", name := "passed", desc := "(I)I" } : Jvm.MethodName) prog_22_method_6_code (2 : Nat) (Option.some Jvm.ClassFile.FieldType.int)) ∈ lw_all := lw_g (lw_at lw_m4 130 rfl) rfl
theorem q916 : (Jvm.Cond.methodLink "MoodFare$Town" (87 : Nat) ({ cls := "MoodFare$Corner", name := "passed", desc := "(III)I" } : Jvm.MethodName)) ∈ lw_all := lw_g (lw_at lw_m4 131 rfl) rfl
theorem q939 : (Jvm.Cond.methodLink "MoodFare$Town" (94 : Nat) ({ cls := "java/lang/Math", name := "abs", desc := "(I)I" } : Jvm.MethodName)) ∈ lw_all := lw_g (lw_at lw_m4 154 rfl) rfl
theorem q942 : (Jvm.Cond.methodLink "MoodFare$Town" (99 : Nat) ({ cls := "MoodFare$Corner", name := "fee", desc := "()I" } : Jvm.MethodName)) ∈ lw_all := lw_g (lw_at lw_m4 157 rfl) rfl
theorem q951 : (Jvm.Cond.methodLink "MoodFare$Town" (105 : Nat) ({ cls := "java/lang/Math", name := "min", desc := "(II)I" } : Jvm.MethodName)) ∈ lw_all := lw_g (lw_at lw_m4 166 rfl) rfl
theorem q1899 : (Jvm.Cond.castable "MoodFare$Town" "java/lang/Object") ∈ lw_tbl := lw_at lw_m8 154 rfl
theorem in_X2 : ∀ w ∈ wsX20, w ∈ lw_all := lw_in wsX20 [205, 207, 209, 211, 213, 215, 217, 219, 221, 223, 225] (by decide +kernel) (by decide +kernel)

/-! MoodFare$Trail -/
set_option maxRecDepth 100000
def RX3 : String := "MoodFare$Trail"
def TX3 : u_T := fun k => match k with
  | 0 => ("MoodFare$Trail", "body", "[I", true)
  | _ => ("MoodFare$Trail", "many", "I", false)
def tyX3 : Nat → FieldType := fun k => match k with
  | 0 => .array .int
  | _ => .int
abbrev wsX30 : List Cond := u_ws RX3 TX3 2
theorem nmX3 : ∀ a, a < 2 → ∀ b, b < 2 → a ≠ b → (TX3 a).2.1 ≠ (TX3 b).2.1 := by decide +kernel
theorem tyX3_ok : ∀ k, k < 2 → parseFieldDescriptor (TX3 k).2.2.1 = some (tyX3 k) := by decide +kernel
abbrev cX3_init : ByteArray := prog_23_method_1_code
def yX3_init : MethodName := ⟨RX3, "<init>", "()V"⟩
def dkwX3_init_0 : List UInt8 := [42, 183, 0, 3, 42, 16, 16, 188, 10, 181, 0, 9, 177]
abbrev dktX3_init_0 : List UInt8 := dkwX3_init_0 ++ []
theorem dksX3_init_0 : cX3_init.data.toList.drop 0 = dktX3_init_0 := by decide +kernel
theorem dX3_init_0 : decode cX3_init 0 = .ok (.aload_n 0, 1) := dk_42 (dk_at dksX3_init_0 0 rfl rfl)
theorem dX3_init_1 : decode cX3_init 1 = .ok (.invokespecial 3, 3) := dk_183 0 3 (dk_at dksX3_init_0 1 rfl rfl)
theorem dX3_init_4 : decode cX3_init 4 = .ok (.aload_n 0, 1) := dk_42 (dk_at dksX3_init_0 4 rfl rfl)
theorem dX3_init_5 : decode cX3_init 5 = .ok (.bipush 16, 2) := dk_16 16 (dk_at dksX3_init_0 5 rfl rfl)
theorem dX3_init_7 : decode cX3_init 7 = .ok (.newarray .int, 2) := dk_188_10 (dk_at dksX3_init_0 7 rfl rfl)
theorem dX3_init_9 : decode cX3_init 9 = .ok (.putfield 9, 3) := dk_181 0 9 (dk_at dksX3_init_0 9 rfl rfl)
theorem dX3_init_12 : decode cX3_init 12 = .ok (.return_, 1) := dk_177 (dk_at dksX3_init_0 12 rfl rfl)
abbrev cX3_begins : ByteArray := prog_23_method_2_code
def yX3_begins : MethodName := ⟨RX3, "begins", "(I)V"⟩
def dkwX3_begins_1 : List UInt8 := [27, 79, 177]
abbrev dktX3_begins_1 : List UInt8 := dkwX3_begins_1 ++ []
def dkwX3_begins_0 : List UInt8 := [42, 180, 0, 15, 16, 16, 162, 0, 20, 42, 180, 0, 9, 42, 89, 180, 0, 15, 90, 4, 96, 181, 0, 15]
abbrev dktX3_begins_0 : List UInt8 := dkwX3_begins_0 ++ dktX3_begins_1
theorem dksX3_begins_0 : cX3_begins.data.toList.drop 0 = dktX3_begins_0 := by decide +kernel
theorem dksX3_begins_1 : cX3_begins.data.toList.drop 24 = dktX3_begins_1 := dk_seg dksX3_begins_0 24 rfl rfl
theorem dX3_begins_0 : decode cX3_begins 0 = .ok (.aload_n 0, 1) := dk_42 (dk_at dksX3_begins_0 0 rfl rfl)
theorem dX3_begins_1 : decode cX3_begins 1 = .ok (.getfield 15, 3) := dk_180 0 15 (dk_at dksX3_begins_0 1 rfl rfl)
theorem dX3_begins_4 : decode cX3_begins 4 = .ok (.bipush 16, 2) := dk_16 16 (dk_at dksX3_begins_0 4 rfl rfl)
theorem dX3_begins_6 : decode cX3_begins 6 = .ok (.if_icmp .ge 20, 3) := dk_162 0 20 (dk_at dksX3_begins_0 6 rfl rfl)
theorem dX3_begins_9 : decode cX3_begins 9 = .ok (.aload_n 0, 1) := dk_42 (dk_at dksX3_begins_0 9 rfl rfl)
theorem dX3_begins_10 : decode cX3_begins 10 = .ok (.getfield 9, 3) := dk_180 0 9 (dk_at dksX3_begins_0 10 rfl rfl)
theorem dX3_begins_13 : decode cX3_begins 13 = .ok (.aload_n 0, 1) := dk_42 (dk_at dksX3_begins_0 13 rfl rfl)
theorem dX3_begins_14 : decode cX3_begins 14 = .ok (.dup, 1) := dk_89 (dk_at dksX3_begins_0 14 rfl rfl)
theorem dX3_begins_15 : decode cX3_begins 15 = .ok (.getfield 15, 3) := dk_180 0 15 (dk_at dksX3_begins_0 15 rfl rfl)
theorem dX3_begins_18 : decode cX3_begins 18 = .ok (.dup_x1, 1) := dk_90 (dk_at dksX3_begins_0 18 rfl rfl)
theorem dX3_begins_19 : decode cX3_begins 19 = .ok (.iconst 1, 1) := dk_4 (dk_at dksX3_begins_0 19 rfl rfl)
theorem dX3_begins_20 : decode cX3_begins 20 = .ok (.iadd, 1) := dk_96 (dk_at dksX3_begins_0 20 rfl rfl)
theorem dX3_begins_21 : decode cX3_begins 21 = .ok (.putfield 15, 3) := dk_181 0 15 (dk_at dksX3_begins_0 21 rfl rfl)
theorem dX3_begins_24 : decode cX3_begins 24 = .ok (.iload_n 1, 1) := dk_27 (dk_at dksX3_begins_1 0 rfl rfl)
theorem dX3_begins_25 : decode cX3_begins 25 = .ok (.iastore, 1) := dk_79 (dk_at dksX3_begins_1 1 rfl rfl)
theorem dX3_begins_26 : decode cX3_begins 26 = .ok (.return_, 1) := dk_177 (dk_at dksX3_begins_1 2 rfl rfl)
theorem q72 : (Jvm.Cond.initialized "MoodFare$Trail") ∈ lw_all := lw_g (lw_at lw_m1 7 rfl) rfl
theorem q231 : (Jvm.Cond.instantiable "MoodFare$Trail" (2 : Nat)) ∈ lw_all := lw_g (lw_at lw_m1 166 rfl) rfl
theorem q233 : (Jvm.Cond.instanceMethod ({ cls := "MoodFare$Trail", name := "<init>", desc := "()V" } : Jvm.MethodName)) ∈ lw_all := lw_g (lw_at lw_m1 168 rfl) rfl
theorem q234 : (Jvm.Cond.code ({ cls := "MoodFare$Trail", name := "<init>", desc := "()V" } : Jvm.MethodName) prog_23_method_1_code (1 : Nat) (Option.none : Option Jvm.ClassFile.FieldType)) ∈ lw_all := lw_g (lw_at lw_m1 169 rfl) rfl
theorem q235 : (Jvm.Cond.methodLink "MoodFare$Trail" (3 : Nat) ({ cls := "java/lang/Object", name := "<init>", desc := "()V" } : Jvm.MethodName)) ∈ lw_all := lw_g (lw_at lw_m1 170 rfl) rfl
theorem q236 : (Jvm.Cond.fieldLink "MoodFare$Trail" (9 : Nat) "MoodFare$Trail" "body" "[I") ∈ lw_all := lw_g (lw_at lw_m1 171 rfl) rfl
theorem q238 : (Jvm.Cond.fieldLink "MoodFare$Trail" (15 : Nat) "MoodFare$Trail" "many" "I") ∈ lw_all := lw_g (lw_at lw_m1 173 rfl) rfl
theorem q240 : (Jvm.Cond.laysFinal "MoodFare$Trail" "MoodFare$Trail" "body" "[I") ∈ lw_all := lw_g (lw_at lw_m1 175 rfl) rfl
theorem q241 : (Jvm.Cond.soleField "MoodFare$Trail" "body") ∈ lw_all := lw_g (lw_at lw_m1 176 rfl) rfl
theorem q242 : (Jvm.Cond.lays "MoodFare$Trail" "MoodFare$Trail" "many" "I") ∈ lw_all := lw_g (lw_at lw_m1 177 rfl) rfl
theorem q243 : (Jvm.Cond.soleField "MoodFare$Trail" "many") ∈ lw_all := lw_g (lw_at lw_m1 178 rfl) rfl
theorem q244 : (Jvm.Cond.superclass "MoodFare$Trail" "java/lang/Object") ∈ lw_all := lw_g (lw_at lw_m1 179 rfl) rfl
theorem q811 : (Jvm.Cond.selects "MoodFare$Trail" ({ cls := "java/lang/Object", name := "getClass", desc := "()Ljava/lang/Class;" } : Jvm.MethodName) ({ cls := "java/lang/Object", name := "getClass", desc := "()Ljava/lang/Class;" } : Jvm.MethodName)) ∈ lw_all := lw_g (lw_at lw_m4 26 rfl) rfl
theorem q1364 : (Jvm.Cond.instanceMethod ({ cls := "MoodFare$Trail", name := "begins", desc := "(I)V" } : Jvm.MethodName)) ∈ lw_all := lw_g (lw_at lw_m6 99 rfl) rfl
theorem q1365 : (Jvm.Cond.selects "MoodFare$Trail" ({ cls := "MoodFare$Trail", name := "begins", desc := "(I)V" } : Jvm.MethodName) ({ cls := "MoodFare$Trail", name := "begins", desc := "(I)V" } : Jvm.MethodName)) ∈ lw_all := lw_g (lw_at lw_m6 100 rfl) rfl
theorem q1366 : (Jvm.Cond.code ({ cls := "MoodFare$Trail", name := "begins", desc := "(I)V" } : Jvm.MethodName) prog_23_method_2_code (2 : Nat) (Option.none : Option Jvm.ClassFile.FieldType)) ∈ lw_all := lw_g (lw_at lw_m6 101 rfl) rfl
theorem q1902 : (Jvm.Cond.castable "MoodFare$Trail" "java/lang/Object") ∈ lw_tbl := lw_at lw_m8 157 rfl
theorem in_X3 : ∀ w ∈ wsX30, w ∈ lw_all := lw_in wsX30 [240, 242] (by decide +kernel) (by decide +kernel)

/-! MoodFare$Reader -/
set_option maxRecDepth 100000
def RX5 : String := "MoodFare$Reader"
def TX5 : u_T := fun k => match k with
  | 0 => ("MoodFare$Reader", "text", "[B", true)
  | 1 => ("MoodFare$Reader", "size", "I", true)
  | 2 => ("MoodFare$Reader", "at", "I", false)
  | 3 => ("MoodFare$Reader", "token", "I", false)
  | 4 => ("MoodFare$Reader", "from", "I", false)
  | 5 => ("MoodFare$Reader", "value", "I", false)
  | _ => ("MoodFare$Reader", "made", "LMoodFare$Town;", true)
def tyX5 : Nat → FieldType := fun k => match k with
  | 0 => .array .byte
  | 1 => .int
  | 2 => .int
  | 3 => .int
  | 4 => .int
  | 5 => .int
  | _ => .object "MoodFare$Town"
abbrev wsX50 : List Cond := u_ws RX5 TX5 7
theorem nmX5 : ∀ a, a < 7 → ∀ b, b < 7 → a ≠ b → (TX5 a).2.1 ≠ (TX5 b).2.1 := by decide +kernel
theorem tyX5_ok : ∀ k, k < 7 → parseFieldDescriptor (TX5 k).2.2.1 = some (tyX5 k) := by decide +kernel
abbrev cX5_init : ByteArray := prog_16_method_1_code
def yX5_init : MethodName := ⟨RX5, "<init>", "([BI)V"⟩
def dkwX5_init_1 : List UInt8 := [181, 0, 22, 177]
abbrev dktX5_init_1 : List UInt8 := dkwX5_init_1 ++ []
def dkwX5_init_0 : List UInt8 := [42, 183, 0, 3, 42, 187, 0, 9, 89, 183, 0, 11, 181, 0, 12, 42, 43, 181, 0, 18, 42, 28]
abbrev dktX5_init_0 : List UInt8 := dkwX5_init_0 ++ dktX5_init_1
theorem dksX5_init_0 : cX5_init.data.toList.drop 0 = dktX5_init_0 := by decide +kernel
theorem dksX5_init_1 : cX5_init.data.toList.drop 22 = dktX5_init_1 := dk_seg dksX5_init_0 22 rfl rfl
theorem dX5_init_0 : decode cX5_init 0 = .ok (.aload_n 0, 1) := dk_42 (dk_at dksX5_init_0 0 rfl rfl)
theorem dX5_init_1 : decode cX5_init 1 = .ok (.invokespecial 3, 3) := dk_183 0 3 (dk_at dksX5_init_0 1 rfl rfl)
theorem dX5_init_4 : decode cX5_init 4 = .ok (.aload_n 0, 1) := dk_42 (dk_at dksX5_init_0 4 rfl rfl)
theorem dX5_init_5 : decode cX5_init 5 = .ok (.new 9, 3) := dk_187 0 9 (dk_at dksX5_init_0 5 rfl rfl)
theorem dX5_init_8 : decode cX5_init 8 = .ok (.dup, 1) := dk_89 (dk_at dksX5_init_0 8 rfl rfl)
theorem dX5_init_9 : decode cX5_init 9 = .ok (.invokespecial 11, 3) := dk_183 0 11 (dk_at dksX5_init_0 9 rfl rfl)
theorem dX5_init_12 : decode cX5_init 12 = .ok (.putfield 12, 3) := dk_181 0 12 (dk_at dksX5_init_0 12 rfl rfl)
theorem dX5_init_15 : decode cX5_init 15 = .ok (.aload_n 0, 1) := dk_42 (dk_at dksX5_init_0 15 rfl rfl)
theorem dX5_init_16 : decode cX5_init 16 = .ok (.aload_n 1, 1) := dk_43 (dk_at dksX5_init_0 16 rfl rfl)
theorem dX5_init_17 : decode cX5_init 17 = .ok (.putfield 18, 3) := dk_181 0 18 (dk_at dksX5_init_0 17 rfl rfl)
theorem dX5_init_20 : decode cX5_init 20 = .ok (.aload_n 0, 1) := dk_42 (dk_at dksX5_init_0 20 rfl rfl)
theorem dX5_init_21 : decode cX5_init 21 = .ok (.iload_n 2, 1) := dk_28 (dk_at dksX5_init_0 21 rfl rfl)
theorem dX5_init_22 : decode cX5_init 22 = .ok (.putfield 22, 3) := dk_181 0 22 (dk_at dksX5_init_1 0 rfl rfl)
theorem dX5_init_25 : decode cX5_init 25 = .ok (.return_, 1) := dk_177 (dk_at dksX5_init_1 3 rfl rfl)
abbrev cX5_all : ByteArray := prog_16_method_8_code
def yX5_all : MethodName := ⟨RX5, "all", "()V"⟩
def dkwX5_all_7 : List UInt8 := [4, 100, 181, 0, 102, 177]
abbrev dktX5_all_7 : List UInt8 := dkwX5_all_7 ++ []
def dkwX5_all_6 : List UInt8 := [182, 0, 60, 42, 180, 0, 12, 27, 181, 0, 96, 42, 180, 0, 12, 4, 42, 180, 0, 12, 180, 0, 99, 120]
abbrev dktX5_all_6 : List UInt8 := dkwX5_all_6 ++ dktX5_all_7
def dkwX5_all_5 : List UInt8 := [153, 0, 10, 42, 182, 0, 93, 167, 255, 242, 42, 42, 180, 0, 52, 154, 0, 7, 4, 167, 0, 4, 3, 4]
abbrev dktX5_all_5 : List UInt8 := dkwX5_all_5 ++ dktX5_all_6
def dkwX5_all_4 : List UInt8 := [180, 0, 37, 182, 0, 84, 155, 0, 10, 42, 182, 0, 90, 167, 255, 232, 42, 4, 16, 120, 182, 0, 67]
abbrev dktX5_all_4 : List UInt8 := dkwX5_all_4 ++ dktX5_all_5
def dkwX5_all_3 : List UInt8 := [155, 0, 7, 4, 167, 0, 4, 3, 4, 182, 0, 60, 42, 180, 0, 52, 4, 160, 0, 22, 18, 82, 42]
abbrev dktX5_all_3 : List UInt8 := dkwX5_all_3 ++ dktX5_all_4
def dkwX5_all_2 : List UInt8 := [42, 16, 59, 182, 0, 75, 42, 42, 180, 0, 52, 4, 160, 0, 19, 18, 82, 42, 180, 0, 37, 182, 0, 84]
abbrev dktX5_all_2 : List UInt8 := dkwX5_all_2 ++ dktX5_all_3
def dkwX5_all_1 : List UInt8 := [182, 0, 71, 60, 42, 16, 44, 182, 0, 75, 42, 180, 0, 12, 42, 3, 16, 9, 182, 0, 71, 181, 0, 79]
abbrev dktX5_all_1 : List UInt8 := dkwX5_all_1 ++ dktX5_all_2
def dkwX5_all_0 : List UInt8 := [42, 182, 0, 64, 42, 42, 4, 16, 116, 182, 0, 67, 4, 182, 0, 60, 42, 182, 0, 64, 42, 4, 16, 9]
abbrev dktX5_all_0 : List UInt8 := dkwX5_all_0 ++ dktX5_all_1
theorem dksX5_all_0 : cX5_all.data.toList.drop 0 = dktX5_all_0 := by decide +kernel
theorem dksX5_all_1 : cX5_all.data.toList.drop 24 = dktX5_all_1 := dk_seg dksX5_all_0 24 rfl rfl
theorem dksX5_all_2 : cX5_all.data.toList.drop 48 = dktX5_all_2 := dk_seg dksX5_all_1 24 rfl rfl
theorem dksX5_all_3 : cX5_all.data.toList.drop 72 = dktX5_all_3 := dk_seg dksX5_all_2 24 rfl rfl
theorem dksX5_all_4 : cX5_all.data.toList.drop 95 = dktX5_all_4 := dk_seg dksX5_all_3 23 rfl rfl
theorem dksX5_all_5 : cX5_all.data.toList.drop 118 = dktX5_all_5 := dk_seg dksX5_all_4 23 rfl rfl
theorem dksX5_all_6 : cX5_all.data.toList.drop 142 = dktX5_all_6 := dk_seg dksX5_all_5 24 rfl rfl
theorem dksX5_all_7 : cX5_all.data.toList.drop 166 = dktX5_all_7 := dk_seg dksX5_all_6 24 rfl rfl
theorem dX5_all_0 : decode cX5_all 0 = .ok (.aload_n 0, 1) := dk_42 (dk_at dksX5_all_0 0 rfl rfl)
theorem dX5_all_1 : decode cX5_all 1 = .ok (.invokevirtual 64, 3) := dk_182 0 64 (dk_at dksX5_all_0 1 rfl rfl)
theorem dX5_all_4 : decode cX5_all 4 = .ok (.aload_n 0, 1) := dk_42 (dk_at dksX5_all_0 4 rfl rfl)
theorem dX5_all_5 : decode cX5_all 5 = .ok (.aload_n 0, 1) := dk_42 (dk_at dksX5_all_0 5 rfl rfl)
theorem dX5_all_6 : decode cX5_all 6 = .ok (.iconst 1, 1) := dk_4 (dk_at dksX5_all_0 6 rfl rfl)
theorem dX5_all_7 : decode cX5_all 7 = .ok (.bipush 116, 2) := dk_16 116 (dk_at dksX5_all_0 7 rfl rfl)
theorem dX5_all_9 : decode cX5_all 9 = .ok (.invokevirtual 67, 3) := dk_182 0 67 (dk_at dksX5_all_0 9 rfl rfl)
theorem dX5_all_12 : decode cX5_all 12 = .ok (.iconst 1, 1) := dk_4 (dk_at dksX5_all_0 12 rfl rfl)
theorem dX5_all_13 : decode cX5_all 13 = .ok (.invokevirtual 60, 3) := dk_182 0 60 (dk_at dksX5_all_0 13 rfl rfl)
theorem dX5_all_16 : decode cX5_all 16 = .ok (.aload_n 0, 1) := dk_42 (dk_at dksX5_all_0 16 rfl rfl)
theorem dX5_all_17 : decode cX5_all 17 = .ok (.invokevirtual 64, 3) := dk_182 0 64 (dk_at dksX5_all_0 17 rfl rfl)
theorem dX5_all_20 : decode cX5_all 20 = .ok (.aload_n 0, 1) := dk_42 (dk_at dksX5_all_0 20 rfl rfl)
theorem dX5_all_21 : decode cX5_all 21 = .ok (.iconst 1, 1) := dk_4 (dk_at dksX5_all_0 21 rfl rfl)
theorem dX5_all_22 : decode cX5_all 22 = .ok (.bipush 9, 2) := dk_16 9 (dk_at dksX5_all_0 22 rfl rfl)
theorem dX5_all_24 : decode cX5_all 24 = .ok (.invokevirtual 71, 3) := dk_182 0 71 (dk_at dksX5_all_1 0 rfl rfl)
theorem dX5_all_27 : decode cX5_all 27 = .ok (.istore_n 1, 1) := dk_60 (dk_at dksX5_all_1 3 rfl rfl)
theorem dX5_all_28 : decode cX5_all 28 = .ok (.aload_n 0, 1) := dk_42 (dk_at dksX5_all_1 4 rfl rfl)
theorem dX5_all_29 : decode cX5_all 29 = .ok (.bipush 44, 2) := dk_16 44 (dk_at dksX5_all_1 5 rfl rfl)
theorem dX5_all_31 : decode cX5_all 31 = .ok (.invokevirtual 75, 3) := dk_182 0 75 (dk_at dksX5_all_1 7 rfl rfl)
theorem dX5_all_34 : decode cX5_all 34 = .ok (.aload_n 0, 1) := dk_42 (dk_at dksX5_all_1 10 rfl rfl)
theorem dX5_all_35 : decode cX5_all 35 = .ok (.getfield 12, 3) := dk_180 0 12 (dk_at dksX5_all_1 11 rfl rfl)
theorem dX5_all_38 : decode cX5_all 38 = .ok (.aload_n 0, 1) := dk_42 (dk_at dksX5_all_1 14 rfl rfl)
theorem dX5_all_39 : decode cX5_all 39 = .ok (.iconst 0, 1) := dk_3 (dk_at dksX5_all_1 15 rfl rfl)
theorem dX5_all_40 : decode cX5_all 40 = .ok (.bipush 9, 2) := dk_16 9 (dk_at dksX5_all_1 16 rfl rfl)
theorem dX5_all_42 : decode cX5_all 42 = .ok (.invokevirtual 71, 3) := dk_182 0 71 (dk_at dksX5_all_1 18 rfl rfl)
theorem dX5_all_45 : decode cX5_all 45 = .ok (.putfield 79, 3) := dk_181 0 79 (dk_at dksX5_all_1 21 rfl rfl)
theorem dX5_all_48 : decode cX5_all 48 = .ok (.aload_n 0, 1) := dk_42 (dk_at dksX5_all_2 0 rfl rfl)
theorem dX5_all_49 : decode cX5_all 49 = .ok (.bipush 59, 2) := dk_16 59 (dk_at dksX5_all_2 1 rfl rfl)
theorem dX5_all_51 : decode cX5_all 51 = .ok (.invokevirtual 75, 3) := dk_182 0 75 (dk_at dksX5_all_2 3 rfl rfl)
theorem dX5_all_54 : decode cX5_all 54 = .ok (.aload_n 0, 1) := dk_42 (dk_at dksX5_all_2 6 rfl rfl)
theorem dX5_all_55 : decode cX5_all 55 = .ok (.aload_n 0, 1) := dk_42 (dk_at dksX5_all_2 7 rfl rfl)
theorem dX5_all_56 : decode cX5_all 56 = .ok (.getfield 52, 3) := dk_180 0 52 (dk_at dksX5_all_2 8 rfl rfl)
theorem dX5_all_59 : decode cX5_all 59 = .ok (.iconst 1, 1) := dk_4 (dk_at dksX5_all_2 11 rfl rfl)
theorem dX5_all_60 : decode cX5_all 60 = .ok (.if_icmp .ne 19, 3) := dk_160 0 19 (dk_at dksX5_all_2 12 rfl rfl)
theorem dX5_all_63 : decode cX5_all 63 = .ok (.ldc 82, 2) := dk_18 82 (dk_at dksX5_all_2 15 rfl rfl)
theorem dX5_all_65 : decode cX5_all 65 = .ok (.aload_n 0, 1) := dk_42 (dk_at dksX5_all_2 17 rfl rfl)
theorem dX5_all_66 : decode cX5_all 66 = .ok (.getfield 37, 3) := dk_180 0 37 (dk_at dksX5_all_2 18 rfl rfl)
theorem dX5_all_69 : decode cX5_all 69 = .ok (.invokevirtual 84, 3) := dk_182 0 84 (dk_at dksX5_all_2 21 rfl rfl)
theorem dX5_all_72 : decode cX5_all 72 = .ok (.ifCond .lt 7, 3) := dk_155 0 7 (dk_at dksX5_all_3 0 rfl rfl)
theorem dX5_all_75 : decode cX5_all 75 = .ok (.iconst 1, 1) := dk_4 (dk_at dksX5_all_3 3 rfl rfl)
theorem dX5_all_76 : decode cX5_all 76 = .ok (.goto 4, 3) := dk_167 0 4 (dk_at dksX5_all_3 4 rfl rfl)
theorem dX5_all_79 : decode cX5_all 79 = .ok (.iconst 0, 1) := dk_3 (dk_at dksX5_all_3 7 rfl rfl)
theorem dX5_all_80 : decode cX5_all 80 = .ok (.iconst 1, 1) := dk_4 (dk_at dksX5_all_3 8 rfl rfl)
theorem dX5_all_81 : decode cX5_all 81 = .ok (.invokevirtual 60, 3) := dk_182 0 60 (dk_at dksX5_all_3 9 rfl rfl)
theorem dX5_all_84 : decode cX5_all 84 = .ok (.aload_n 0, 1) := dk_42 (dk_at dksX5_all_3 12 rfl rfl)
theorem dX5_all_85 : decode cX5_all 85 = .ok (.getfield 52, 3) := dk_180 0 52 (dk_at dksX5_all_3 13 rfl rfl)
theorem dX5_all_88 : decode cX5_all 88 = .ok (.iconst 1, 1) := dk_4 (dk_at dksX5_all_3 16 rfl rfl)
theorem dX5_all_89 : decode cX5_all 89 = .ok (.if_icmp .ne 22, 3) := dk_160 0 22 (dk_at dksX5_all_3 17 rfl rfl)
theorem dX5_all_92 : decode cX5_all 92 = .ok (.ldc 82, 2) := dk_18 82 (dk_at dksX5_all_3 20 rfl rfl)
theorem dX5_all_94 : decode cX5_all 94 = .ok (.aload_n 0, 1) := dk_42 (dk_at dksX5_all_3 22 rfl rfl)
theorem dX5_all_95 : decode cX5_all 95 = .ok (.getfield 37, 3) := dk_180 0 37 (dk_at dksX5_all_4 0 rfl rfl)
theorem dX5_all_98 : decode cX5_all 98 = .ok (.invokevirtual 84, 3) := dk_182 0 84 (dk_at dksX5_all_4 3 rfl rfl)
theorem dX5_all_101 : decode cX5_all 101 = .ok (.ifCond .lt 10, 3) := dk_155 0 10 (dk_at dksX5_all_4 6 rfl rfl)
theorem dX5_all_104 : decode cX5_all 104 = .ok (.aload_n 0, 1) := dk_42 (dk_at dksX5_all_4 9 rfl rfl)
theorem dX5_all_105 : decode cX5_all 105 = .ok (.invokevirtual 90, 3) := dk_182 0 90 (dk_at dksX5_all_4 10 rfl rfl)
theorem dX5_all_108 : decode cX5_all 108 = .ok (.goto (-24), 3) := dk_167 255 232 (dk_at dksX5_all_4 13 rfl rfl)
theorem dX5_all_111 : decode cX5_all 111 = .ok (.aload_n 0, 1) := dk_42 (dk_at dksX5_all_4 16 rfl rfl)
theorem dX5_all_112 : decode cX5_all 112 = .ok (.iconst 1, 1) := dk_4 (dk_at dksX5_all_4 17 rfl rfl)
theorem dX5_all_113 : decode cX5_all 113 = .ok (.bipush 120, 2) := dk_16 120 (dk_at dksX5_all_4 18 rfl rfl)
theorem dX5_all_115 : decode cX5_all 115 = .ok (.invokevirtual 67, 3) := dk_182 0 67 (dk_at dksX5_all_4 20 rfl rfl)
theorem dX5_all_118 : decode cX5_all 118 = .ok (.ifCond .eq 10, 3) := dk_153 0 10 (dk_at dksX5_all_5 0 rfl rfl)
theorem dX5_all_121 : decode cX5_all 121 = .ok (.aload_n 0, 1) := dk_42 (dk_at dksX5_all_5 3 rfl rfl)
theorem dX5_all_122 : decode cX5_all 122 = .ok (.invokevirtual 93, 3) := dk_182 0 93 (dk_at dksX5_all_5 4 rfl rfl)
theorem dX5_all_125 : decode cX5_all 125 = .ok (.goto (-14), 3) := dk_167 255 242 (dk_at dksX5_all_5 7 rfl rfl)
theorem dX5_all_128 : decode cX5_all 128 = .ok (.aload_n 0, 1) := dk_42 (dk_at dksX5_all_5 10 rfl rfl)
theorem dX5_all_129 : decode cX5_all 129 = .ok (.aload_n 0, 1) := dk_42 (dk_at dksX5_all_5 11 rfl rfl)
theorem dX5_all_130 : decode cX5_all 130 = .ok (.getfield 52, 3) := dk_180 0 52 (dk_at dksX5_all_5 12 rfl rfl)
theorem dX5_all_133 : decode cX5_all 133 = .ok (.ifCond .ne 7, 3) := dk_154 0 7 (dk_at dksX5_all_5 15 rfl rfl)
theorem dX5_all_136 : decode cX5_all 136 = .ok (.iconst 1, 1) := dk_4 (dk_at dksX5_all_5 18 rfl rfl)
theorem dX5_all_137 : decode cX5_all 137 = .ok (.goto 4, 3) := dk_167 0 4 (dk_at dksX5_all_5 19 rfl rfl)
theorem dX5_all_140 : decode cX5_all 140 = .ok (.iconst 0, 1) := dk_3 (dk_at dksX5_all_5 22 rfl rfl)
theorem dX5_all_141 : decode cX5_all 141 = .ok (.iconst 1, 1) := dk_4 (dk_at dksX5_all_5 23 rfl rfl)
theorem dX5_all_142 : decode cX5_all 142 = .ok (.invokevirtual 60, 3) := dk_182 0 60 (dk_at dksX5_all_6 0 rfl rfl)
theorem dX5_all_145 : decode cX5_all 145 = .ok (.aload_n 0, 1) := dk_42 (dk_at dksX5_all_6 3 rfl rfl)
theorem dX5_all_146 : decode cX5_all 146 = .ok (.getfield 12, 3) := dk_180 0 12 (dk_at dksX5_all_6 4 rfl rfl)
theorem dX5_all_149 : decode cX5_all 149 = .ok (.iload_n 1, 1) := dk_27 (dk_at dksX5_all_6 7 rfl rfl)
theorem dX5_all_150 : decode cX5_all 150 = .ok (.putfield 96, 3) := dk_181 0 96 (dk_at dksX5_all_6 8 rfl rfl)
theorem dX5_all_153 : decode cX5_all 153 = .ok (.aload_n 0, 1) := dk_42 (dk_at dksX5_all_6 11 rfl rfl)
theorem dX5_all_154 : decode cX5_all 154 = .ok (.getfield 12, 3) := dk_180 0 12 (dk_at dksX5_all_6 12 rfl rfl)
theorem dX5_all_157 : decode cX5_all 157 = .ok (.iconst 1, 1) := dk_4 (dk_at dksX5_all_6 15 rfl rfl)
theorem dX5_all_158 : decode cX5_all 158 = .ok (.aload_n 0, 1) := dk_42 (dk_at dksX5_all_6 16 rfl rfl)
theorem dX5_all_159 : decode cX5_all 159 = .ok (.getfield 12, 3) := dk_180 0 12 (dk_at dksX5_all_6 17 rfl rfl)
theorem dX5_all_162 : decode cX5_all 162 = .ok (.getfield 99, 3) := dk_180 0 99 (dk_at dksX5_all_6 20 rfl rfl)
theorem dX5_all_165 : decode cX5_all 165 = .ok (.ishl, 1) := dk_120 (dk_at dksX5_all_6 23 rfl rfl)
theorem dX5_all_166 : decode cX5_all 166 = .ok (.iconst 1, 1) := dk_4 (dk_at dksX5_all_7 0 rfl rfl)
theorem dX5_all_167 : decode cX5_all 167 = .ok (.isub, 1) := dk_100 (dk_at dksX5_all_7 1 rfl rfl)
theorem dX5_all_168 : decode cX5_all 168 = .ok (.putfield 102, 3) := dk_181 0 102 (dk_at dksX5_all_7 2 rfl rfl)
theorem dX5_all_171 : decode cX5_all 171 = .ok (.return_, 1) := dk_177 (dk_at dksX5_all_7 5 rfl rfl)
abbrev cX5_next : ByteArray := prog_16_method_3_code
def yX5_next : MethodName := ⟨RX5, "next", "()V"⟩
def dkwX5_next_9 : List UInt8 := [181, 0, 52, 177]
abbrev dktX5_next_9 : List UInt8 := dkwX5_next_9 ++ []
def dkwX5_next_8 : List UInt8 := [167, 255, 190, 42, 42, 180, 0, 26, 42, 180, 0, 30, 100, 5, 164, 0, 7, 7, 167, 0, 4, 5]
abbrev dktX5_next_8 : List UInt8 := dkwX5_next_8 ++ dktX5_next_9
def dkwX5_next_7 : List UInt8 := [96, 16, 48, 100, 167, 0, 7, 42, 180, 0, 37, 181, 0, 37, 42, 89, 180, 0, 26, 4, 96, 181, 0, 26]
abbrev dktX5_next_7 : List UInt8 := dkwX5_next_7 ++ dktX5_next_8
def dkwX5_next_6 : List UInt8 := [42, 180, 0, 26, 42, 180, 0, 30, 4, 96, 160, 0, 21, 16, 10, 42, 180, 0, 37, 104, 42, 182, 0, 33]
abbrev dktX5_next_6 : List UInt8 := dkwX5_next_6 ++ dktX5_next_7
def dkwX5_next_5 : List UInt8 := [16, 48, 100, 181, 0, 37, 42, 182, 0, 33, 133, 20, 0, 48, 20, 0, 50, 184, 0, 44, 153, 0, 55, 42]
abbrev dktX5_next_5 : List UInt8 := dkwX5_next_5 ++ dktX5_next_6
def dkwX5_next_4 : List UInt8 := [16, 59, 160, 0, 7, 6, 167, 0, 4, 7, 181, 0, 52, 42, 180, 0, 52, 5, 159, 0, 4, 177, 42, 27]
abbrev dktX5_next_4 : List UInt8 := dkwX5_next_4 ++ dktX5_next_5
def dkwX5_next_3 : List UInt8 := [20, 0, 48, 20, 0, 50, 184, 0, 44, 153, 0, 7, 5, 167, 0, 20, 27, 16, 44, 159, 0, 9, 27]
abbrev dktX5_next_3 : List UInt8 := dkwX5_next_3 ++ dktX5_next_4
def dkwX5_next_2 : List UInt8 := [167, 0, 56, 27, 133, 20, 0, 40, 20, 0, 42, 184, 0, 44, 153, 0, 7, 4, 167, 0, 38, 27, 133]
abbrev dktX5_next_2 : List UInt8 := dkwX5_next_2 ++ dktX5_next_3
def dkwX5_next_1 : List UInt8 := [18, 29, 160, 0, 7, 3, 167, 0, 4, 4, 96, 181, 0, 26, 42, 27, 18, 29, 160, 0, 7, 3]
abbrev dktX5_next_1 : List UInt8 := dkwX5_next_1 ++ dktX5_next_2
def dkwX5_next_0 : List UInt8 := [42, 42, 180, 0, 26, 181, 0, 30, 42, 182, 0, 33, 60, 42, 27, 181, 0, 37, 42, 89, 180, 0, 26, 27]
abbrev dktX5_next_0 : List UInt8 := dkwX5_next_0 ++ dktX5_next_1
theorem dksX5_next_0 : cX5_next.data.toList.drop 0 = dktX5_next_0 := by decide +kernel
theorem dksX5_next_1 : cX5_next.data.toList.drop 24 = dktX5_next_1 := dk_seg dksX5_next_0 24 rfl rfl
theorem dksX5_next_2 : cX5_next.data.toList.drop 46 = dktX5_next_2 := dk_seg dksX5_next_1 22 rfl rfl
theorem dksX5_next_3 : cX5_next.data.toList.drop 69 = dktX5_next_3 := dk_seg dksX5_next_2 23 rfl rfl
theorem dksX5_next_4 : cX5_next.data.toList.drop 92 = dktX5_next_4 := dk_seg dksX5_next_3 23 rfl rfl
theorem dksX5_next_5 : cX5_next.data.toList.drop 116 = dktX5_next_5 := dk_seg dksX5_next_4 24 rfl rfl
theorem dksX5_next_6 : cX5_next.data.toList.drop 140 = dktX5_next_6 := dk_seg dksX5_next_5 24 rfl rfl
theorem dksX5_next_7 : cX5_next.data.toList.drop 164 = dktX5_next_7 := dk_seg dksX5_next_6 24 rfl rfl
theorem dksX5_next_8 : cX5_next.data.toList.drop 188 = dktX5_next_8 := dk_seg dksX5_next_7 24 rfl rfl
theorem dksX5_next_9 : cX5_next.data.toList.drop 210 = dktX5_next_9 := dk_seg dksX5_next_8 22 rfl rfl
theorem dX5_next_0 : decode cX5_next 0 = .ok (.aload_n 0, 1) := dk_42 (dk_at dksX5_next_0 0 rfl rfl)
theorem dX5_next_1 : decode cX5_next 1 = .ok (.aload_n 0, 1) := dk_42 (dk_at dksX5_next_0 1 rfl rfl)
theorem dX5_next_2 : decode cX5_next 2 = .ok (.getfield 26, 3) := dk_180 0 26 (dk_at dksX5_next_0 2 rfl rfl)
theorem dX5_next_5 : decode cX5_next 5 = .ok (.putfield 30, 3) := dk_181 0 30 (dk_at dksX5_next_0 5 rfl rfl)
theorem dX5_next_8 : decode cX5_next 8 = .ok (.aload_n 0, 1) := dk_42 (dk_at dksX5_next_0 8 rfl rfl)
theorem dX5_next_9 : decode cX5_next 9 = .ok (.invokevirtual 33, 3) := dk_182 0 33 (dk_at dksX5_next_0 9 rfl rfl)
theorem dX5_next_12 : decode cX5_next 12 = .ok (.istore_n 1, 1) := dk_60 (dk_at dksX5_next_0 12 rfl rfl)
theorem dX5_next_13 : decode cX5_next 13 = .ok (.aload_n 0, 1) := dk_42 (dk_at dksX5_next_0 13 rfl rfl)
theorem dX5_next_14 : decode cX5_next 14 = .ok (.iload_n 1, 1) := dk_27 (dk_at dksX5_next_0 14 rfl rfl)
theorem dX5_next_15 : decode cX5_next 15 = .ok (.putfield 37, 3) := dk_181 0 37 (dk_at dksX5_next_0 15 rfl rfl)
theorem dX5_next_18 : decode cX5_next 18 = .ok (.aload_n 0, 1) := dk_42 (dk_at dksX5_next_0 18 rfl rfl)
theorem dX5_next_19 : decode cX5_next 19 = .ok (.dup, 1) := dk_89 (dk_at dksX5_next_0 19 rfl rfl)
theorem dX5_next_20 : decode cX5_next 20 = .ok (.getfield 26, 3) := dk_180 0 26 (dk_at dksX5_next_0 20 rfl rfl)
theorem dX5_next_23 : decode cX5_next 23 = .ok (.iload_n 1, 1) := dk_27 (dk_at dksX5_next_0 23 rfl rfl)
theorem dX5_next_24 : decode cX5_next 24 = .ok (.ldc 29, 2) := dk_18 29 (dk_at dksX5_next_1 0 rfl rfl)
theorem dX5_next_26 : decode cX5_next 26 = .ok (.if_icmp .ne 7, 3) := dk_160 0 7 (dk_at dksX5_next_1 2 rfl rfl)
theorem dX5_next_29 : decode cX5_next 29 = .ok (.iconst 0, 1) := dk_3 (dk_at dksX5_next_1 5 rfl rfl)
theorem dX5_next_30 : decode cX5_next 30 = .ok (.goto 4, 3) := dk_167 0 4 (dk_at dksX5_next_1 6 rfl rfl)
theorem dX5_next_33 : decode cX5_next 33 = .ok (.iconst 1, 1) := dk_4 (dk_at dksX5_next_1 9 rfl rfl)
theorem dX5_next_34 : decode cX5_next 34 = .ok (.iadd, 1) := dk_96 (dk_at dksX5_next_1 10 rfl rfl)
theorem dX5_next_35 : decode cX5_next 35 = .ok (.putfield 26, 3) := dk_181 0 26 (dk_at dksX5_next_1 11 rfl rfl)
theorem dX5_next_38 : decode cX5_next 38 = .ok (.aload_n 0, 1) := dk_42 (dk_at dksX5_next_1 14 rfl rfl)
theorem dX5_next_39 : decode cX5_next 39 = .ok (.iload_n 1, 1) := dk_27 (dk_at dksX5_next_1 15 rfl rfl)
theorem dX5_next_40 : decode cX5_next 40 = .ok (.ldc 29, 2) := dk_18 29 (dk_at dksX5_next_1 16 rfl rfl)
theorem dX5_next_42 : decode cX5_next 42 = .ok (.if_icmp .ne 7, 3) := dk_160 0 7 (dk_at dksX5_next_1 18 rfl rfl)
theorem dX5_next_45 : decode cX5_next 45 = .ok (.iconst 0, 1) := dk_3 (dk_at dksX5_next_1 21 rfl rfl)
theorem dX5_next_46 : decode cX5_next 46 = .ok (.goto 56, 3) := dk_167 0 56 (dk_at dksX5_next_2 0 rfl rfl)
theorem dX5_next_49 : decode cX5_next 49 = .ok (.iload_n 1, 1) := dk_27 (dk_at dksX5_next_2 3 rfl rfl)
theorem dX5_next_50 : decode cX5_next 50 = .ok (.i2l, 1) := dk_133 (dk_at dksX5_next_2 4 rfl rfl)
theorem dX5_next_51 : decode cX5_next 51 = .ok (.ldc2_w 40, 3) := dk_20 0 40 (dk_at dksX5_next_2 5 rfl rfl)
theorem dX5_next_54 : decode cX5_next 54 = .ok (.ldc2_w 42, 3) := dk_20 0 42 (dk_at dksX5_next_2 8 rfl rfl)
theorem dX5_next_57 : decode cX5_next 57 = .ok (.invokestatic 44, 3) := dk_184 0 44 (dk_at dksX5_next_2 11 rfl rfl)
theorem dX5_next_60 : decode cX5_next 60 = .ok (.ifCond .eq 7, 3) := dk_153 0 7 (dk_at dksX5_next_2 14 rfl rfl)
theorem dX5_next_63 : decode cX5_next 63 = .ok (.iconst 1, 1) := dk_4 (dk_at dksX5_next_2 17 rfl rfl)
theorem dX5_next_64 : decode cX5_next 64 = .ok (.goto 38, 3) := dk_167 0 38 (dk_at dksX5_next_2 18 rfl rfl)
theorem dX5_next_67 : decode cX5_next 67 = .ok (.iload_n 1, 1) := dk_27 (dk_at dksX5_next_2 21 rfl rfl)
theorem dX5_next_68 : decode cX5_next 68 = .ok (.i2l, 1) := dk_133 (dk_at dksX5_next_2 22 rfl rfl)
theorem dX5_next_69 : decode cX5_next 69 = .ok (.ldc2_w 48, 3) := dk_20 0 48 (dk_at dksX5_next_3 0 rfl rfl)
theorem dX5_next_72 : decode cX5_next 72 = .ok (.ldc2_w 50, 3) := dk_20 0 50 (dk_at dksX5_next_3 3 rfl rfl)
theorem dX5_next_75 : decode cX5_next 75 = .ok (.invokestatic 44, 3) := dk_184 0 44 (dk_at dksX5_next_3 6 rfl rfl)
theorem dX5_next_78 : decode cX5_next 78 = .ok (.ifCond .eq 7, 3) := dk_153 0 7 (dk_at dksX5_next_3 9 rfl rfl)
theorem dX5_next_81 : decode cX5_next 81 = .ok (.iconst 2, 1) := dk_5 (dk_at dksX5_next_3 12 rfl rfl)
theorem dX5_next_82 : decode cX5_next 82 = .ok (.goto 20, 3) := dk_167 0 20 (dk_at dksX5_next_3 13 rfl rfl)
theorem dX5_next_85 : decode cX5_next 85 = .ok (.iload_n 1, 1) := dk_27 (dk_at dksX5_next_3 16 rfl rfl)
theorem dX5_next_86 : decode cX5_next 86 = .ok (.bipush 44, 2) := dk_16 44 (dk_at dksX5_next_3 17 rfl rfl)
theorem dX5_next_88 : decode cX5_next 88 = .ok (.if_icmp .eq 9, 3) := dk_159 0 9 (dk_at dksX5_next_3 19 rfl rfl)
theorem dX5_next_91 : decode cX5_next 91 = .ok (.iload_n 1, 1) := dk_27 (dk_at dksX5_next_3 22 rfl rfl)
theorem dX5_next_92 : decode cX5_next 92 = .ok (.bipush 59, 2) := dk_16 59 (dk_at dksX5_next_4 0 rfl rfl)
theorem dX5_next_94 : decode cX5_next 94 = .ok (.if_icmp .ne 7, 3) := dk_160 0 7 (dk_at dksX5_next_4 2 rfl rfl)
theorem dX5_next_97 : decode cX5_next 97 = .ok (.iconst 3, 1) := dk_6 (dk_at dksX5_next_4 5 rfl rfl)
theorem dX5_next_98 : decode cX5_next 98 = .ok (.goto 4, 3) := dk_167 0 4 (dk_at dksX5_next_4 6 rfl rfl)
theorem dX5_next_101 : decode cX5_next 101 = .ok (.iconst 4, 1) := dk_7 (dk_at dksX5_next_4 9 rfl rfl)
theorem dX5_next_102 : decode cX5_next 102 = .ok (.putfield 52, 3) := dk_181 0 52 (dk_at dksX5_next_4 10 rfl rfl)
theorem dX5_next_105 : decode cX5_next 105 = .ok (.aload_n 0, 1) := dk_42 (dk_at dksX5_next_4 13 rfl rfl)
theorem dX5_next_106 : decode cX5_next 106 = .ok (.getfield 52, 3) := dk_180 0 52 (dk_at dksX5_next_4 14 rfl rfl)
theorem dX5_next_109 : decode cX5_next 109 = .ok (.iconst 2, 1) := dk_5 (dk_at dksX5_next_4 17 rfl rfl)
theorem dX5_next_110 : decode cX5_next 110 = .ok (.if_icmp .eq 4, 3) := dk_159 0 4 (dk_at dksX5_next_4 18 rfl rfl)
theorem dX5_next_113 : decode cX5_next 113 = .ok (.return_, 1) := dk_177 (dk_at dksX5_next_4 21 rfl rfl)
theorem dX5_next_114 : decode cX5_next 114 = .ok (.aload_n 0, 1) := dk_42 (dk_at dksX5_next_4 22 rfl rfl)
theorem dX5_next_115 : decode cX5_next 115 = .ok (.iload_n 1, 1) := dk_27 (dk_at dksX5_next_4 23 rfl rfl)
theorem dX5_next_116 : decode cX5_next 116 = .ok (.bipush 48, 2) := dk_16 48 (dk_at dksX5_next_5 0 rfl rfl)
theorem dX5_next_118 : decode cX5_next 118 = .ok (.isub, 1) := dk_100 (dk_at dksX5_next_5 2 rfl rfl)
theorem dX5_next_119 : decode cX5_next 119 = .ok (.putfield 37, 3) := dk_181 0 37 (dk_at dksX5_next_5 3 rfl rfl)
theorem dX5_next_122 : decode cX5_next 122 = .ok (.aload_n 0, 1) := dk_42 (dk_at dksX5_next_5 6 rfl rfl)
theorem dX5_next_123 : decode cX5_next 123 = .ok (.invokevirtual 33, 3) := dk_182 0 33 (dk_at dksX5_next_5 7 rfl rfl)
theorem dX5_next_126 : decode cX5_next 126 = .ok (.i2l, 1) := dk_133 (dk_at dksX5_next_5 10 rfl rfl)
theorem dX5_next_127 : decode cX5_next 127 = .ok (.ldc2_w 48, 3) := dk_20 0 48 (dk_at dksX5_next_5 11 rfl rfl)
theorem dX5_next_130 : decode cX5_next 130 = .ok (.ldc2_w 50, 3) := dk_20 0 50 (dk_at dksX5_next_5 14 rfl rfl)
theorem dX5_next_133 : decode cX5_next 133 = .ok (.invokestatic 44, 3) := dk_184 0 44 (dk_at dksX5_next_5 17 rfl rfl)
theorem dX5_next_136 : decode cX5_next 136 = .ok (.ifCond .eq 55, 3) := dk_153 0 55 (dk_at dksX5_next_5 20 rfl rfl)
theorem dX5_next_139 : decode cX5_next 139 = .ok (.aload_n 0, 1) := dk_42 (dk_at dksX5_next_5 23 rfl rfl)
theorem dX5_next_140 : decode cX5_next 140 = .ok (.aload_n 0, 1) := dk_42 (dk_at dksX5_next_6 0 rfl rfl)
theorem dX5_next_141 : decode cX5_next 141 = .ok (.getfield 26, 3) := dk_180 0 26 (dk_at dksX5_next_6 1 rfl rfl)
theorem dX5_next_144 : decode cX5_next 144 = .ok (.aload_n 0, 1) := dk_42 (dk_at dksX5_next_6 4 rfl rfl)
theorem dX5_next_145 : decode cX5_next 145 = .ok (.getfield 30, 3) := dk_180 0 30 (dk_at dksX5_next_6 5 rfl rfl)
theorem dX5_next_148 : decode cX5_next 148 = .ok (.iconst 1, 1) := dk_4 (dk_at dksX5_next_6 8 rfl rfl)
theorem dX5_next_149 : decode cX5_next 149 = .ok (.iadd, 1) := dk_96 (dk_at dksX5_next_6 9 rfl rfl)
theorem dX5_next_150 : decode cX5_next 150 = .ok (.if_icmp .ne 21, 3) := dk_160 0 21 (dk_at dksX5_next_6 10 rfl rfl)
theorem dX5_next_153 : decode cX5_next 153 = .ok (.bipush 10, 2) := dk_16 10 (dk_at dksX5_next_6 13 rfl rfl)
theorem dX5_next_155 : decode cX5_next 155 = .ok (.aload_n 0, 1) := dk_42 (dk_at dksX5_next_6 15 rfl rfl)
theorem dX5_next_156 : decode cX5_next 156 = .ok (.getfield 37, 3) := dk_180 0 37 (dk_at dksX5_next_6 16 rfl rfl)
theorem dX5_next_159 : decode cX5_next 159 = .ok (.imul, 1) := dk_104 (dk_at dksX5_next_6 19 rfl rfl)
theorem dX5_next_160 : decode cX5_next 160 = .ok (.aload_n 0, 1) := dk_42 (dk_at dksX5_next_6 20 rfl rfl)
theorem dX5_next_161 : decode cX5_next 161 = .ok (.invokevirtual 33, 3) := dk_182 0 33 (dk_at dksX5_next_6 21 rfl rfl)
theorem dX5_next_164 : decode cX5_next 164 = .ok (.iadd, 1) := dk_96 (dk_at dksX5_next_7 0 rfl rfl)
theorem dX5_next_165 : decode cX5_next 165 = .ok (.bipush 48, 2) := dk_16 48 (dk_at dksX5_next_7 1 rfl rfl)
theorem dX5_next_167 : decode cX5_next 167 = .ok (.isub, 1) := dk_100 (dk_at dksX5_next_7 3 rfl rfl)
theorem dX5_next_168 : decode cX5_next 168 = .ok (.goto 7, 3) := dk_167 0 7 (dk_at dksX5_next_7 4 rfl rfl)
theorem dX5_next_171 : decode cX5_next 171 = .ok (.aload_n 0, 1) := dk_42 (dk_at dksX5_next_7 7 rfl rfl)
theorem dX5_next_172 : decode cX5_next 172 = .ok (.getfield 37, 3) := dk_180 0 37 (dk_at dksX5_next_7 8 rfl rfl)
theorem dX5_next_175 : decode cX5_next 175 = .ok (.putfield 37, 3) := dk_181 0 37 (dk_at dksX5_next_7 11 rfl rfl)
theorem dX5_next_178 : decode cX5_next 178 = .ok (.aload_n 0, 1) := dk_42 (dk_at dksX5_next_7 14 rfl rfl)
theorem dX5_next_179 : decode cX5_next 179 = .ok (.dup, 1) := dk_89 (dk_at dksX5_next_7 15 rfl rfl)
theorem dX5_next_180 : decode cX5_next 180 = .ok (.getfield 26, 3) := dk_180 0 26 (dk_at dksX5_next_7 16 rfl rfl)
theorem dX5_next_183 : decode cX5_next 183 = .ok (.iconst 1, 1) := dk_4 (dk_at dksX5_next_7 19 rfl rfl)
theorem dX5_next_184 : decode cX5_next 184 = .ok (.iadd, 1) := dk_96 (dk_at dksX5_next_7 20 rfl rfl)
theorem dX5_next_185 : decode cX5_next 185 = .ok (.putfield 26, 3) := dk_181 0 26 (dk_at dksX5_next_7 21 rfl rfl)
theorem dX5_next_188 : decode cX5_next 188 = .ok (.goto (-66), 3) := dk_167 255 190 (dk_at dksX5_next_8 0 rfl rfl)
theorem dX5_next_191 : decode cX5_next 191 = .ok (.aload_n 0, 1) := dk_42 (dk_at dksX5_next_8 3 rfl rfl)
theorem dX5_next_192 : decode cX5_next 192 = .ok (.aload_n 0, 1) := dk_42 (dk_at dksX5_next_8 4 rfl rfl)
theorem dX5_next_193 : decode cX5_next 193 = .ok (.getfield 26, 3) := dk_180 0 26 (dk_at dksX5_next_8 5 rfl rfl)
theorem dX5_next_196 : decode cX5_next 196 = .ok (.aload_n 0, 1) := dk_42 (dk_at dksX5_next_8 8 rfl rfl)
theorem dX5_next_197 : decode cX5_next 197 = .ok (.getfield 30, 3) := dk_180 0 30 (dk_at dksX5_next_8 9 rfl rfl)
theorem dX5_next_200 : decode cX5_next 200 = .ok (.isub, 1) := dk_100 (dk_at dksX5_next_8 12 rfl rfl)
theorem dX5_next_201 : decode cX5_next 201 = .ok (.iconst 2, 1) := dk_5 (dk_at dksX5_next_8 13 rfl rfl)
theorem dX5_next_202 : decode cX5_next 202 = .ok (.if_icmp .le 7, 3) := dk_164 0 7 (dk_at dksX5_next_8 14 rfl rfl)
theorem dX5_next_205 : decode cX5_next 205 = .ok (.iconst 4, 1) := dk_7 (dk_at dksX5_next_8 17 rfl rfl)
theorem dX5_next_206 : decode cX5_next 206 = .ok (.goto 4, 3) := dk_167 0 4 (dk_at dksX5_next_8 18 rfl rfl)
theorem dX5_next_209 : decode cX5_next 209 = .ok (.iconst 2, 1) := dk_5 (dk_at dksX5_next_8 21 rfl rfl)
theorem dX5_next_210 : decode cX5_next 210 = .ok (.putfield 52, 3) := dk_181 0 52 (dk_at dksX5_next_9 0 rfl rfl)
theorem dX5_next_213 : decode cX5_next 213 = .ok (.return_, 1) := dk_177 (dk_at dksX5_next_9 3 rfl rfl)
abbrev cX5_look : ByteArray := prog_16_method_2_code
def yX5_look : MethodName := ⟨RX5, "look", "()I"⟩
def dkwX5_look_1 : List UInt8 := [167, 0, 5, 18, 29, 172]
abbrev dktX5_look_1 : List UInt8 := dkwX5_look_1 ++ []
def dkwX5_look_0 : List UInt8 := [42, 180, 0, 26, 42, 180, 0, 22, 162, 0, 19, 42, 180, 0, 18, 42, 180, 0, 26, 51, 17, 0, 255, 126]
abbrev dktX5_look_0 : List UInt8 := dkwX5_look_0 ++ dktX5_look_1
theorem dksX5_look_0 : cX5_look.data.toList.drop 0 = dktX5_look_0 := by decide +kernel
theorem dksX5_look_1 : cX5_look.data.toList.drop 24 = dktX5_look_1 := dk_seg dksX5_look_0 24 rfl rfl
theorem dX5_look_0 : decode cX5_look 0 = .ok (.aload_n 0, 1) := dk_42 (dk_at dksX5_look_0 0 rfl rfl)
theorem dX5_look_1 : decode cX5_look 1 = .ok (.getfield 26, 3) := dk_180 0 26 (dk_at dksX5_look_0 1 rfl rfl)
theorem dX5_look_4 : decode cX5_look 4 = .ok (.aload_n 0, 1) := dk_42 (dk_at dksX5_look_0 4 rfl rfl)
theorem dX5_look_5 : decode cX5_look 5 = .ok (.getfield 22, 3) := dk_180 0 22 (dk_at dksX5_look_0 5 rfl rfl)
theorem dX5_look_8 : decode cX5_look 8 = .ok (.if_icmp .ge 19, 3) := dk_162 0 19 (dk_at dksX5_look_0 8 rfl rfl)
theorem dX5_look_11 : decode cX5_look 11 = .ok (.aload_n 0, 1) := dk_42 (dk_at dksX5_look_0 11 rfl rfl)
theorem dX5_look_12 : decode cX5_look 12 = .ok (.getfield 18, 3) := dk_180 0 18 (dk_at dksX5_look_0 12 rfl rfl)
theorem dX5_look_15 : decode cX5_look 15 = .ok (.aload_n 0, 1) := dk_42 (dk_at dksX5_look_0 15 rfl rfl)
theorem dX5_look_16 : decode cX5_look 16 = .ok (.getfield 26, 3) := dk_180 0 26 (dk_at dksX5_look_0 16 rfl rfl)
theorem dX5_look_19 : decode cX5_look 19 = .ok (.baload, 1) := dk_51 (dk_at dksX5_look_0 19 rfl rfl)
theorem dX5_look_20 : decode cX5_look 20 = .ok (.sipush 255, 3) := dk_17 0 255 (dk_at dksX5_look_0 20 rfl rfl)
theorem dX5_look_23 : decode cX5_look 23 = .ok (.iand, 1) := dk_126 (dk_at dksX5_look_0 23 rfl rfl)
theorem dX5_look_24 : decode cX5_look 24 = .ok (.goto 5, 3) := dk_167 0 5 (dk_at dksX5_look_1 0 rfl rfl)
theorem dX5_look_27 : decode cX5_look 27 = .ok (.ldc 29, 2) := dk_18 29 (dk_at dksX5_look_1 3 rfl rfl)
theorem dX5_look_29 : decode cX5_look 29 = .ok (.ireturn, 1) := dk_172 (dk_at dksX5_look_1 5 rfl rfl)
abbrev cX5_is : ByteArray := prog_16_method_5_code
def yX5_is : MethodName := ⟨RX5, "is", "(II)Z"⟩
def dkwX5_is_0 : List UInt8 := [42, 180, 0, 52, 27, 160, 0, 15, 42, 180, 0, 37, 28, 160, 0, 7, 4, 167, 0, 4, 3, 172]
abbrev dktX5_is_0 : List UInt8 := dkwX5_is_0 ++ []
theorem dksX5_is_0 : cX5_is.data.toList.drop 0 = dktX5_is_0 := by decide +kernel
theorem dX5_is_0 : decode cX5_is 0 = .ok (.aload_n 0, 1) := dk_42 (dk_at dksX5_is_0 0 rfl rfl)
theorem dX5_is_1 : decode cX5_is 1 = .ok (.getfield 52, 3) := dk_180 0 52 (dk_at dksX5_is_0 1 rfl rfl)
theorem dX5_is_4 : decode cX5_is 4 = .ok (.iload_n 1, 1) := dk_27 (dk_at dksX5_is_0 4 rfl rfl)
theorem dX5_is_5 : decode cX5_is 5 = .ok (.if_icmp .ne 15, 3) := dk_160 0 15 (dk_at dksX5_is_0 5 rfl rfl)
theorem dX5_is_8 : decode cX5_is 8 = .ok (.aload_n 0, 1) := dk_42 (dk_at dksX5_is_0 8 rfl rfl)
theorem dX5_is_9 : decode cX5_is 9 = .ok (.getfield 37, 3) := dk_180 0 37 (dk_at dksX5_is_0 9 rfl rfl)
theorem dX5_is_12 : decode cX5_is 12 = .ok (.iload_n 2, 1) := dk_28 (dk_at dksX5_is_0 12 rfl rfl)
theorem dX5_is_13 : decode cX5_is 13 = .ok (.if_icmp .ne 7, 3) := dk_160 0 7 (dk_at dksX5_is_0 13 rfl rfl)
theorem dX5_is_16 : decode cX5_is 16 = .ok (.iconst 1, 1) := dk_4 (dk_at dksX5_is_0 16 rfl rfl)
theorem dX5_is_17 : decode cX5_is 17 = .ok (.goto 4, 3) := dk_167 0 4 (dk_at dksX5_is_0 17 rfl rfl)
theorem dX5_is_20 : decode cX5_is 20 = .ok (.iconst 0, 1) := dk_3 (dk_at dksX5_is_0 20 rfl rfl)
theorem dX5_is_21 : decode cX5_is 21 = .ok (.ireturn, 1) := dk_172 (dk_at dksX5_is_0 21 rfl rfl)
abbrev cX5_must : ByteArray := prog_16_method_4_code
def yX5_must : MethodName := ⟨RX5, "must", "(ZI)V"⟩
def dkwX5_must_0 : List UInt8 := [27, 154, 0, 16, 187, 0, 55, 89, 28, 42, 180, 0, 30, 183, 0, 57, 191, 177]
abbrev dktX5_must_0 : List UInt8 := dkwX5_must_0 ++ []
theorem dksX5_must_0 : cX5_must.data.toList.drop 0 = dktX5_must_0 := by decide +kernel
theorem dX5_must_0 : decode cX5_must 0 = .ok (.iload_n 1, 1) := dk_27 (dk_at dksX5_must_0 0 rfl rfl)
theorem dX5_must_1 : decode cX5_must 1 = .ok (.ifCond .ne 16, 3) := dk_154 0 16 (dk_at dksX5_must_0 1 rfl rfl)
theorem dX5_must_4 : decode cX5_must 4 = .ok (.new 55, 3) := dk_187 0 55 (dk_at dksX5_must_0 4 rfl rfl)
theorem dX5_must_7 : decode cX5_must 7 = .ok (.dup, 1) := dk_89 (dk_at dksX5_must_0 7 rfl rfl)
theorem dX5_must_8 : decode cX5_must 8 = .ok (.iload_n 2, 1) := dk_28 (dk_at dksX5_must_0 8 rfl rfl)
theorem dX5_must_9 : decode cX5_must 9 = .ok (.aload_n 0, 1) := dk_42 (dk_at dksX5_must_0 9 rfl rfl)
theorem dX5_must_10 : decode cX5_must 10 = .ok (.getfield 30, 3) := dk_180 0 30 (dk_at dksX5_must_0 10 rfl rfl)
theorem dX5_must_13 : decode cX5_must 13 = .ok (.invokespecial 57, 3) := dk_183 0 57 (dk_at dksX5_must_0 13 rfl rfl)
theorem dX5_must_16 : decode cX5_must 16 = .ok (.athrow, 1) := dk_191 (dk_at dksX5_must_0 16 rfl rfl)
theorem dX5_must_17 : decode cX5_must 17 = .ok (.return_, 1) := dk_177 (dk_at dksX5_must_0 17 rfl rfl)
abbrev cX5_figure : ByteArray := prog_16_method_6_code
def yX5_figure : MethodName := ⟨RX5, "figure", "(II)I"⟩
def dkwX5_figure_1 : List UInt8 := [27, 133, 28, 133, 184, 0, 44, 5, 182, 0, 60, 42, 180, 0, 37, 62, 42, 182, 0, 64, 29, 172]
abbrev dktX5_figure_1 : List UInt8 := dkwX5_figure_1 ++ []
def dkwX5_figure_0 : List UInt8 := [42, 42, 180, 0, 52, 5, 160, 0, 7, 4, 167, 0, 4, 3, 4, 182, 0, 60, 42, 42, 180, 0, 37, 133]
abbrev dktX5_figure_0 : List UInt8 := dkwX5_figure_0 ++ dktX5_figure_1
theorem dksX5_figure_0 : cX5_figure.data.toList.drop 0 = dktX5_figure_0 := by decide +kernel
theorem dksX5_figure_1 : cX5_figure.data.toList.drop 24 = dktX5_figure_1 := dk_seg dksX5_figure_0 24 rfl rfl
theorem dX5_figure_0 : decode cX5_figure 0 = .ok (.aload_n 0, 1) := dk_42 (dk_at dksX5_figure_0 0 rfl rfl)
theorem dX5_figure_1 : decode cX5_figure 1 = .ok (.aload_n 0, 1) := dk_42 (dk_at dksX5_figure_0 1 rfl rfl)
theorem dX5_figure_2 : decode cX5_figure 2 = .ok (.getfield 52, 3) := dk_180 0 52 (dk_at dksX5_figure_0 2 rfl rfl)
theorem dX5_figure_5 : decode cX5_figure 5 = .ok (.iconst 2, 1) := dk_5 (dk_at dksX5_figure_0 5 rfl rfl)
theorem dX5_figure_6 : decode cX5_figure 6 = .ok (.if_icmp .ne 7, 3) := dk_160 0 7 (dk_at dksX5_figure_0 6 rfl rfl)
theorem dX5_figure_9 : decode cX5_figure 9 = .ok (.iconst 1, 1) := dk_4 (dk_at dksX5_figure_0 9 rfl rfl)
theorem dX5_figure_10 : decode cX5_figure 10 = .ok (.goto 4, 3) := dk_167 0 4 (dk_at dksX5_figure_0 10 rfl rfl)
theorem dX5_figure_13 : decode cX5_figure 13 = .ok (.iconst 0, 1) := dk_3 (dk_at dksX5_figure_0 13 rfl rfl)
theorem dX5_figure_14 : decode cX5_figure 14 = .ok (.iconst 1, 1) := dk_4 (dk_at dksX5_figure_0 14 rfl rfl)
theorem dX5_figure_15 : decode cX5_figure 15 = .ok (.invokevirtual 60, 3) := dk_182 0 60 (dk_at dksX5_figure_0 15 rfl rfl)
theorem dX5_figure_18 : decode cX5_figure 18 = .ok (.aload_n 0, 1) := dk_42 (dk_at dksX5_figure_0 18 rfl rfl)
theorem dX5_figure_19 : decode cX5_figure 19 = .ok (.aload_n 0, 1) := dk_42 (dk_at dksX5_figure_0 19 rfl rfl)
theorem dX5_figure_20 : decode cX5_figure 20 = .ok (.getfield 37, 3) := dk_180 0 37 (dk_at dksX5_figure_0 20 rfl rfl)
theorem dX5_figure_23 : decode cX5_figure 23 = .ok (.i2l, 1) := dk_133 (dk_at dksX5_figure_0 23 rfl rfl)
theorem dX5_figure_24 : decode cX5_figure 24 = .ok (.iload_n 1, 1) := dk_27 (dk_at dksX5_figure_1 0 rfl rfl)
theorem dX5_figure_25 : decode cX5_figure 25 = .ok (.i2l, 1) := dk_133 (dk_at dksX5_figure_1 1 rfl rfl)
theorem dX5_figure_26 : decode cX5_figure 26 = .ok (.iload_n 2, 1) := dk_28 (dk_at dksX5_figure_1 2 rfl rfl)
theorem dX5_figure_27 : decode cX5_figure 27 = .ok (.i2l, 1) := dk_133 (dk_at dksX5_figure_1 3 rfl rfl)
theorem dX5_figure_28 : decode cX5_figure 28 = .ok (.invokestatic 44, 3) := dk_184 0 44 (dk_at dksX5_figure_1 4 rfl rfl)
theorem dX5_figure_31 : decode cX5_figure 31 = .ok (.iconst 2, 1) := dk_5 (dk_at dksX5_figure_1 7 rfl rfl)
theorem dX5_figure_32 : decode cX5_figure 32 = .ok (.invokevirtual 60, 3) := dk_182 0 60 (dk_at dksX5_figure_1 8 rfl rfl)
theorem dX5_figure_35 : decode cX5_figure 35 = .ok (.aload_n 0, 1) := dk_42 (dk_at dksX5_figure_1 11 rfl rfl)
theorem dX5_figure_36 : decode cX5_figure 36 = .ok (.getfield 37, 3) := dk_180 0 37 (dk_at dksX5_figure_1 12 rfl rfl)
theorem dX5_figure_39 : decode cX5_figure 39 = .ok (.istore_n 3, 1) := dk_62 (dk_at dksX5_figure_1 15 rfl rfl)
theorem dX5_figure_40 : decode cX5_figure 40 = .ok (.aload_n 0, 1) := dk_42 (dk_at dksX5_figure_1 16 rfl rfl)
theorem dX5_figure_41 : decode cX5_figure 41 = .ok (.invokevirtual 64, 3) := dk_182 0 64 (dk_at dksX5_figure_1 17 rfl rfl)
theorem dX5_figure_44 : decode cX5_figure 44 = .ok (.iload_n 3, 1) := dk_29 (dk_at dksX5_figure_1 20 rfl rfl)
theorem dX5_figure_45 : decode cX5_figure 45 = .ok (.ireturn, 1) := dk_172 (dk_at dksX5_figure_1 21 rfl rfl)
abbrev cX5_sign : ByteArray := prog_16_method_7_code
def yX5_sign : MethodName := ⟨RX5, "sign", "(I)V"⟩
def dkwX5_sign_0 : List UInt8 := [42, 42, 6, 27, 182, 0, 67, 4, 182, 0, 60, 42, 182, 0, 64, 177]
abbrev dktX5_sign_0 : List UInt8 := dkwX5_sign_0 ++ []
theorem dksX5_sign_0 : cX5_sign.data.toList.drop 0 = dktX5_sign_0 := by decide +kernel
theorem dX5_sign_0 : decode cX5_sign 0 = .ok (.aload_n 0, 1) := dk_42 (dk_at dksX5_sign_0 0 rfl rfl)
theorem dX5_sign_1 : decode cX5_sign 1 = .ok (.aload_n 0, 1) := dk_42 (dk_at dksX5_sign_0 1 rfl rfl)
theorem dX5_sign_2 : decode cX5_sign 2 = .ok (.iconst 3, 1) := dk_6 (dk_at dksX5_sign_0 2 rfl rfl)
theorem dX5_sign_3 : decode cX5_sign 3 = .ok (.iload_n 1, 1) := dk_27 (dk_at dksX5_sign_0 3 rfl rfl)
theorem dX5_sign_4 : decode cX5_sign 4 = .ok (.invokevirtual 67, 3) := dk_182 0 67 (dk_at dksX5_sign_0 4 rfl rfl)
theorem dX5_sign_7 : decode cX5_sign 7 = .ok (.iconst 1, 1) := dk_4 (dk_at dksX5_sign_0 7 rfl rfl)
theorem dX5_sign_8 : decode cX5_sign 8 = .ok (.invokevirtual 60, 3) := dk_182 0 60 (dk_at dksX5_sign_0 8 rfl rfl)
theorem dX5_sign_11 : decode cX5_sign 11 = .ok (.aload_n 0, 1) := dk_42 (dk_at dksX5_sign_0 11 rfl rfl)
theorem dX5_sign_12 : decode cX5_sign 12 = .ok (.invokevirtual 64, 3) := dk_182 0 64 (dk_at dksX5_sign_0 12 rfl rfl)
theorem dX5_sign_15 : decode cX5_sign 15 = .ok (.return_, 1) := dk_177 (dk_at dksX5_sign_0 15 rfl rfl)
abbrev cX5_corner : ByteArray := prog_16_method_9_code
def yX5_corner : MethodName := ⟨RX5, "corner", "()V"⟩
def dkwX5_corner_4 : List UInt8 := [177]
abbrev dktX5_corner_4 : List UInt8 := dkwX5_corner_4 ++ []
def dkwX5_corner_3 : List UInt8 := [16, 59, 182, 0, 75, 42, 180, 0, 12, 180, 0, 112, 28, 27, 29, 184, 0, 116, 185, 0, 120, 2, 0, 87]
abbrev dktX5_corner_3 : List UInt8 := dkwX5_corner_3 ++ dktX5_corner_4
def dkwX5_corner_2 : List UInt8 := [42, 3, 16, 9, 182, 0, 71, 79, 42, 16, 44, 182, 0, 75, 42, 3, 16, 9, 182, 0, 71, 62, 42]
abbrev dktX5_corner_2 : List UInt8 := dkwX5_corner_2 ++ dktX5_corner_3
def dkwX5_corner_1 : List UInt8 := [4, 18, 82, 42, 180, 0, 37, 182, 0, 84, 96, 61, 42, 182, 0, 64, 42, 180, 0, 12, 180, 0, 108, 27]
abbrev dktX5_corner_1 : List UInt8 := dkwX5_corner_1 ++ dktX5_corner_2
def dkwX5_corner_0 : List UInt8 := [42, 180, 0, 12, 182, 0, 105, 60, 42, 27, 16, 6, 162, 0, 7, 4, 167, 0, 4, 3, 6, 182, 0, 60]
abbrev dktX5_corner_0 : List UInt8 := dkwX5_corner_0 ++ dktX5_corner_1
theorem dksX5_corner_0 : cX5_corner.data.toList.drop 0 = dktX5_corner_0 := by decide +kernel
theorem dksX5_corner_1 : cX5_corner.data.toList.drop 24 = dktX5_corner_1 := dk_seg dksX5_corner_0 24 rfl rfl
theorem dksX5_corner_2 : cX5_corner.data.toList.drop 48 = dktX5_corner_2 := dk_seg dksX5_corner_1 24 rfl rfl
theorem dksX5_corner_3 : cX5_corner.data.toList.drop 71 = dktX5_corner_3 := dk_seg dksX5_corner_2 23 rfl rfl
theorem dksX5_corner_4 : cX5_corner.data.toList.drop 95 = dktX5_corner_4 := dk_seg dksX5_corner_3 24 rfl rfl
theorem dX5_corner_0 : decode cX5_corner 0 = .ok (.aload_n 0, 1) := dk_42 (dk_at dksX5_corner_0 0 rfl rfl)
theorem dX5_corner_1 : decode cX5_corner 1 = .ok (.getfield 12, 3) := dk_180 0 12 (dk_at dksX5_corner_0 1 rfl rfl)
theorem dX5_corner_4 : decode cX5_corner 4 = .ok (.invokevirtual 105, 3) := dk_182 0 105 (dk_at dksX5_corner_0 4 rfl rfl)
theorem dX5_corner_7 : decode cX5_corner 7 = .ok (.istore_n 1, 1) := dk_60 (dk_at dksX5_corner_0 7 rfl rfl)
theorem dX5_corner_8 : decode cX5_corner 8 = .ok (.aload_n 0, 1) := dk_42 (dk_at dksX5_corner_0 8 rfl rfl)
theorem dX5_corner_9 : decode cX5_corner 9 = .ok (.iload_n 1, 1) := dk_27 (dk_at dksX5_corner_0 9 rfl rfl)
theorem dX5_corner_10 : decode cX5_corner 10 = .ok (.bipush 6, 2) := dk_16 6 (dk_at dksX5_corner_0 10 rfl rfl)
theorem dX5_corner_12 : decode cX5_corner 12 = .ok (.if_icmp .ge 7, 3) := dk_162 0 7 (dk_at dksX5_corner_0 12 rfl rfl)
theorem dX5_corner_15 : decode cX5_corner 15 = .ok (.iconst 1, 1) := dk_4 (dk_at dksX5_corner_0 15 rfl rfl)
theorem dX5_corner_16 : decode cX5_corner 16 = .ok (.goto 4, 3) := dk_167 0 4 (dk_at dksX5_corner_0 16 rfl rfl)
theorem dX5_corner_19 : decode cX5_corner 19 = .ok (.iconst 0, 1) := dk_3 (dk_at dksX5_corner_0 19 rfl rfl)
theorem dX5_corner_20 : decode cX5_corner 20 = .ok (.iconst 3, 1) := dk_6 (dk_at dksX5_corner_0 20 rfl rfl)
theorem dX5_corner_21 : decode cX5_corner 21 = .ok (.invokevirtual 60, 3) := dk_182 0 60 (dk_at dksX5_corner_0 21 rfl rfl)
theorem dX5_corner_24 : decode cX5_corner 24 = .ok (.iconst 1, 1) := dk_4 (dk_at dksX5_corner_1 0 rfl rfl)
theorem dX5_corner_25 : decode cX5_corner 25 = .ok (.ldc 82, 2) := dk_18 82 (dk_at dksX5_corner_1 1 rfl rfl)
theorem dX5_corner_27 : decode cX5_corner 27 = .ok (.aload_n 0, 1) := dk_42 (dk_at dksX5_corner_1 3 rfl rfl)
theorem dX5_corner_28 : decode cX5_corner 28 = .ok (.getfield 37, 3) := dk_180 0 37 (dk_at dksX5_corner_1 4 rfl rfl)
theorem dX5_corner_31 : decode cX5_corner 31 = .ok (.invokevirtual 84, 3) := dk_182 0 84 (dk_at dksX5_corner_1 7 rfl rfl)
theorem dX5_corner_34 : decode cX5_corner 34 = .ok (.iadd, 1) := dk_96 (dk_at dksX5_corner_1 10 rfl rfl)
theorem dX5_corner_35 : decode cX5_corner 35 = .ok (.istore_n 2, 1) := dk_61 (dk_at dksX5_corner_1 11 rfl rfl)
theorem dX5_corner_36 : decode cX5_corner 36 = .ok (.aload_n 0, 1) := dk_42 (dk_at dksX5_corner_1 12 rfl rfl)
theorem dX5_corner_37 : decode cX5_corner 37 = .ok (.invokevirtual 64, 3) := dk_182 0 64 (dk_at dksX5_corner_1 13 rfl rfl)
theorem dX5_corner_40 : decode cX5_corner 40 = .ok (.aload_n 0, 1) := dk_42 (dk_at dksX5_corner_1 16 rfl rfl)
theorem dX5_corner_41 : decode cX5_corner 41 = .ok (.getfield 12, 3) := dk_180 0 12 (dk_at dksX5_corner_1 17 rfl rfl)
theorem dX5_corner_44 : decode cX5_corner 44 = .ok (.getfield 108, 3) := dk_180 0 108 (dk_at dksX5_corner_1 20 rfl rfl)
theorem dX5_corner_47 : decode cX5_corner 47 = .ok (.iload_n 1, 1) := dk_27 (dk_at dksX5_corner_1 23 rfl rfl)
theorem dX5_corner_48 : decode cX5_corner 48 = .ok (.aload_n 0, 1) := dk_42 (dk_at dksX5_corner_2 0 rfl rfl)
theorem dX5_corner_49 : decode cX5_corner 49 = .ok (.iconst 0, 1) := dk_3 (dk_at dksX5_corner_2 1 rfl rfl)
theorem dX5_corner_50 : decode cX5_corner 50 = .ok (.bipush 9, 2) := dk_16 9 (dk_at dksX5_corner_2 2 rfl rfl)
theorem dX5_corner_52 : decode cX5_corner 52 = .ok (.invokevirtual 71, 3) := dk_182 0 71 (dk_at dksX5_corner_2 4 rfl rfl)
theorem dX5_corner_55 : decode cX5_corner 55 = .ok (.iastore, 1) := dk_79 (dk_at dksX5_corner_2 7 rfl rfl)
theorem dX5_corner_56 : decode cX5_corner 56 = .ok (.aload_n 0, 1) := dk_42 (dk_at dksX5_corner_2 8 rfl rfl)
theorem dX5_corner_57 : decode cX5_corner 57 = .ok (.bipush 44, 2) := dk_16 44 (dk_at dksX5_corner_2 9 rfl rfl)
theorem dX5_corner_59 : decode cX5_corner 59 = .ok (.invokevirtual 75, 3) := dk_182 0 75 (dk_at dksX5_corner_2 11 rfl rfl)
theorem dX5_corner_62 : decode cX5_corner 62 = .ok (.aload_n 0, 1) := dk_42 (dk_at dksX5_corner_2 14 rfl rfl)
theorem dX5_corner_63 : decode cX5_corner 63 = .ok (.iconst 0, 1) := dk_3 (dk_at dksX5_corner_2 15 rfl rfl)
theorem dX5_corner_64 : decode cX5_corner 64 = .ok (.bipush 9, 2) := dk_16 9 (dk_at dksX5_corner_2 16 rfl rfl)
theorem dX5_corner_66 : decode cX5_corner 66 = .ok (.invokevirtual 71, 3) := dk_182 0 71 (dk_at dksX5_corner_2 18 rfl rfl)
theorem dX5_corner_69 : decode cX5_corner 69 = .ok (.istore_n 3, 1) := dk_62 (dk_at dksX5_corner_2 21 rfl rfl)
theorem dX5_corner_70 : decode cX5_corner 70 = .ok (.aload_n 0, 1) := dk_42 (dk_at dksX5_corner_2 22 rfl rfl)
theorem dX5_corner_71 : decode cX5_corner 71 = .ok (.bipush 59, 2) := dk_16 59 (dk_at dksX5_corner_3 0 rfl rfl)
theorem dX5_corner_73 : decode cX5_corner 73 = .ok (.invokevirtual 75, 3) := dk_182 0 75 (dk_at dksX5_corner_3 2 rfl rfl)
theorem dX5_corner_76 : decode cX5_corner 76 = .ok (.aload_n 0, 1) := dk_42 (dk_at dksX5_corner_3 5 rfl rfl)
theorem dX5_corner_77 : decode cX5_corner 77 = .ok (.getfield 12, 3) := dk_180 0 12 (dk_at dksX5_corner_3 6 rfl rfl)
theorem dX5_corner_80 : decode cX5_corner 80 = .ok (.getfield 112, 3) := dk_180 0 112 (dk_at dksX5_corner_3 9 rfl rfl)
theorem dX5_corner_83 : decode cX5_corner 83 = .ok (.iload_n 2, 1) := dk_28 (dk_at dksX5_corner_3 12 rfl rfl)
theorem dX5_corner_84 : decode cX5_corner 84 = .ok (.iload_n 1, 1) := dk_27 (dk_at dksX5_corner_3 13 rfl rfl)
theorem dX5_corner_85 : decode cX5_corner 85 = .ok (.iload_n 3, 1) := dk_29 (dk_at dksX5_corner_3 14 rfl rfl)
theorem dX5_corner_86 : decode cX5_corner 86 = .ok (.invokestatic 116, 3) := dk_184 0 116 (dk_at dksX5_corner_3 15 rfl rfl)
theorem dX5_corner_89 : decode cX5_corner 89 = .ok (.invokeinterface 120 2, 5) := by decide +kernel
theorem dX5_corner_94 : decode cX5_corner 94 = .ok (.pop, 1) := dk_87 (dk_at dksX5_corner_3 23 rfl rfl)
theorem dX5_corner_95 : decode cX5_corner 95 = .ok (.return_, 1) := dk_177 (dk_at dksX5_corner_4 0 rfl rfl)
abbrev cX5_street : ByteArray := prog_16_method_10_code
def yX5_street : MethodName := ⟨RX5, "street", "()V"⟩
def dkwX5_street_6 : List UInt8 := [181, 0, 99, 177]
abbrev dktX5_street_6 : List UInt8 := dkwX5_street_6 ++ []
def dkwX5_street_5 : List UInt8 := [180, 0, 132, 27, 28, 79, 42, 16, 59, 182, 0, 75, 42, 180, 0, 12, 89, 180, 0, 99, 4, 96]
abbrev dktX5_street_5 : List UInt8 := dkwX5_street_5 ++ dktX5_street_6
def dkwX5_street_4 : List UInt8 := [180, 0, 129, 27, 42, 3, 42, 180, 0, 12, 182, 0, 105, 4, 100, 182, 0, 71, 79, 42, 180, 0, 12]
abbrev dktX5_street_4 : List UInt8 := dkwX5_street_4 ++ dktX5_street_5
def dkwX5_street_3 : List UInt8 := [28, 42, 180, 0, 37, 182, 0, 126, 154, 0, 7, 4, 167, 0, 4, 3, 5, 182, 0, 60, 42, 180, 0, 12]
abbrev dktX5_street_3 : List UInt8 := dkwX5_street_3 ++ dktX5_street_4
def dkwX5_street_2 : List UInt8 := [182, 0, 75, 42, 180, 0, 52, 5, 160, 0, 36, 42, 42, 180, 0, 37, 28, 159, 0, 22, 42, 180, 0, 12]
abbrev dktX5_street_2 : List UInt8 := dkwX5_street_2 ++ dktX5_street_3
def dkwX5_street_1 : List UInt8 := [42, 182, 0, 64, 42, 3, 42, 180, 0, 12, 182, 0, 105, 4, 100, 182, 0, 71, 61, 42, 16, 44]
abbrev dktX5_street_1 : List UInt8 := dkwX5_street_1 ++ dktX5_street_2
def dkwX5_street_0 : List UInt8 := [42, 180, 0, 12, 180, 0, 99, 60, 42, 27, 16, 8, 162, 0, 7, 4, 167, 0, 4, 3, 6, 182, 0, 60]
abbrev dktX5_street_0 : List UInt8 := dkwX5_street_0 ++ dktX5_street_1
theorem dksX5_street_0 : cX5_street.data.toList.drop 0 = dktX5_street_0 := by decide +kernel
theorem dksX5_street_1 : cX5_street.data.toList.drop 24 = dktX5_street_1 := dk_seg dksX5_street_0 24 rfl rfl
theorem dksX5_street_2 : cX5_street.data.toList.drop 46 = dktX5_street_2 := dk_seg dksX5_street_1 22 rfl rfl
theorem dksX5_street_3 : cX5_street.data.toList.drop 70 = dktX5_street_3 := dk_seg dksX5_street_2 24 rfl rfl
theorem dksX5_street_4 : cX5_street.data.toList.drop 94 = dktX5_street_4 := dk_seg dksX5_street_3 24 rfl rfl
theorem dksX5_street_5 : cX5_street.data.toList.drop 117 = dktX5_street_5 := dk_seg dksX5_street_4 23 rfl rfl
theorem dksX5_street_6 : cX5_street.data.toList.drop 139 = dktX5_street_6 := dk_seg dksX5_street_5 22 rfl rfl
theorem dX5_street_0 : decode cX5_street 0 = .ok (.aload_n 0, 1) := dk_42 (dk_at dksX5_street_0 0 rfl rfl)
theorem dX5_street_1 : decode cX5_street 1 = .ok (.getfield 12, 3) := dk_180 0 12 (dk_at dksX5_street_0 1 rfl rfl)
theorem dX5_street_4 : decode cX5_street 4 = .ok (.getfield 99, 3) := dk_180 0 99 (dk_at dksX5_street_0 4 rfl rfl)
theorem dX5_street_7 : decode cX5_street 7 = .ok (.istore_n 1, 1) := dk_60 (dk_at dksX5_street_0 7 rfl rfl)
theorem dX5_street_8 : decode cX5_street 8 = .ok (.aload_n 0, 1) := dk_42 (dk_at dksX5_street_0 8 rfl rfl)
theorem dX5_street_9 : decode cX5_street 9 = .ok (.iload_n 1, 1) := dk_27 (dk_at dksX5_street_0 9 rfl rfl)
theorem dX5_street_10 : decode cX5_street 10 = .ok (.bipush 8, 2) := dk_16 8 (dk_at dksX5_street_0 10 rfl rfl)
theorem dX5_street_12 : decode cX5_street 12 = .ok (.if_icmp .ge 7, 3) := dk_162 0 7 (dk_at dksX5_street_0 12 rfl rfl)
theorem dX5_street_15 : decode cX5_street 15 = .ok (.iconst 1, 1) := dk_4 (dk_at dksX5_street_0 15 rfl rfl)
theorem dX5_street_16 : decode cX5_street 16 = .ok (.goto 4, 3) := dk_167 0 4 (dk_at dksX5_street_0 16 rfl rfl)
theorem dX5_street_19 : decode cX5_street 19 = .ok (.iconst 0, 1) := dk_3 (dk_at dksX5_street_0 19 rfl rfl)
theorem dX5_street_20 : decode cX5_street 20 = .ok (.iconst 3, 1) := dk_6 (dk_at dksX5_street_0 20 rfl rfl)
theorem dX5_street_21 : decode cX5_street 21 = .ok (.invokevirtual 60, 3) := dk_182 0 60 (dk_at dksX5_street_0 21 rfl rfl)
theorem dX5_street_24 : decode cX5_street 24 = .ok (.aload_n 0, 1) := dk_42 (dk_at dksX5_street_1 0 rfl rfl)
theorem dX5_street_25 : decode cX5_street 25 = .ok (.invokevirtual 64, 3) := dk_182 0 64 (dk_at dksX5_street_1 1 rfl rfl)
theorem dX5_street_28 : decode cX5_street 28 = .ok (.aload_n 0, 1) := dk_42 (dk_at dksX5_street_1 4 rfl rfl)
theorem dX5_street_29 : decode cX5_street 29 = .ok (.iconst 0, 1) := dk_3 (dk_at dksX5_street_1 5 rfl rfl)
theorem dX5_street_30 : decode cX5_street 30 = .ok (.aload_n 0, 1) := dk_42 (dk_at dksX5_street_1 6 rfl rfl)
theorem dX5_street_31 : decode cX5_street 31 = .ok (.getfield 12, 3) := dk_180 0 12 (dk_at dksX5_street_1 7 rfl rfl)
theorem dX5_street_34 : decode cX5_street 34 = .ok (.invokevirtual 105, 3) := dk_182 0 105 (dk_at dksX5_street_1 10 rfl rfl)
theorem dX5_street_37 : decode cX5_street 37 = .ok (.iconst 1, 1) := dk_4 (dk_at dksX5_street_1 13 rfl rfl)
theorem dX5_street_38 : decode cX5_street 38 = .ok (.isub, 1) := dk_100 (dk_at dksX5_street_1 14 rfl rfl)
theorem dX5_street_39 : decode cX5_street 39 = .ok (.invokevirtual 71, 3) := dk_182 0 71 (dk_at dksX5_street_1 15 rfl rfl)
theorem dX5_street_42 : decode cX5_street 42 = .ok (.istore_n 2, 1) := dk_61 (dk_at dksX5_street_1 18 rfl rfl)
theorem dX5_street_43 : decode cX5_street 43 = .ok (.aload_n 0, 1) := dk_42 (dk_at dksX5_street_1 19 rfl rfl)
theorem dX5_street_44 : decode cX5_street 44 = .ok (.bipush 44, 2) := dk_16 44 (dk_at dksX5_street_1 20 rfl rfl)
theorem dX5_street_46 : decode cX5_street 46 = .ok (.invokevirtual 75, 3) := dk_182 0 75 (dk_at dksX5_street_2 0 rfl rfl)
theorem dX5_street_49 : decode cX5_street 49 = .ok (.aload_n 0, 1) := dk_42 (dk_at dksX5_street_2 3 rfl rfl)
theorem dX5_street_50 : decode cX5_street 50 = .ok (.getfield 52, 3) := dk_180 0 52 (dk_at dksX5_street_2 4 rfl rfl)
theorem dX5_street_53 : decode cX5_street 53 = .ok (.iconst 2, 1) := dk_5 (dk_at dksX5_street_2 7 rfl rfl)
theorem dX5_street_54 : decode cX5_street 54 = .ok (.if_icmp .ne 36, 3) := dk_160 0 36 (dk_at dksX5_street_2 8 rfl rfl)
theorem dX5_street_57 : decode cX5_street 57 = .ok (.aload_n 0, 1) := dk_42 (dk_at dksX5_street_2 11 rfl rfl)
theorem dX5_street_58 : decode cX5_street 58 = .ok (.aload_n 0, 1) := dk_42 (dk_at dksX5_street_2 12 rfl rfl)
theorem dX5_street_59 : decode cX5_street 59 = .ok (.getfield 37, 3) := dk_180 0 37 (dk_at dksX5_street_2 13 rfl rfl)
theorem dX5_street_62 : decode cX5_street 62 = .ok (.iload_n 2, 1) := dk_28 (dk_at dksX5_street_2 16 rfl rfl)
theorem dX5_street_63 : decode cX5_street 63 = .ok (.if_icmp .eq 22, 3) := dk_159 0 22 (dk_at dksX5_street_2 17 rfl rfl)
theorem dX5_street_66 : decode cX5_street 66 = .ok (.aload_n 0, 1) := dk_42 (dk_at dksX5_street_2 20 rfl rfl)
theorem dX5_street_67 : decode cX5_street 67 = .ok (.getfield 12, 3) := dk_180 0 12 (dk_at dksX5_street_2 21 rfl rfl)
theorem dX5_street_70 : decode cX5_street 70 = .ok (.iload_n 2, 1) := dk_28 (dk_at dksX5_street_3 0 rfl rfl)
theorem dX5_street_71 : decode cX5_street 71 = .ok (.aload_n 0, 1) := dk_42 (dk_at dksX5_street_3 1 rfl rfl)
theorem dX5_street_72 : decode cX5_street 72 = .ok (.getfield 37, 3) := dk_180 0 37 (dk_at dksX5_street_3 2 rfl rfl)
theorem dX5_street_75 : decode cX5_street 75 = .ok (.invokevirtual 126, 3) := dk_182 0 126 (dk_at dksX5_street_3 5 rfl rfl)
theorem dX5_street_78 : decode cX5_street 78 = .ok (.ifCond .ne 7, 3) := dk_154 0 7 (dk_at dksX5_street_3 8 rfl rfl)
theorem dX5_street_81 : decode cX5_street 81 = .ok (.iconst 1, 1) := dk_4 (dk_at dksX5_street_3 11 rfl rfl)
theorem dX5_street_82 : decode cX5_street 82 = .ok (.goto 4, 3) := dk_167 0 4 (dk_at dksX5_street_3 12 rfl rfl)
theorem dX5_street_85 : decode cX5_street 85 = .ok (.iconst 0, 1) := dk_3 (dk_at dksX5_street_3 15 rfl rfl)
theorem dX5_street_86 : decode cX5_street 86 = .ok (.iconst 2, 1) := dk_5 (dk_at dksX5_street_3 16 rfl rfl)
theorem dX5_street_87 : decode cX5_street 87 = .ok (.invokevirtual 60, 3) := dk_182 0 60 (dk_at dksX5_street_3 17 rfl rfl)
theorem dX5_street_90 : decode cX5_street 90 = .ok (.aload_n 0, 1) := dk_42 (dk_at dksX5_street_3 20 rfl rfl)
theorem dX5_street_91 : decode cX5_street 91 = .ok (.getfield 12, 3) := dk_180 0 12 (dk_at dksX5_street_3 21 rfl rfl)
theorem dX5_street_94 : decode cX5_street 94 = .ok (.getfield 129, 3) := dk_180 0 129 (dk_at dksX5_street_4 0 rfl rfl)
theorem dX5_street_97 : decode cX5_street 97 = .ok (.iload_n 1, 1) := dk_27 (dk_at dksX5_street_4 3 rfl rfl)
theorem dX5_street_98 : decode cX5_street 98 = .ok (.aload_n 0, 1) := dk_42 (dk_at dksX5_street_4 4 rfl rfl)
theorem dX5_street_99 : decode cX5_street 99 = .ok (.iconst 0, 1) := dk_3 (dk_at dksX5_street_4 5 rfl rfl)
theorem dX5_street_100 : decode cX5_street 100 = .ok (.aload_n 0, 1) := dk_42 (dk_at dksX5_street_4 6 rfl rfl)
theorem dX5_street_101 : decode cX5_street 101 = .ok (.getfield 12, 3) := dk_180 0 12 (dk_at dksX5_street_4 7 rfl rfl)
theorem dX5_street_104 : decode cX5_street 104 = .ok (.invokevirtual 105, 3) := dk_182 0 105 (dk_at dksX5_street_4 10 rfl rfl)
theorem dX5_street_107 : decode cX5_street 107 = .ok (.iconst 1, 1) := dk_4 (dk_at dksX5_street_4 13 rfl rfl)
theorem dX5_street_108 : decode cX5_street 108 = .ok (.isub, 1) := dk_100 (dk_at dksX5_street_4 14 rfl rfl)
theorem dX5_street_109 : decode cX5_street 109 = .ok (.invokevirtual 71, 3) := dk_182 0 71 (dk_at dksX5_street_4 15 rfl rfl)
theorem dX5_street_112 : decode cX5_street 112 = .ok (.iastore, 1) := dk_79 (dk_at dksX5_street_4 18 rfl rfl)
theorem dX5_street_113 : decode cX5_street 113 = .ok (.aload_n 0, 1) := dk_42 (dk_at dksX5_street_4 19 rfl rfl)
theorem dX5_street_114 : decode cX5_street 114 = .ok (.getfield 12, 3) := dk_180 0 12 (dk_at dksX5_street_4 20 rfl rfl)
theorem dX5_street_117 : decode cX5_street 117 = .ok (.getfield 132, 3) := dk_180 0 132 (dk_at dksX5_street_5 0 rfl rfl)
theorem dX5_street_120 : decode cX5_street 120 = .ok (.iload_n 1, 1) := dk_27 (dk_at dksX5_street_5 3 rfl rfl)
theorem dX5_street_121 : decode cX5_street 121 = .ok (.iload_n 2, 1) := dk_28 (dk_at dksX5_street_5 4 rfl rfl)
theorem dX5_street_122 : decode cX5_street 122 = .ok (.iastore, 1) := dk_79 (dk_at dksX5_street_5 5 rfl rfl)
theorem dX5_street_123 : decode cX5_street 123 = .ok (.aload_n 0, 1) := dk_42 (dk_at dksX5_street_5 6 rfl rfl)
theorem dX5_street_124 : decode cX5_street 124 = .ok (.bipush 59, 2) := dk_16 59 (dk_at dksX5_street_5 7 rfl rfl)
theorem dX5_street_126 : decode cX5_street 126 = .ok (.invokevirtual 75, 3) := dk_182 0 75 (dk_at dksX5_street_5 9 rfl rfl)
theorem dX5_street_129 : decode cX5_street 129 = .ok (.aload_n 0, 1) := dk_42 (dk_at dksX5_street_5 12 rfl rfl)
theorem dX5_street_130 : decode cX5_street 130 = .ok (.getfield 12, 3) := dk_180 0 12 (dk_at dksX5_street_5 13 rfl rfl)
theorem dX5_street_133 : decode cX5_street 133 = .ok (.dup, 1) := dk_89 (dk_at dksX5_street_5 16 rfl rfl)
theorem dX5_street_134 : decode cX5_street 134 = .ok (.getfield 99, 3) := dk_180 0 99 (dk_at dksX5_street_5 17 rfl rfl)
theorem dX5_street_137 : decode cX5_street 137 = .ok (.iconst 1, 1) := dk_4 (dk_at dksX5_street_5 20 rfl rfl)
theorem dX5_street_138 : decode cX5_street 138 = .ok (.iadd, 1) := dk_96 (dk_at dksX5_street_5 21 rfl rfl)
theorem dX5_street_139 : decode cX5_street 139 = .ok (.putfield 99, 3) := dk_181 0 99 (dk_at dksX5_street_6 0 rfl rfl)
theorem dX5_street_142 : decode cX5_street 142 = .ok (.return_, 1) := dk_177 (dk_at dksX5_street_6 3 rfl rfl)
theorem q84 : (Jvm.Cond.initialized "MoodFare$Reader") ∈ lw_all := lw_g (lw_at lw_m1 19 rfl) rfl
theorem q167 : (Jvm.Cond.fieldLink "MoodFare$Reader" (96 : Nat) "MoodFare$Town" "rate" "I") ∈ lw_all := lw_g (lw_at lw_m1 102 rfl) rfl
theorem q173 : (Jvm.Cond.fieldLink "MoodFare$Reader" (79 : Nat) "MoodFare$Town" "mood" "I") ∈ lw_all := lw_g (lw_at lw_m1 108 rfl) rfl
theorem q186 : (Jvm.Cond.fieldLink "MoodFare$Reader" (112 : Nat) "MoodFare$Town" "corners" "Ljava/util/List;") ∈ lw_all := lw_g (lw_at lw_m1 121 rfl) rfl
theorem q191 : (Jvm.Cond.fieldLink "MoodFare$Reader" (108 : Nat) "MoodFare$Town" "much" "[I") ∈ lw_all := lw_g (lw_at lw_m1 126 rfl) rfl
theorem q194 : (Jvm.Cond.fieldLink "MoodFare$Reader" (99 : Nat) "MoodFare$Town" "streets" "I") ∈ lw_all := lw_g (lw_at lw_m1 129 rfl) rfl
theorem q197 : (Jvm.Cond.fieldLink "MoodFare$Reader" (132 : Nat) "MoodFare$Town" "from" "[I") ∈ lw_all := lw_g (lw_at lw_m1 132 rfl) rfl
theorem q200 : (Jvm.Cond.fieldLink "MoodFare$Reader" (129 : Nat) "MoodFare$Town" "to" "[I") ∈ lw_all := lw_g (lw_at lw_m1 135 rfl) rfl
theorem q203 : (Jvm.Cond.fieldLink "MoodFare$Reader" (102 : Nat) "MoodFare$Town" "open" "I") ∈ lw_all := lw_g (lw_at lw_m1 138 rfl) rfl
theorem q506 : (Jvm.Cond.instantiable "MoodFare$Reader" (7 : Nat)) ∈ lw_all := lw_g (lw_at lw_m2 201 rfl) rfl
theorem q508 : (Jvm.Cond.instanceMethod ({ cls := "MoodFare$Reader", name := "<init>", desc := "([BI)V" } : Jvm.MethodName)) ∈ lw_all := lw_g (lw_at lw_m2 203 rfl) rfl
theorem q509 : (Jvm.Cond.code ({ cls := "MoodFare$Reader", name := "<init>", desc := "([BI)V" } : Jvm.MethodName) prog_16_method_1_code (3 : Nat) (Option.none : Option Jvm.ClassFile.FieldType)) ∈ lw_all := lw_g (lw_at lw_m2 204 rfl) rfl
theorem q510 : (Jvm.Cond.methodLink "MoodFare$Reader" (3 : Nat) ({ cls := "java/lang/Object", name := "<init>", desc := "()V" } : Jvm.MethodName)) ∈ lw_all := lw_g (lw_at lw_m2 205 rfl) rfl
theorem q511 : (Jvm.Cond.classLink "MoodFare$Reader" (9 : Nat) "MoodFare$Town") ∈ lw_all := lw_g (lw_at lw_m2 206 rfl) rfl
theorem q512 : (Jvm.Cond.methodLinkNest "MoodFare$Reader" (11 : Nat) ({ cls := "MoodFare$Town", name := "<init>", desc := "()V" } : Jvm.MethodName) "MoodFare") ∈ lw_tbl := lw_at lw_m2 207 rfl
theorem q513 : (Jvm.Cond.fieldLink "MoodFare$Reader" (18 : Nat) "MoodFare$Reader" "text" "[B") ∈ lw_all := lw_g (lw_at lw_m2 208 rfl) rfl
theorem q514 : (Jvm.Cond.fieldLink "MoodFare$Reader" (22 : Nat) "MoodFare$Reader" "size" "I") ∈ lw_all := lw_g (lw_at lw_m2 209 rfl) rfl
theorem q515 : (Jvm.Cond.fieldLink "MoodFare$Reader" (26 : Nat) "MoodFare$Reader" "at" "I") ∈ lw_all := lw_g (lw_at lw_m2 210 rfl) rfl
theorem q516 : (Jvm.Cond.fieldLink "MoodFare$Reader" (52 : Nat) "MoodFare$Reader" "token" "I") ∈ lw_all := lw_g (lw_at lw_m2 211 rfl) rfl
theorem q517 : (Jvm.Cond.fieldLink "MoodFare$Reader" (30 : Nat) "MoodFare$Reader" "from" "I") ∈ lw_all := lw_g (lw_at lw_m2 212 rfl) rfl
theorem q518 : (Jvm.Cond.fieldLink "MoodFare$Reader" (37 : Nat) "MoodFare$Reader" "value" "I") ∈ lw_all := lw_g (lw_at lw_m2 213 rfl) rfl
theorem q519 : (Jvm.Cond.fieldLink "MoodFare$Reader" (12 : Nat) "MoodFare$Reader" "made" "LMoodFare$Town;") ∈ lw_all := lw_g (lw_at lw_m2 214 rfl) rfl
theorem q521 : (Jvm.Cond.laysFinal "MoodFare$Reader" "MoodFare$Reader" "text" "[B") ∈ lw_all := lw_g (lw_at lw_m2 216 rfl) rfl
theorem q522 : (Jvm.Cond.soleField "MoodFare$Reader" "text") ∈ lw_all := lw_g (lw_at lw_m2 217 rfl) rfl
theorem q523 : (Jvm.Cond.laysFinal "MoodFare$Reader" "MoodFare$Reader" "size" "I") ∈ lw_all := lw_g (lw_at lw_m2 218 rfl) rfl
theorem q524 : (Jvm.Cond.soleField "MoodFare$Reader" "size") ∈ lw_all := lw_g (lw_at lw_m2 219 rfl) rfl
theorem q525 : (Jvm.Cond.lays "MoodFare$Reader" "MoodFare$Reader" "at" "I") ∈ lw_all := lw_g (lw_at lw_m2 220 rfl) rfl
theorem q526 : (Jvm.Cond.soleField "MoodFare$Reader" "at") ∈ lw_all := lw_g (lw_at lw_m2 221 rfl) rfl
theorem q527 : (Jvm.Cond.lays "MoodFare$Reader" "MoodFare$Reader" "token" "I") ∈ lw_all := lw_g (lw_at lw_m2 222 rfl) rfl
theorem q528 : (Jvm.Cond.soleField "MoodFare$Reader" "token") ∈ lw_all := lw_g (lw_at lw_m2 223 rfl) rfl
theorem q529 : (Jvm.Cond.lays "MoodFare$Reader" "MoodFare$Reader" "from" "I") ∈ lw_all := lw_g (lw_at lw_m2 224 rfl) rfl
theorem q530 : (Jvm.Cond.soleField "MoodFare$Reader" "from") ∈ lw_all := lw_g (lw_at lw_m2 225 rfl) rfl
theorem q531 : (Jvm.Cond.lays "MoodFare$Reader" "MoodFare$Reader" "value" "I") ∈ lw_all := lw_g (lw_at lw_m2 226 rfl) rfl
theorem q532 : (Jvm.Cond.soleField "MoodFare$Reader" "value") ∈ lw_all := lw_g (lw_at lw_m2 227 rfl) rfl
theorem q533 : (Jvm.Cond.laysFinal "MoodFare$Reader" "MoodFare$Reader" "made" "LMoodFare$Town;") ∈ lw_all := lw_g (lw_at lw_m2 228 rfl) rfl
theorem q534 : (Jvm.Cond.soleField "MoodFare$Reader" "made") ∈ lw_all := lw_g (lw_at lw_m2 229 rfl) rfl
theorem q535 : (Jvm.Cond.superclass "MoodFare$Reader" "java/lang/Object") ∈ lw_all := lw_g (lw_at lw_m2 230 rfl) rfl
theorem q537 : (Jvm.Cond.instanceMethod ({ cls := "MoodFare$Reader", name := "all", desc := "()V" } : Jvm.MethodName)) ∈ lw_all := lw_g (lw_at lw_m2 232 rfl) rfl
theorem q538 : (Jvm.Cond.selects "MoodFare$Reader" ({ cls := "MoodFare$Reader", name := "all", desc := "()V" } : Jvm.MethodName) ({ cls := "MoodFare$Reader", name := "all", desc := "()V" } : Jvm.MethodName)) ∈ lw_all := lw_g (lw_at lw_m2 233 rfl) rfl
theorem q539 : (Jvm.Cond.code ({ cls := "MoodFare$Reader", name := "all", desc := "()V" } : Jvm.MethodName) prog_16_method_8_code (2 : Nat) (Option.none : Option Jvm.ClassFile.FieldType)) ∈ lw_all := lw_g (lw_at lw_m2 234 rfl) rfl
theorem q540 : (Jvm.Cond.methodLink "MoodFare$Reader" (64 : Nat) ({ cls := "MoodFare$Reader", name := "next", desc := "()V" } : Jvm.MethodName)) ∈ lw_all := lw_g (lw_at lw_m2 235 rfl) rfl
theorem q541 : (Jvm.Cond.privateMethod ({ cls := "MoodFare$Reader", name := "next", desc := "()V" } : Jvm.MethodName)) ∈ lw_tbl := lw_at lw_m2 236 rfl
theorem q542 : (Jvm.Cond.instanceMethod ({ cls := "MoodFare$Reader", name := "next", desc := "()V" } : Jvm.MethodName)) ∈ lw_all := lw_g (lw_at lw_m2 237 rfl) rfl
theorem q543 : (Jvm.Cond.code ({ cls := "MoodFare$Reader", name := "next", desc := "()V" } : Jvm.MethodName) prog_16_method_3_code (2 : Nat) (Option.none : Option Jvm.ClassFile.FieldType)) ∈ lw_all := lw_g (lw_at lw_m2 238 rfl) rfl
theorem q544 : (Jvm.Cond.methodLink "MoodFare$Reader" (33 : Nat) ({ cls := "MoodFare$Reader", name := "look", desc := "()I" } : Jvm.MethodName)) ∈ lw_all := lw_g (lw_at lw_m2 239 rfl) rfl
theorem q545 : (Jvm.Cond.privateMethod ({ cls := "MoodFare$Reader", name := "look", desc := "()I" } : Jvm.MethodName)) ∈ lw_tbl := lw_at lw_m3 0 rfl
theorem q546 : (Jvm.Cond.instanceMethod ({ cls := "MoodFare$Reader", name := "look", desc := "()I" } : Jvm.MethodName)) ∈ lw_all := lw_g (lw_at lw_m3 1 rfl) rfl
theorem q547 : (Jvm.Cond.code ({ cls := "MoodFare$Reader", name := "look", desc := "()I" } : Jvm.MethodName) prog_16_method_2_code (1 : Nat) (Option.some Jvm.ClassFile.FieldType.int)) ∈ lw_all := lw_g (lw_at lw_m3 2 rfl) rfl
theorem q548 : (Jvm.Cond.constant "MoodFare$Reader" (29 : Nat) (-1000000 : Int32)) ∈ lw_all := lw_g (lw_at lw_m3 3 rfl) rfl
theorem q549 : (Jvm.Cond.constantLong "MoodFare$Reader" (40 : Nat) (97 : Int64)) ∈ lw_all := lw_g (lw_at lw_m3 4 rfl) rfl
theorem q550 : (Jvm.Cond.constantLong "MoodFare$Reader" (42 : Nat) (122 : Int64)) ∈ lw_all := lw_g (lw_at lw_m3 5 rfl) rfl
theorem q551 : (Jvm.Cond.methodLinkNest "MoodFare$Reader" (44 : Nat) ({ cls := "MoodFare", name := "isIn", desc := "(JJJ)Z" } : Jvm.MethodName) "MoodFare") ∈ lw_tbl := lw_at lw_m3 6 rfl
theorem q552 : (Jvm.Cond.constantLong "MoodFare$Reader" (48 : Nat) (48 : Int64)) ∈ lw_all := lw_g (lw_at lw_m3 7 rfl) rfl
theorem q553 : (Jvm.Cond.constantLong "MoodFare$Reader" (50 : Nat) (57 : Int64)) ∈ lw_all := lw_g (lw_at lw_m3 8 rfl) rfl
theorem q554 : (Jvm.Cond.methodLink "MoodFare$Reader" (67 : Nat) ({ cls := "MoodFare$Reader", name := "is", desc := "(II)Z" } : Jvm.MethodName)) ∈ lw_all := lw_g (lw_at lw_m3 9 rfl) rfl
theorem q555 : (Jvm.Cond.privateMethod ({ cls := "MoodFare$Reader", name := "is", desc := "(II)Z" } : Jvm.MethodName)) ∈ lw_tbl := lw_at lw_m3 10 rfl
theorem q556 : (Jvm.Cond.instanceMethod ({ cls := "MoodFare$Reader", name := "is", desc := "(II)Z" } : Jvm.MethodName)) ∈ lw_all := lw_g (lw_at lw_m3 11 rfl) rfl
theorem q557 : (Jvm.Cond.code ({ cls := "MoodFare$Reader", name := "is", desc := "(II)Z" } : Jvm.MethodName) prog_16_method_5_code (3 : Nat) (Option.some Jvm.ClassFile.FieldType.boolean)) ∈ lw_all := lw_g (lw_at lw_m3 12 rfl) rfl
theorem q558 : (Jvm.Cond.methodLink "MoodFare$Reader" (60 : Nat) ({ cls := "MoodFare$Reader", name := "must", desc := "(ZI)V" } : Jvm.MethodName)) ∈ lw_all := lw_g (lw_at lw_m3 13 rfl) rfl
theorem q559 : (Jvm.Cond.privateMethod ({ cls := "MoodFare$Reader", name := "must", desc := "(ZI)V" } : Jvm.MethodName)) ∈ lw_tbl := lw_at lw_m3 14 rfl
theorem q560 : (Jvm.Cond.instanceMethod ({ cls := "MoodFare$Reader", name := "must", desc := "(ZI)V" } : Jvm.MethodName)) ∈ lw_all := lw_g (lw_at lw_m3 15 rfl) rfl
theorem q561 : (Jvm.Cond.code ({ cls := "MoodFare$Reader", name := "must", desc := "(ZI)V" } : Jvm.MethodName) prog_16_method_4_code (3 : Nat) (Option.none : Option Jvm.ClassFile.FieldType)) ∈ lw_all := lw_g (lw_at lw_m3 16 rfl) rfl
theorem q562 : (Jvm.Cond.classLink "MoodFare$Reader" (55 : Nat) "MoodFare$Fault") ∈ lw_all := lw_g (lw_at lw_m3 17 rfl) rfl
theorem q571 : (Jvm.Cond.methodLink "MoodFare$Reader" (57 : Nat) ({ cls := "MoodFare$Fault", name := "<init>", desc := "(II)V" } : Jvm.MethodName)) ∈ lw_all := lw_g (lw_at lw_m3 26 rfl) rfl
theorem q590 : (Jvm.Cond.methodLink "MoodFare$Reader" (71 : Nat) ({ cls := "MoodFare$Reader", name := "figure", desc := "(II)I" } : Jvm.MethodName)) ∈ lw_all := lw_g (lw_at lw_m3 45 rfl) rfl
theorem q591 : (Jvm.Cond.privateMethod ({ cls := "MoodFare$Reader", name := "figure", desc := "(II)I" } : Jvm.MethodName)) ∈ lw_tbl := lw_at lw_m3 46 rfl
theorem q592 : (Jvm.Cond.instanceMethod ({ cls := "MoodFare$Reader", name := "figure", desc := "(II)I" } : Jvm.MethodName)) ∈ lw_all := lw_g (lw_at lw_m3 47 rfl) rfl
theorem q593 : (Jvm.Cond.code ({ cls := "MoodFare$Reader", name := "figure", desc := "(II)I" } : Jvm.MethodName) prog_16_method_6_code (4 : Nat) (Option.some Jvm.ClassFile.FieldType.int)) ∈ lw_all := lw_g (lw_at lw_m3 48 rfl) rfl
theorem q594 : (Jvm.Cond.methodLink "MoodFare$Reader" (75 : Nat) ({ cls := "MoodFare$Reader", name := "sign", desc := "(I)V" } : Jvm.MethodName)) ∈ lw_all := lw_g (lw_at lw_m3 49 rfl) rfl
theorem q595 : (Jvm.Cond.privateMethod ({ cls := "MoodFare$Reader", name := "sign", desc := "(I)V" } : Jvm.MethodName)) ∈ lw_tbl := lw_at lw_m3 50 rfl
theorem q596 : (Jvm.Cond.instanceMethod ({ cls := "MoodFare$Reader", name := "sign", desc := "(I)V" } : Jvm.MethodName)) ∈ lw_all := lw_g (lw_at lw_m3 51 rfl) rfl
theorem q597 : (Jvm.Cond.code ({ cls := "MoodFare$Reader", name := "sign", desc := "(I)V" } : Jvm.MethodName) prog_16_method_7_code (2 : Nat) (Option.none : Option Jvm.ClassFile.FieldType)) ∈ lw_all := lw_g (lw_at lw_m3 52 rfl) rfl
theorem q598 : (Jvm.Cond.stringRef "MoodFare$Reader" (82 : Nat) "jlhgr") ∈ lw_tbl := lw_at lw_m3 53 rfl
theorem q599 : (Jvm.Cond.methodLink "MoodFare$Reader" (84 : Nat) ({ cls := "java/lang/String", name := "indexOf", desc := "(I)I" } : Jvm.MethodName)) ∈ lw_all := lw_g (lw_at lw_m3 54 rfl) rfl
theorem q685 : (Jvm.Cond.methodLink "MoodFare$Reader" (90 : Nat) ({ cls := "MoodFare$Reader", name := "corner", desc := "()V" } : Jvm.MethodName)) ∈ lw_all := lw_g (lw_at lw_m3 140 rfl) rfl
theorem q686 : (Jvm.Cond.privateMethod ({ cls := "MoodFare$Reader", name := "corner", desc := "()V" } : Jvm.MethodName)) ∈ lw_tbl := lw_at lw_m3 141 rfl
theorem q687 : (Jvm.Cond.instanceMethod ({ cls := "MoodFare$Reader", name := "corner", desc := "()V" } : Jvm.MethodName)) ∈ lw_all := lw_g (lw_at lw_m3 142 rfl) rfl
theorem q688 : (Jvm.Cond.code ({ cls := "MoodFare$Reader", name := "corner", desc := "()V" } : Jvm.MethodName) prog_16_method_9_code (4 : Nat) (Option.none : Option Jvm.ClassFile.FieldType)) ∈ lw_all := lw_g (lw_at lw_m3 143 rfl) rfl
theorem q689 : (Jvm.Cond.methodLink "MoodFare$Reader" (105 : Nat) ({ cls := "MoodFare$Town", name := "many", desc := "()I" } : Jvm.MethodName)) ∈ lw_all := lw_g (lw_at lw_m3 144 rfl) rfl
theorem q703 : (Jvm.Cond.methodLinkNest "MoodFare$Reader" (116 : Nat) ({ cls := "MoodFare", name := "cornerBy", desc := "(III)LMoodFare$Corner;" } : Jvm.MethodName) "MoodFare") ∈ lw_tbl := lw_at lw_m3 158 rfl
theorem q758 : (Jvm.Cond.interfaceEntry "MoodFare$Reader" (120 : Nat)) ∈ lw_tbl := lw_at lw_m3 213 rfl
theorem q759 : (Jvm.Cond.methodLink "MoodFare$Reader" (120 : Nat) ({ cls := "java/util/List", name := "add", desc := "(Ljava/lang/Object;)Z" } : Jvm.MethodName)) ∈ lw_all := lw_g (lw_at lw_m3 214 rfl) rfl
theorem q805 : (Jvm.Cond.selects "MoodFare$Reader" ({ cls := "java/lang/Object", name := "getClass", desc := "()Ljava/lang/Class;" } : Jvm.MethodName) ({ cls := "java/lang/Object", name := "getClass", desc := "()Ljava/lang/Class;" } : Jvm.MethodName)) ∈ lw_all := lw_g (lw_at lw_m4 20 rfl) rfl
theorem q830 : (Jvm.Cond.methodLink "MoodFare$Reader" (93 : Nat) ({ cls := "MoodFare$Reader", name := "street", desc := "()V" } : Jvm.MethodName)) ∈ lw_all := lw_g (lw_at lw_m4 45 rfl) rfl
theorem q831 : (Jvm.Cond.privateMethod ({ cls := "MoodFare$Reader", name := "street", desc := "()V" } : Jvm.MethodName)) ∈ lw_tbl := lw_at lw_m4 46 rfl
theorem q832 : (Jvm.Cond.instanceMethod ({ cls := "MoodFare$Reader", name := "street", desc := "()V" } : Jvm.MethodName)) ∈ lw_all := lw_g (lw_at lw_m4 47 rfl) rfl
theorem q833 : (Jvm.Cond.code ({ cls := "MoodFare$Reader", name := "street", desc := "()V" } : Jvm.MethodName) prog_16_method_10_code (3 : Nat) (Option.none : Option Jvm.ClassFile.FieldType)) ∈ lw_all := lw_g (lw_at lw_m4 48 rfl) rfl
theorem q834 : (Jvm.Cond.methodLink "MoodFare$Reader" (126 : Nat) ({ cls := "MoodFare$Town", name := "hasStreet", desc := "(II)Z" } : Jvm.MethodName)) ∈ lw_all := lw_g (lw_at lw_m4 49 rfl) rfl
theorem q1908 : (Jvm.Cond.castable "MoodFare$Reader" "java/lang/Object") ∈ lw_tbl := lw_at lw_m8 163 rfl
theorem in_X5 : ∀ w ∈ wsX50, w ∈ lw_all := lw_in wsX50 [521, 523, 525, 527, 529, 531, 533] (by decide +kernel) (by decide +kernel)

/-! MoodFare$Fault -/
set_option maxRecDepth 100000
def RX6 : String := "MoodFare$Fault"
def TX6 : u_T := fun k => match k with
  | 0 => ("java/lang/Throwable", "cause", "Ljava/lang/Throwable;", false)
  | 1 => ("java/lang/Throwable", "stackTrace", "[Ljava/lang/StackTraceElement;", false)
  | 2 => ("java/lang/Throwable", "suppressedExceptions", "Ljava/util/List;", false)
  | 3 => ("java/lang/Throwable", "detailMessage", "Ljava/lang/String;", false)
  | 4 => ("java/lang/Throwable", "backtrace", "Ljava/lang/Object;", false)
  | 5 => ("java/lang/Throwable", "depth", "I", false)
  | 6 => ("MoodFare$Fault", "kind", "I", true)
  | _ => ("MoodFare$Fault", "place", "I", true)
def tyX6 : Nat → FieldType := fun k => match k with
  | 0 => .object "java/lang/Throwable"
  | 1 => .array (.object "java/lang/StackTraceElement")
  | 2 => .object "java/util/List"
  | 3 => .object "java/lang/String"
  | 4 => .object "java/lang/Object"
  | 5 => .int
  | 6 => .int
  | _ => .int
abbrev wsX60 : List Cond := u_ws RX6 TX6 8
theorem nmX6 : ∀ a, a < 8 → ∀ b, b < 8 → a ≠ b → (TX6 a).2.1 ≠ (TX6 b).2.1 := by decide +kernel
theorem tyX6_ok : ∀ k, k < 8 → parseFieldDescriptor (TX6 k).2.2.1 = some (tyX6 k) := by decide +kernel
abbrev cX6_init : ByteArray := prog_5_method_1_code
def yX6_init : MethodName := ⟨RX6, "<init>", "(II)V"⟩
def dkwX6_init_0 : List UInt8 := [42, 1, 1, 3, 3, 183, 0, 1, 42, 27, 181, 0, 7, 42, 28, 181, 0, 13, 177]
abbrev dktX6_init_0 : List UInt8 := dkwX6_init_0 ++ []
theorem dksX6_init_0 : cX6_init.data.toList.drop 0 = dktX6_init_0 := by decide +kernel
theorem dX6_init_0 : decode cX6_init 0 = .ok (.aload_n 0, 1) := dk_42 (dk_at dksX6_init_0 0 rfl rfl)
theorem dX6_init_1 : decode cX6_init 1 = .ok (.aconst_null, 1) := dk_1 (dk_at dksX6_init_0 1 rfl rfl)
theorem dX6_init_2 : decode cX6_init 2 = .ok (.aconst_null, 1) := dk_1 (dk_at dksX6_init_0 2 rfl rfl)
theorem dX6_init_3 : decode cX6_init 3 = .ok (.iconst 0, 1) := dk_3 (dk_at dksX6_init_0 3 rfl rfl)
theorem dX6_init_4 : decode cX6_init 4 = .ok (.iconst 0, 1) := dk_3 (dk_at dksX6_init_0 4 rfl rfl)
theorem dX6_init_5 : decode cX6_init 5 = .ok (.invokespecial 1, 3) := dk_183 0 1 (dk_at dksX6_init_0 5 rfl rfl)
theorem dX6_init_8 : decode cX6_init 8 = .ok (.aload_n 0, 1) := dk_42 (dk_at dksX6_init_0 8 rfl rfl)
theorem dX6_init_9 : decode cX6_init 9 = .ok (.iload_n 1, 1) := dk_27 (dk_at dksX6_init_0 9 rfl rfl)
theorem dX6_init_10 : decode cX6_init 10 = .ok (.putfield 7, 3) := dk_181 0 7 (dk_at dksX6_init_0 10 rfl rfl)
theorem dX6_init_13 : decode cX6_init 13 = .ok (.aload_n 0, 1) := dk_42 (dk_at dksX6_init_0 13 rfl rfl)
theorem dX6_init_14 : decode cX6_init 14 = .ok (.iload_n 2, 1) := dk_28 (dk_at dksX6_init_0 14 rfl rfl)
theorem dX6_init_15 : decode cX6_init 15 = .ok (.putfield 13, 3) := dk_181 0 13 (dk_at dksX6_init_0 15 rfl rfl)
theorem dX6_init_18 : decode cX6_init 18 = .ok (.return_, 1) := dk_177 (dk_at dksX6_init_0 18 rfl rfl)
theorem q85 : (Jvm.Cond.initialized "MoodFare$Fault") ∈ lw_all := lw_g (lw_at lw_m1 20 rfl) rfl
theorem q318 : (Jvm.Cond.selects "MoodFare$Fault" ({ cls := "java/lang/Throwable", name := "fillInStackTrace", desc := "()Ljava/lang/Throwable;" } : Jvm.MethodName) ({ cls := "java/lang/Throwable", name := "fillInStackTrace", desc := "()Ljava/lang/Throwable;" } : Jvm.MethodName)) ∈ lw_all := lw_g (lw_at lw_m2 13 rfl) rfl
theorem q563 : (Jvm.Cond.instantiable "MoodFare$Fault" (8 : Nat)) ∈ lw_all := lw_g (lw_at lw_m3 18 rfl) rfl
theorem q564 : (Jvm.Cond.castable "MoodFare$Fault" "MoodFare$Fault") ∈ lw_tbl := lw_at lw_m3 19 rfl
theorem q565 : (Jvm.Cond.selects "MoodFare$Fault" ({ cls := "java/lang/Throwable", name := "fillInStackTrace", desc := "(I)Ljava/lang/Throwable;" } : Jvm.MethodName) ({ cls := "java/lang/Throwable", name := "fillInStackTrace", desc := "(I)Ljava/lang/Throwable;" } : Jvm.MethodName)) ∈ lw_all := lw_g (lw_at lw_m3 20 rfl) rfl
theorem q566 : (Jvm.Cond.lays "MoodFare$Fault" "java/lang/Throwable" "cause" "Ljava/lang/Throwable;") ∈ lw_all := lw_g (lw_at lw_m3 21 rfl) rfl
theorem q567 : (Jvm.Cond.lays "MoodFare$Fault" "java/lang/Throwable" "stackTrace" "[Ljava/lang/StackTraceElement;") ∈ lw_all := lw_g (lw_at lw_m3 22 rfl) rfl
theorem q568 : (Jvm.Cond.lays "MoodFare$Fault" "java/lang/Throwable" "suppressedExceptions" "Ljava/util/List;") ∈ lw_all := lw_g (lw_at lw_m3 23 rfl) rfl
theorem q569 : (Jvm.Cond.lays "MoodFare$Fault" "java/lang/Throwable" "detailMessage" "Ljava/lang/String;") ∈ lw_all := lw_g (lw_at lw_m3 24 rfl) rfl
theorem q570 : (Jvm.Cond.lays "MoodFare$Fault" "java/lang/Throwable" "backtrace" "Ljava/lang/Object;") ∈ lw_all := lw_g (lw_at lw_m3 25 rfl) rfl
theorem q572 : (Jvm.Cond.instanceMethod ({ cls := "MoodFare$Fault", name := "<init>", desc := "(II)V" } : Jvm.MethodName)) ∈ lw_all := lw_g (lw_at lw_m3 27 rfl) rfl
theorem q573 : (Jvm.Cond.code ({ cls := "MoodFare$Fault", name := "<init>", desc := "(II)V" } : Jvm.MethodName) prog_5_method_1_code (3 : Nat) (Option.none : Option Jvm.ClassFile.FieldType)) ∈ lw_all := lw_g (lw_at lw_m3 28 rfl) rfl
theorem q574 : (Jvm.Cond.methodLink "MoodFare$Fault" (1 : Nat) ({ cls := "java/lang/Exception", name := "<init>", desc := "(Ljava/lang/String;Ljava/lang/Throwable;ZZ)V" } : Jvm.MethodName)) ∈ lw_all := lw_g (lw_at lw_m3 29 rfl) rfl
theorem q580 : (Jvm.Cond.fieldLink "MoodFare$Fault" (7 : Nat) "MoodFare$Fault" "kind" "I") ∈ lw_all := lw_g (lw_at lw_m3 35 rfl) rfl
theorem q582 : (Jvm.Cond.fieldLink "MoodFare$Fault" (13 : Nat) "MoodFare$Fault" "place" "I") ∈ lw_all := lw_g (lw_at lw_m3 37 rfl) rfl
theorem q584 : (Jvm.Cond.laysFinal "MoodFare$Fault" "MoodFare$Fault" "kind" "I") ∈ lw_all := lw_g (lw_at lw_m3 39 rfl) rfl
theorem q585 : (Jvm.Cond.soleField "MoodFare$Fault" "kind") ∈ lw_all := lw_g (lw_at lw_m3 40 rfl) rfl
theorem q586 : (Jvm.Cond.laysFinal "MoodFare$Fault" "MoodFare$Fault" "place" "I") ∈ lw_all := lw_g (lw_at lw_m3 41 rfl) rfl
theorem q587 : (Jvm.Cond.soleField "MoodFare$Fault" "place") ∈ lw_all := lw_g (lw_at lw_m3 42 rfl) rfl
theorem q588 : (Jvm.Cond.lays "MoodFare$Fault" "java/lang/Throwable" "depth" "I") ∈ lw_all := lw_g (lw_at lw_m3 43 rfl) rfl
theorem q589 : (Jvm.Cond.superclass "MoodFare$Fault" "java/lang/Exception") ∈ lw_all := lw_g (lw_at lw_m3 44 rfl) rfl
theorem q796 : (Jvm.Cond.selects "MoodFare$Fault" ({ cls := "java/lang/Object", name := "getClass", desc := "()Ljava/lang/Class;" } : Jvm.MethodName) ({ cls := "java/lang/Object", name := "getClass", desc := "()Ljava/lang/Class;" } : Jvm.MethodName)) ∈ lw_all := lw_g (lw_at lw_m4 11 rfl) rfl
theorem q1909 : (Jvm.Cond.castable "MoodFare$Fault" "java/lang/Object") ∈ lw_tbl := lw_at lw_m8 164 rfl
theorem in_X6 : ∀ w ∈ wsX60, w ∈ lw_all := lw_in wsX60 [566, 567, 568, 569, 570, 588, 584, 586] (by decide +kernel) (by decide +kernel)

/-! MoodFare$Corner -/
set_option maxRecDepth 100000
def RX7 : String := "MoodFare$Corner"
abbrev cX7_init : ByteArray := prog_3_method_1_code
def yX7_init : MethodName := ⟨RX7, "<init>", "(II)V"⟩
def dkwX7_init_0 : List UInt8 := [42, 183, 0, 1, 42, 27, 181, 0, 7, 42, 28, 181, 0, 13, 177]
abbrev dktX7_init_0 : List UInt8 := dkwX7_init_0 ++ []
theorem dksX7_init_0 : cX7_init.data.toList.drop 0 = dktX7_init_0 := by decide +kernel
theorem dX7_init_0 : decode cX7_init 0 = .ok (.aload_n 0, 1) := dk_42 (dk_at dksX7_init_0 0 rfl rfl)
theorem dX7_init_1 : decode cX7_init 1 = .ok (.invokespecial 1, 3) := dk_183 0 1 (dk_at dksX7_init_0 1 rfl rfl)
theorem dX7_init_4 : decode cX7_init 4 = .ok (.aload_n 0, 1) := dk_42 (dk_at dksX7_init_0 4 rfl rfl)
theorem dX7_init_5 : decode cX7_init 5 = .ok (.iload_n 1, 1) := dk_27 (dk_at dksX7_init_0 5 rfl rfl)
theorem dX7_init_6 : decode cX7_init 6 = .ok (.putfield 7, 3) := dk_181 0 7 (dk_at dksX7_init_0 6 rfl rfl)
theorem dX7_init_9 : decode cX7_init 9 = .ok (.aload_n 0, 1) := dk_42 (dk_at dksX7_init_0 9 rfl rfl)
theorem dX7_init_10 : decode cX7_init 10 = .ok (.iload_n 2, 1) := dk_28 (dk_at dksX7_init_0 10 rfl rfl)
theorem dX7_init_11 : decode cX7_init 11 = .ok (.putfield 13, 3) := dk_181 0 13 (dk_at dksX7_init_0 11 rfl rfl)
theorem dX7_init_14 : decode cX7_init 14 = .ok (.return_, 1) := dk_177 (dk_at dksX7_init_0 14 rfl rfl)
abbrev cX7_fee : ByteArray := prog_3_method_5_code
def yX7_fee : MethodName := ⟨RX7, "fee", "()I"⟩
theorem dX7_fee_0 : decode cX7_fee 0 = .ok (.aload_n 0, 1) := by decide +kernel
theorem dX7_fee_1 : decode cX7_fee 1 = .ok (.getfield 13, 3) := by decide +kernel
theorem dX7_fee_4 : decode cX7_fee 4 = .ok (.ireturn, 1) := by decide +kernel
abbrev cX7_number : ByteArray := prog_3_method_4_code
def yX7_number : MethodName := ⟨RX7, "number", "()I"⟩
theorem dX7_number_0 : decode cX7_number 0 = .ok (.aload_n 0, 1) := by decide +kernel
theorem dX7_number_1 : decode cX7_number 1 = .ok (.getfield 7, 3) := by decide +kernel
theorem dX7_number_4 : decode cX7_number 4 = .ok (.ireturn, 1) := by decide +kernel
theorem q91 : (Jvm.Cond.initialized "MoodFare$Corner") ∈ lw_all := lw_g (lw_at lw_m1 26 rfl) rfl
theorem q712 : (Jvm.Cond.instanceMethod ({ cls := "MoodFare$Corner", name := "<init>", desc := "(II)V" } : Jvm.MethodName)) ∈ lw_all := lw_g (lw_at lw_m3 167 rfl) rfl
theorem q713 : (Jvm.Cond.code ({ cls := "MoodFare$Corner", name := "<init>", desc := "(II)V" } : Jvm.MethodName) prog_3_method_1_code (3 : Nat) (Option.none : Option Jvm.ClassFile.FieldType)) ∈ lw_all := lw_g (lw_at lw_m3 168 rfl) rfl
theorem q714 : (Jvm.Cond.methodLink "MoodFare$Corner" (1 : Nat) ({ cls := "java/lang/Object", name := "<init>", desc := "()V" } : Jvm.MethodName)) ∈ lw_all := lw_g (lw_at lw_m3 169 rfl) rfl
theorem q715 : (Jvm.Cond.fieldLink "MoodFare$Corner" (7 : Nat) "MoodFare$Corner" "number" "I") ∈ lw_all := lw_g (lw_at lw_m3 170 rfl) rfl
theorem q716 : (Jvm.Cond.fieldLink "MoodFare$Corner" (13 : Nat) "MoodFare$Corner" "fee" "I") ∈ lw_all := lw_g (lw_at lw_m3 171 rfl) rfl
theorem q718 : (Jvm.Cond.soleField "MoodFare$Corner" "number") ∈ lw_all := lw_g (lw_at lw_m3 173 rfl) rfl
theorem q720 : (Jvm.Cond.soleField "MoodFare$Corner" "fee") ∈ lw_all := lw_g (lw_at lw_m3 175 rfl) rfl
theorem q917 : (Jvm.Cond.declares ({ cls := "MoodFare$Corner", name := "passed", desc := "(III)I" } : Jvm.MethodName)) ∈ lw_tbl := lw_at lw_m4 132 rfl
theorem q918 : (Jvm.Cond.sameMethod "MoodFare$Corner" "MoodFare$Corner" "passed" "(III)I") ∈ lw_all := lw_g (lw_at lw_m4 133 rfl) rfl
theorem q943 : (Jvm.Cond.instanceMethod ({ cls := "MoodFare$Corner", name := "fee", desc := "()I" } : Jvm.MethodName)) ∈ lw_all := lw_g (lw_at lw_m4 158 rfl) rfl
theorem q944 : (Jvm.Cond.sameMethod "MoodFare$Corner" "MoodFare$Corner" "fee" "()I") ∈ lw_all := lw_g (lw_at lw_m4 159 rfl) rfl
theorem q950 : (Jvm.Cond.code ({ cls := "MoodFare$Corner", name := "fee", desc := "()I" } : Jvm.MethodName) prog_3_method_5_code (1 : Nat) (Option.some Jvm.ClassFile.FieldType.int)) ∈ lw_all := lw_g (lw_at lw_m4 165 rfl) rfl
theorem q1293 : (Jvm.Cond.declares ({ cls := "MoodFare$Corner", name := "kind", desc := "()I" } : Jvm.MethodName)) ∈ lw_tbl := lw_at lw_m6 28 rfl
theorem q1294 : (Jvm.Cond.sameMethod "MoodFare$Corner" "MoodFare$Corner" "kind" "()I") ∈ lw_all := lw_g (lw_at lw_m6 29 rfl) rfl
theorem q1333 : (Jvm.Cond.instanceMethod ({ cls := "MoodFare$Corner", name := "number", desc := "()I" } : Jvm.MethodName)) ∈ lw_all := lw_g (lw_at lw_m6 68 rfl) rfl
theorem q1334 : (Jvm.Cond.sameMethod "MoodFare$Corner" "MoodFare$Corner" "number" "()I") ∈ lw_all := lw_g (lw_at lw_m6 69 rfl) rfl
theorem q1340 : (Jvm.Cond.code ({ cls := "MoodFare$Corner", name := "number", desc := "()I" } : Jvm.MethodName) prog_3_method_4_code (1 : Nat) (Option.some Jvm.ClassFile.FieldType.int)) ∈ lw_all := lw_g (lw_at lw_m6 75 rfl) rfl
theorem q1358 : (Jvm.Cond.superclass "MoodFare$Corner" "java/lang/Object") ∈ lw_all := lw_g (lw_at lw_m6 93 rfl) rfl
theorem q1377 : (Jvm.Cond.publicMethod ({ cls := "MoodFare$Corner", name := "fee", desc := "()I" } : Jvm.MethodName)) ∈ lw_tbl := lw_at lw_m6 112 rfl
theorem q1418 : (Jvm.Cond.publicMethod ({ cls := "MoodFare$Corner", name := "number", desc := "()I" } : Jvm.MethodName)) ∈ lw_tbl := lw_at lw_m6 153 rfl

/-! MoodFare$Joy -/
set_option maxRecDepth 100000
def RX8 : String := "MoodFare$Joy"
def TX8 : u_T := fun k => match k with
  | 0 => ("MoodFare$Corner", "number", "I", true)
  | _ => ("MoodFare$Corner", "fee", "I", true)
def tyX8 : Nat → FieldType := fun k => match k with
  | 0 => .int
  | _ => .int
abbrev wsX80 : List Cond := u_ws RX8 TX8 2
theorem nmX8 : ∀ a, a < 2 → ∀ b, b < 2 → a ≠ b → (TX8 a).2.1 ≠ (TX8 b).2.1 := by decide +kernel
theorem tyX8_ok : ∀ k, k < 2 → parseFieldDescriptor (TX8 k).2.2.1 = some (tyX8 k) := by decide +kernel
abbrev cX8_init : ByteArray := prog_12_method_1_code
def yX8_init : MethodName := ⟨RX8, "<init>", "(II)V"⟩
def dkwX8_init_0 : List UInt8 := [42, 27, 28, 183, 0, 3, 177]
abbrev dktX8_init_0 : List UInt8 := dkwX8_init_0 ++ []
theorem dksX8_init_0 : cX8_init.data.toList.drop 0 = dktX8_init_0 := by decide +kernel
theorem dX8_init_0 : decode cX8_init 0 = .ok (.aload_n 0, 1) := dk_42 (dk_at dksX8_init_0 0 rfl rfl)
theorem dX8_init_1 : decode cX8_init 1 = .ok (.iload_n 1, 1) := dk_27 (dk_at dksX8_init_0 1 rfl rfl)
theorem dX8_init_2 : decode cX8_init 2 = .ok (.iload_n 2, 1) := dk_28 (dk_at dksX8_init_0 2 rfl rfl)
theorem dX8_init_3 : decode cX8_init 3 = .ok (.invokespecial 3, 3) := dk_183 0 3 (dk_at dksX8_init_0 3 rfl rfl)
theorem dX8_init_6 : decode cX8_init 6 = .ok (.return_, 1) := dk_177 (dk_at dksX8_init_0 6 rfl rfl)
abbrev cX8_passed : ByteArray := prog_12_method_3_code
def yX8_passed : MethodName := ⟨RX8, "passed", "(III)I"⟩
def dkwX8_passed_0 : List UInt8 := [16, 9, 27, 28, 96, 184, 0, 9, 172]
abbrev dktX8_passed_0 : List UInt8 := dkwX8_passed_0 ++ []
theorem dksX8_passed_0 : cX8_passed.data.toList.drop 0 = dktX8_passed_0 := by decide +kernel
theorem dX8_passed_0 : decode cX8_passed 0 = .ok (.bipush 9, 2) := dk_16 9 (dk_at dksX8_passed_0 0 rfl rfl)
theorem dX8_passed_2 : decode cX8_passed 2 = .ok (.iload_n 1, 1) := dk_27 (dk_at dksX8_passed_0 2 rfl rfl)
theorem dX8_passed_3 : decode cX8_passed 3 = .ok (.iload_n 2, 1) := dk_28 (dk_at dksX8_passed_0 3 rfl rfl)
theorem dX8_passed_4 : decode cX8_passed 4 = .ok (.iadd, 1) := dk_96 (dk_at dksX8_passed_0 4 rfl rfl)
theorem dX8_passed_5 : decode cX8_passed 5 = .ok (.invokestatic 9, 3) := dk_184 0 9 (dk_at dksX8_passed_0 5 rfl rfl)
theorem dX8_passed_8 : decode cX8_passed 8 = .ok (.ireturn, 1) := dk_172 (dk_at dksX8_passed_0 8 rfl rfl)
abbrev cX8_kind : ByteArray := prog_12_method_2_code
def yX8_kind : MethodName := ⟨RX8, "kind", "()I"⟩
theorem dX8_kind_0 : decode cX8_kind 0 = .ok (.iconst 1, 1) := by decide +kernel
theorem dX8_kind_1 : decode cX8_kind 1 = .ok (.ireturn, 1) := by decide +kernel
abbrev cX8_size : ByteArray := prog_12_method_4_code
def yX8_size : MethodName := ⟨RX8, "size", "(LMoodFare$Trail;LMoodFare$Held;)I"⟩
def dkwX8_size_0 : List UInt8 := [43, 16, 11, 182, 0, 15, 42, 43, 44, 183, 0, 21, 42, 43, 44, 182, 0, 25, 96, 172]
abbrev dktX8_size_0 : List UInt8 := dkwX8_size_0 ++ []
theorem dksX8_size_0 : cX8_size.data.toList.drop 0 = dktX8_size_0 := by decide +kernel
theorem dX8_size_0 : decode cX8_size 0 = .ok (.aload_n 1, 1) := dk_43 (dk_at dksX8_size_0 0 rfl rfl)
theorem dX8_size_1 : decode cX8_size 1 = .ok (.bipush 11, 2) := dk_16 11 (dk_at dksX8_size_0 1 rfl rfl)
theorem dX8_size_3 : decode cX8_size 3 = .ok (.invokevirtual 15, 3) := dk_182 0 15 (dk_at dksX8_size_0 3 rfl rfl)
theorem dX8_size_6 : decode cX8_size 6 = .ok (.aload_n 0, 1) := dk_42 (dk_at dksX8_size_0 6 rfl rfl)
theorem dX8_size_7 : decode cX8_size 7 = .ok (.aload_n 1, 1) := dk_43 (dk_at dksX8_size_0 7 rfl rfl)
theorem dX8_size_8 : decode cX8_size 8 = .ok (.aload_n 2, 1) := dk_44 (dk_at dksX8_size_0 8 rfl rfl)
theorem dX8_size_9 : decode cX8_size 9 = .ok (.invokespecial 21, 3) := dk_183 0 21 (dk_at dksX8_size_0 9 rfl rfl)
theorem dX8_size_12 : decode cX8_size 12 = .ok (.aload_n 0, 1) := dk_42 (dk_at dksX8_size_0 12 rfl rfl)
theorem dX8_size_13 : decode cX8_size 13 = .ok (.aload_n 1, 1) := dk_43 (dk_at dksX8_size_0 13 rfl rfl)
theorem dX8_size_14 : decode cX8_size 14 = .ok (.aload_n 2, 1) := dk_44 (dk_at dksX8_size_0 14 rfl rfl)
theorem dX8_size_15 : decode cX8_size 15 = .ok (.invokevirtual 25, 3) := dk_182 0 25 (dk_at dksX8_size_0 15 rfl rfl)
theorem dX8_size_18 : decode cX8_size 18 = .ok (.iadd, 1) := dk_96 (dk_at dksX8_size_0 18 rfl rfl)
theorem dX8_size_19 : decode cX8_size 19 = .ok (.ireturn, 1) := dk_172 (dk_at dksX8_size_0 19 rfl rfl)
abbrev cX8_mark : ByteArray := prog_12_method_5_code
def yX8_mark : MethodName := ⟨RX8, "mark", "(LMoodFare$Trail;LMoodFare$Held;)I"⟩
def dkwX8_mark_0 : List UInt8 := [43, 16, 21, 182, 0, 15, 42, 43, 44, 183, 0, 30, 44, 185, 0, 31, 1, 0, 96, 172]
abbrev dktX8_mark_0 : List UInt8 := dkwX8_mark_0 ++ []
theorem dksX8_mark_0 : cX8_mark.data.toList.drop 0 = dktX8_mark_0 := by decide +kernel
theorem dX8_mark_0 : decode cX8_mark 0 = .ok (.aload_n 1, 1) := dk_43 (dk_at dksX8_mark_0 0 rfl rfl)
theorem dX8_mark_1 : decode cX8_mark 1 = .ok (.bipush 21, 2) := dk_16 21 (dk_at dksX8_mark_0 1 rfl rfl)
theorem dX8_mark_3 : decode cX8_mark 3 = .ok (.invokevirtual 15, 3) := dk_182 0 15 (dk_at dksX8_mark_0 3 rfl rfl)
theorem dX8_mark_6 : decode cX8_mark 6 = .ok (.aload_n 0, 1) := dk_42 (dk_at dksX8_mark_0 6 rfl rfl)
theorem dX8_mark_7 : decode cX8_mark 7 = .ok (.aload_n 1, 1) := dk_43 (dk_at dksX8_mark_0 7 rfl rfl)
theorem dX8_mark_8 : decode cX8_mark 8 = .ok (.aload_n 2, 1) := dk_44 (dk_at dksX8_mark_0 8 rfl rfl)
theorem dX8_mark_9 : decode cX8_mark 9 = .ok (.invokespecial 30, 3) := dk_183 0 30 (dk_at dksX8_mark_0 9 rfl rfl)
theorem dX8_mark_12 : decode cX8_mark 12 = .ok (.aload_n 2, 1) := dk_44 (dk_at dksX8_mark_0 12 rfl rfl)
theorem dX8_mark_13 : decode cX8_mark 13 = .ok (.invokeinterface 31 1, 5) := by decide +kernel
theorem dX8_mark_18 : decode cX8_mark 18 = .ok (.iadd, 1) := dk_96 (dk_at dksX8_mark_0 18 rfl rfl)
theorem dX8_mark_19 : decode cX8_mark 19 = .ok (.ireturn, 1) := dk_172 (dk_at dksX8_mark_0 19 rfl rfl)
theorem q92 : (Jvm.Cond.initialized "MoodFare$Joy") ∈ lw_all := lw_g (lw_at lw_m1 27 rfl) rfl
theorem q707 : (Jvm.Cond.instantiable "MoodFare$Joy" (2 : Nat)) ∈ lw_all := lw_g (lw_at lw_m3 162 rfl) rfl
theorem q709 : (Jvm.Cond.instanceMethod ({ cls := "MoodFare$Joy", name := "<init>", desc := "(II)V" } : Jvm.MethodName)) ∈ lw_all := lw_g (lw_at lw_m3 164 rfl) rfl
theorem q710 : (Jvm.Cond.code ({ cls := "MoodFare$Joy", name := "<init>", desc := "(II)V" } : Jvm.MethodName) prog_12_method_1_code (3 : Nat) (Option.none : Option Jvm.ClassFile.FieldType)) ∈ lw_all := lw_g (lw_at lw_m3 165 rfl) rfl
theorem q711 : (Jvm.Cond.methodLink "MoodFare$Joy" (3 : Nat) ({ cls := "MoodFare$Corner", name := "<init>", desc := "(II)V" } : Jvm.MethodName)) ∈ lw_all := lw_g (lw_at lw_m3 166 rfl) rfl
theorem q717 : (Jvm.Cond.laysFinal "MoodFare$Joy" "MoodFare$Corner" "number" "I") ∈ lw_all := lw_g (lw_at lw_m3 172 rfl) rfl
theorem q719 : (Jvm.Cond.laysFinal "MoodFare$Joy" "MoodFare$Corner" "fee" "I") ∈ lw_all := lw_g (lw_at lw_m3 174 rfl) rfl
theorem q721 : (Jvm.Cond.superclass "MoodFare$Joy" "MoodFare$Corner") ∈ lw_all := lw_g (lw_at lw_m3 176 rfl) rfl
theorem q802 : (Jvm.Cond.selects "MoodFare$Joy" ({ cls := "java/lang/Object", name := "getClass", desc := "()Ljava/lang/Class;" } : Jvm.MethodName) ({ cls := "java/lang/Object", name := "getClass", desc := "()Ljava/lang/Class;" } : Jvm.MethodName)) ∈ lw_all := lw_g (lw_at lw_m4 17 rfl) rfl
theorem q927 : (Jvm.Cond.instanceMethod ({ cls := "MoodFare$Joy", name := "passed", desc := "(III)I" } : Jvm.MethodName)) ∈ lw_all := lw_g (lw_at lw_m4 142 rfl) rfl
theorem q928 : (Jvm.Cond.code ({ cls := "MoodFare$Joy", name := "passed", desc := "(III)I" } : Jvm.MethodName) prog_12_method_3_code (4 : Nat) (Option.some Jvm.ClassFile.FieldType.int)) ∈ lw_all := lw_g (lw_at lw_m4 143 rfl) rfl
theorem q929 : (Jvm.Cond.methodLink "MoodFare$Joy" (9 : Nat) ({ cls := "java/lang/Math", name := "min", desc := "(II)I" } : Jvm.MethodName)) ∈ lw_all := lw_g (lw_at lw_m4 144 rfl) rfl
theorem q930 : (Jvm.Cond.selects "MoodFare$Joy" ({ cls := "MoodFare$Corner", name := "passed", desc := "(III)I" } : Jvm.MethodName) ({ cls := "MoodFare$Joy", name := "passed", desc := "(III)I" } : Jvm.MethodName)) ∈ lw_all := lw_g (lw_at lw_m4 145 rfl) rfl
theorem q947 : (Jvm.Cond.selects "MoodFare$Joy" ({ cls := "MoodFare$Corner", name := "fee", desc := "()I" } : Jvm.MethodName) ({ cls := "MoodFare$Corner", name := "fee", desc := "()I" } : Jvm.MethodName)) ∈ lw_all := lw_g (lw_at lw_m4 162 rfl) rfl
theorem q1301 : (Jvm.Cond.selects "MoodFare$Joy" ({ cls := "MoodFare$Corner", name := "kind", desc := "()I" } : Jvm.MethodName) ({ cls := "MoodFare$Joy", name := "kind", desc := "()I" } : Jvm.MethodName)) ∈ lw_all := lw_g (lw_at lw_m6 36 rfl) rfl
theorem q1302 : (Jvm.Cond.instanceMethod ({ cls := "MoodFare$Joy", name := "kind", desc := "()I" } : Jvm.MethodName)) ∈ lw_all := lw_g (lw_at lw_m6 37 rfl) rfl
theorem q1303 : (Jvm.Cond.code ({ cls := "MoodFare$Joy", name := "kind", desc := "()I" } : Jvm.MethodName) prog_12_method_2_code (1 : Nat) (Option.some Jvm.ClassFile.FieldType.int)) ∈ lw_all := lw_g (lw_at lw_m6 38 rfl) rfl
theorem q1337 : (Jvm.Cond.selects "MoodFare$Joy" ({ cls := "MoodFare$Corner", name := "number", desc := "()I" } : Jvm.MethodName) ({ cls := "MoodFare$Corner", name := "number", desc := "()I" } : Jvm.MethodName)) ∈ lw_all := lw_g (lw_at lw_m6 72 rfl) rfl
theorem q1381 : (Jvm.Cond.castable "MoodFare$Joy" "MoodFare$Marked") ∈ lw_tbl := lw_at lw_m6 116 rfl
theorem q1382 : (Jvm.Cond.selects "MoodFare$Joy" ({ cls := "MoodFare$Marked", name := "fee", desc := "()I" } : Jvm.MethodName) ({ cls := "MoodFare$Corner", name := "fee", desc := "()I" } : Jvm.MethodName)) ∈ lw_all := lw_g (lw_at lw_m6 117 rfl) rfl
theorem q1383 : (Jvm.Cond.unhidden "MoodFare$Joy" "fee" "()I") ∈ lw_tbl := lw_at lw_m6 118 rfl
theorem q1391 : (Jvm.Cond.instanceMethod ({ cls := "MoodFare$Joy", name := "size", desc := "(LMoodFare$Trail;LMoodFare$Held;)I" } : Jvm.MethodName)) ∈ lw_all := lw_g (lw_at lw_m6 126 rfl) rfl
theorem q1392 : (Jvm.Cond.code ({ cls := "MoodFare$Joy", name := "size", desc := "(LMoodFare$Trail;LMoodFare$Held;)I" } : Jvm.MethodName) prog_12_method_4_code (3 : Nat) (Option.some Jvm.ClassFile.FieldType.int)) ∈ lw_all := lw_g (lw_at lw_m6 127 rfl) rfl
theorem q1393 : (Jvm.Cond.methodLink "MoodFare$Joy" (15 : Nat) ({ cls := "MoodFare$Trail", name := "begins", desc := "(I)V" } : Jvm.MethodName)) ∈ lw_all := lw_g (lw_at lw_m6 128 rfl) rfl
theorem q1394 : (Jvm.Cond.methodLink "MoodFare$Joy" (25 : Nat) ({ cls := "MoodFare$Joy", name := "mark", desc := "(LMoodFare$Trail;LMoodFare$Held;)I" } : Jvm.MethodName)) ∈ lw_all := lw_g (lw_at lw_m6 129 rfl) rfl
theorem q1395 : (Jvm.Cond.instanceMethod ({ cls := "MoodFare$Joy", name := "mark", desc := "(LMoodFare$Trail;LMoodFare$Held;)I" } : Jvm.MethodName)) ∈ lw_all := lw_g (lw_at lw_m6 130 rfl) rfl
theorem q1396 : (Jvm.Cond.selects "MoodFare$Joy" ({ cls := "MoodFare$Joy", name := "mark", desc := "(LMoodFare$Trail;LMoodFare$Held;)I" } : Jvm.MethodName) ({ cls := "MoodFare$Joy", name := "mark", desc := "(LMoodFare$Trail;LMoodFare$Held;)I" } : Jvm.MethodName)) ∈ lw_all := lw_g (lw_at lw_m6 131 rfl) rfl
theorem q1397 : (Jvm.Cond.sameMethod "MoodFare$Joy" "MoodFare$Joy" "mark" "(LMoodFare$Trail;LMoodFare$Held;)I") ∈ lw_all := lw_g (lw_at lw_m6 132 rfl) rfl
theorem q1408 : (Jvm.Cond.code ({ cls := "MoodFare$Joy", name := "mark", desc := "(LMoodFare$Trail;LMoodFare$Held;)I" } : Jvm.MethodName) prog_12_method_5_code (3 : Nat) (Option.some Jvm.ClassFile.FieldType.int)) ∈ lw_all := lw_g (lw_at lw_m6 143 rfl) rfl
theorem q1421 : (Jvm.Cond.selects "MoodFare$Joy" ({ cls := "MoodFare$Marked", name := "number", desc := "()I" } : Jvm.MethodName) ({ cls := "MoodFare$Corner", name := "number", desc := "()I" } : Jvm.MethodName)) ∈ lw_all := lw_g (lw_at lw_m6 156 rfl) rfl
theorem q1422 : (Jvm.Cond.unhidden "MoodFare$Joy" "number" "()I") ∈ lw_tbl := lw_at lw_m6 157 rfl
theorem q1427 : (Jvm.Cond.interfaceEntry "MoodFare$Joy" (31 : Nat)) ∈ lw_tbl := lw_at lw_m6 162 rfl
theorem q1428 : (Jvm.Cond.methodLink "MoodFare$Joy" (31 : Nat) ({ cls := "MoodFare$Held", name := "much", desc := "()I" } : Jvm.MethodName)) ∈ lw_all := lw_g (lw_at lw_m6 163 rfl) rfl
theorem q1437 : (Jvm.Cond.selects "MoodFare$Joy" ({ cls := "MoodFare$Marked", name := "size", desc := "(LMoodFare$Trail;LMoodFare$Held;)I" } : Jvm.MethodName) ({ cls := "MoodFare$Joy", name := "size", desc := "(LMoodFare$Trail;LMoodFare$Held;)I" } : Jvm.MethodName)) ∈ lw_all := lw_g (lw_at lw_m6 172 rfl) rfl
theorem q1452 : (Jvm.Cond.selects "MoodFare$Joy" ({ cls := "MoodFare$Marked", name := "mark", desc := "(LMoodFare$Trail;LMoodFare$Held;)I" } : Jvm.MethodName) ({ cls := "MoodFare$Joy", name := "mark", desc := "(LMoodFare$Trail;LMoodFare$Held;)I" } : Jvm.MethodName)) ∈ lw_all := lw_g (lw_at lw_m6 187 rfl) rfl
theorem q1883 : (Jvm.Cond.sameMethod "MoodFare$Joy" "MoodFare$Joy" "passed" "(III)I") ∈ lw_all := lw_g (lw_at lw_m8 138 rfl) rfl
theorem q1885 : (Jvm.Cond.sameMethod "MoodFare$Joy" "MoodFare$Joy" "size" "(LMoodFare$Trail;LMoodFare$Held;)I") ∈ lw_all := lw_g (lw_at lw_m8 140 rfl) rfl
theorem q1892 : (Jvm.Cond.castable "MoodFare$Joy" "MoodFare$Corner") ∈ lw_tbl := lw_at lw_m8 147 rfl
theorem q1910 : (Jvm.Cond.castable "MoodFare$Joy" "java/lang/Object") ∈ lw_tbl := lw_at lw_m8 165 rfl
theorem in_X8 : ∀ w ∈ wsX80, w ∈ lw_all := lw_in wsX80 [717, 719] (by decide +kernel) (by decide +kernel)

/-! MoodFare$Love -/
set_option maxRecDepth 100000
def RX9 : String := "MoodFare$Love"
def TX9 : u_T := fun k => match k with
  | 0 => ("MoodFare$Corner", "number", "I", true)
  | _ => ("MoodFare$Corner", "fee", "I", true)
def tyX9 : Nat → FieldType := fun k => match k with
  | 0 => .int
  | _ => .int
abbrev wsX90 : List Cond := u_ws RX9 TX9 2
theorem nmX9 : ∀ a, a < 2 → ∀ b, b < 2 → a ≠ b → (TX9 a).2.1 ≠ (TX9 b).2.1 := by decide +kernel
theorem tyX9_ok : ∀ k, k < 2 → parseFieldDescriptor (TX9 k).2.2.1 = some (tyX9 k) := by decide +kernel
abbrev cX9_init : ByteArray := prog_13_method_1_code
def yX9_init : MethodName := ⟨RX9, "<init>", "(II)V"⟩
def dkwX9_init_0 : List UInt8 := [42, 27, 28, 183, 0, 3, 177]
abbrev dktX9_init_0 : List UInt8 := dkwX9_init_0 ++ []
theorem dksX9_init_0 : cX9_init.data.toList.drop 0 = dktX9_init_0 := by decide +kernel
theorem dX9_init_0 : decode cX9_init 0 = .ok (.aload_n 0, 1) := dk_42 (dk_at dksX9_init_0 0 rfl rfl)
theorem dX9_init_1 : decode cX9_init 1 = .ok (.iload_n 1, 1) := dk_27 (dk_at dksX9_init_0 1 rfl rfl)
theorem dX9_init_2 : decode cX9_init 2 = .ok (.iload_n 2, 1) := dk_28 (dk_at dksX9_init_0 2 rfl rfl)
theorem dX9_init_3 : decode cX9_init 3 = .ok (.invokespecial 3, 3) := dk_183 0 3 (dk_at dksX9_init_0 3 rfl rfl)
theorem dX9_init_6 : decode cX9_init 6 = .ok (.return_, 1) := dk_177 (dk_at dksX9_init_0 6 rfl rfl)
abbrev cX9_passed : ByteArray := prog_13_method_3_code
def yX9_passed : MethodName := ⟨RX9, "passed", "(III)I"⟩
def dkwX9_passed_0 : List UInt8 := [42, 27, 27, 7, 164, 0, 9, 5, 28, 104, 167, 0, 4, 28, 29, 183, 0, 9, 172]
abbrev dktX9_passed_0 : List UInt8 := dkwX9_passed_0 ++ []
theorem dksX9_passed_0 : cX9_passed.data.toList.drop 0 = dktX9_passed_0 := by decide +kernel
theorem dX9_passed_0 : decode cX9_passed 0 = .ok (.aload_n 0, 1) := dk_42 (dk_at dksX9_passed_0 0 rfl rfl)
theorem dX9_passed_1 : decode cX9_passed 1 = .ok (.iload_n 1, 1) := dk_27 (dk_at dksX9_passed_0 1 rfl rfl)
theorem dX9_passed_2 : decode cX9_passed 2 = .ok (.iload_n 1, 1) := dk_27 (dk_at dksX9_passed_0 2 rfl rfl)
theorem dX9_passed_3 : decode cX9_passed 3 = .ok (.iconst 4, 1) := dk_7 (dk_at dksX9_passed_0 3 rfl rfl)
theorem dX9_passed_4 : decode cX9_passed 4 = .ok (.if_icmp .le 9, 3) := dk_164 0 9 (dk_at dksX9_passed_0 4 rfl rfl)
theorem dX9_passed_7 : decode cX9_passed 7 = .ok (.iconst 2, 1) := dk_5 (dk_at dksX9_passed_0 7 rfl rfl)
theorem dX9_passed_8 : decode cX9_passed 8 = .ok (.iload_n 2, 1) := dk_28 (dk_at dksX9_passed_0 8 rfl rfl)
theorem dX9_passed_9 : decode cX9_passed 9 = .ok (.imul, 1) := dk_104 (dk_at dksX9_passed_0 9 rfl rfl)
theorem dX9_passed_10 : decode cX9_passed 10 = .ok (.goto 4, 3) := dk_167 0 4 (dk_at dksX9_passed_0 10 rfl rfl)
theorem dX9_passed_13 : decode cX9_passed 13 = .ok (.iload_n 2, 1) := dk_28 (dk_at dksX9_passed_0 13 rfl rfl)
theorem dX9_passed_14 : decode cX9_passed 14 = .ok (.iload_n 3, 1) := dk_29 (dk_at dksX9_passed_0 14 rfl rfl)
theorem dX9_passed_15 : decode cX9_passed 15 = .ok (.invokespecial 9, 3) := dk_183 0 9 (dk_at dksX9_passed_0 15 rfl rfl)
theorem dX9_passed_18 : decode cX9_passed 18 = .ok (.ireturn, 1) := dk_172 (dk_at dksX9_passed_0 18 rfl rfl)
abbrev cX9_kind : ByteArray := prog_13_method_2_code
def yX9_kind : MethodName := ⟨RX9, "kind", "()I"⟩
theorem dX9_kind_0 : decode cX9_kind 0 = .ok (.iconst 2, 1) := by decide +kernel
theorem dX9_kind_1 : decode cX9_kind 1 = .ok (.ireturn, 1) := by decide +kernel
abbrev cX9_mark : ByteArray := prog_13_method_5_code
def yX9_mark : MethodName := ⟨RX9, "mark", "(LMoodFare$Trail;LMoodFare$Held;)I"⟩
def dkwX9_mark_0 : List UInt8 := [43, 16, 24, 182, 0, 13, 5, 42, 43, 44, 183, 0, 23, 104, 172]
abbrev dktX9_mark_0 : List UInt8 := dkwX9_mark_0 ++ []
theorem dksX9_mark_0 : cX9_mark.data.toList.drop 0 = dktX9_mark_0 := by decide +kernel
theorem dX9_mark_0 : decode cX9_mark 0 = .ok (.aload_n 1, 1) := dk_43 (dk_at dksX9_mark_0 0 rfl rfl)
theorem dX9_mark_1 : decode cX9_mark 1 = .ok (.bipush 24, 2) := dk_16 24 (dk_at dksX9_mark_0 1 rfl rfl)
theorem dX9_mark_3 : decode cX9_mark 3 = .ok (.invokevirtual 13, 3) := dk_182 0 13 (dk_at dksX9_mark_0 3 rfl rfl)
theorem dX9_mark_6 : decode cX9_mark 6 = .ok (.iconst 2, 1) := dk_5 (dk_at dksX9_mark_0 6 rfl rfl)
theorem dX9_mark_7 : decode cX9_mark 7 = .ok (.aload_n 0, 1) := dk_42 (dk_at dksX9_mark_0 7 rfl rfl)
theorem dX9_mark_8 : decode cX9_mark 8 = .ok (.aload_n 1, 1) := dk_43 (dk_at dksX9_mark_0 8 rfl rfl)
theorem dX9_mark_9 : decode cX9_mark 9 = .ok (.aload_n 2, 1) := dk_44 (dk_at dksX9_mark_0 9 rfl rfl)
theorem dX9_mark_10 : decode cX9_mark 10 = .ok (.invokespecial 23, 3) := dk_183 0 23 (dk_at dksX9_mark_0 10 rfl rfl)
theorem dX9_mark_13 : decode cX9_mark 13 = .ok (.imul, 1) := dk_104 (dk_at dksX9_mark_0 13 rfl rfl)
theorem dX9_mark_14 : decode cX9_mark 14 = .ok (.ireturn, 1) := dk_172 (dk_at dksX9_mark_0 14 rfl rfl)
abbrev cX9_size : ByteArray := prog_13_method_4_code
def yX9_size : MethodName := ⟨RX9, "size", "(LMoodFare$Trail;LMoodFare$Held;)I"⟩
def dkwX9_size_0 : List UInt8 := [43, 16, 12, 182, 0, 13, 42, 43, 44, 183, 0, 19, 116, 172]
abbrev dktX9_size_0 : List UInt8 := dkwX9_size_0 ++ []
theorem dksX9_size_0 : cX9_size.data.toList.drop 0 = dktX9_size_0 := by decide +kernel
theorem dX9_size_0 : decode cX9_size 0 = .ok (.aload_n 1, 1) := dk_43 (dk_at dksX9_size_0 0 rfl rfl)
theorem dX9_size_1 : decode cX9_size 1 = .ok (.bipush 12, 2) := dk_16 12 (dk_at dksX9_size_0 1 rfl rfl)
theorem dX9_size_3 : decode cX9_size 3 = .ok (.invokevirtual 13, 3) := dk_182 0 13 (dk_at dksX9_size_0 3 rfl rfl)
theorem dX9_size_6 : decode cX9_size 6 = .ok (.aload_n 0, 1) := dk_42 (dk_at dksX9_size_0 6 rfl rfl)
theorem dX9_size_7 : decode cX9_size 7 = .ok (.aload_n 1, 1) := dk_43 (dk_at dksX9_size_0 7 rfl rfl)
theorem dX9_size_8 : decode cX9_size 8 = .ok (.aload_n 2, 1) := dk_44 (dk_at dksX9_size_0 8 rfl rfl)
theorem dX9_size_9 : decode cX9_size 9 = .ok (.invokespecial 19, 3) := dk_183 0 19 (dk_at dksX9_size_0 9 rfl rfl)
theorem dX9_size_12 : decode cX9_size 12 = .ok (.ineg, 1) := dk_116 (dk_at dksX9_size_0 12 rfl rfl)
theorem dX9_size_13 : decode cX9_size 13 = .ok (.ireturn, 1) := dk_172 (dk_at dksX9_size_0 13 rfl rfl)
theorem q93 : (Jvm.Cond.initialized "MoodFare$Love") ∈ lw_all := lw_g (lw_at lw_m1 28 rfl) rfl
theorem q723 : (Jvm.Cond.instantiable "MoodFare$Love" (2 : Nat)) ∈ lw_all := lw_g (lw_at lw_m3 178 rfl) rfl
theorem q725 : (Jvm.Cond.instanceMethod ({ cls := "MoodFare$Love", name := "<init>", desc := "(II)V" } : Jvm.MethodName)) ∈ lw_all := lw_g (lw_at lw_m3 180 rfl) rfl
theorem q726 : (Jvm.Cond.code ({ cls := "MoodFare$Love", name := "<init>", desc := "(II)V" } : Jvm.MethodName) prog_13_method_1_code (3 : Nat) (Option.none : Option Jvm.ClassFile.FieldType)) ∈ lw_all := lw_g (lw_at lw_m3 181 rfl) rfl
theorem q727 : (Jvm.Cond.methodLink "MoodFare$Love" (3 : Nat) ({ cls := "MoodFare$Joy", name := "<init>", desc := "(II)V" } : Jvm.MethodName)) ∈ lw_all := lw_g (lw_at lw_m3 182 rfl) rfl
theorem q728 : (Jvm.Cond.laysFinal "MoodFare$Love" "MoodFare$Corner" "number" "I") ∈ lw_all := lw_g (lw_at lw_m3 183 rfl) rfl
theorem q729 : (Jvm.Cond.laysFinal "MoodFare$Love" "MoodFare$Corner" "fee" "I") ∈ lw_all := lw_g (lw_at lw_m3 184 rfl) rfl
theorem q730 : (Jvm.Cond.superclass "MoodFare$Love" "MoodFare$Joy") ∈ lw_all := lw_g (lw_at lw_m3 185 rfl) rfl
theorem q803 : (Jvm.Cond.selects "MoodFare$Love" ({ cls := "java/lang/Object", name := "getClass", desc := "()Ljava/lang/Class;" } : Jvm.MethodName) ({ cls := "java/lang/Object", name := "getClass", desc := "()Ljava/lang/Class;" } : Jvm.MethodName)) ∈ lw_all := lw_g (lw_at lw_m4 18 rfl) rfl
theorem q931 : (Jvm.Cond.selects "MoodFare$Love" ({ cls := "MoodFare$Corner", name := "passed", desc := "(III)I" } : Jvm.MethodName) ({ cls := "MoodFare$Love", name := "passed", desc := "(III)I" } : Jvm.MethodName)) ∈ lw_all := lw_g (lw_at lw_m4 146 rfl) rfl
theorem q932 : (Jvm.Cond.instanceMethod ({ cls := "MoodFare$Love", name := "passed", desc := "(III)I" } : Jvm.MethodName)) ∈ lw_all := lw_g (lw_at lw_m4 147 rfl) rfl
theorem q933 : (Jvm.Cond.code ({ cls := "MoodFare$Love", name := "passed", desc := "(III)I" } : Jvm.MethodName) prog_13_method_3_code (4 : Nat) (Option.some Jvm.ClassFile.FieldType.int)) ∈ lw_all := lw_g (lw_at lw_m4 148 rfl) rfl
theorem q934 : (Jvm.Cond.methodLink "MoodFare$Love" (9 : Nat) ({ cls := "MoodFare$Joy", name := "passed", desc := "(III)I" } : Jvm.MethodName)) ∈ lw_all := lw_g (lw_at lw_m4 149 rfl) rfl
theorem q948 : (Jvm.Cond.selects "MoodFare$Love" ({ cls := "MoodFare$Corner", name := "fee", desc := "()I" } : Jvm.MethodName) ({ cls := "MoodFare$Corner", name := "fee", desc := "()I" } : Jvm.MethodName)) ∈ lw_all := lw_g (lw_at lw_m4 163 rfl) rfl
theorem q1304 : (Jvm.Cond.selects "MoodFare$Love" ({ cls := "MoodFare$Corner", name := "kind", desc := "()I" } : Jvm.MethodName) ({ cls := "MoodFare$Love", name := "kind", desc := "()I" } : Jvm.MethodName)) ∈ lw_all := lw_g (lw_at lw_m6 39 rfl) rfl
theorem q1305 : (Jvm.Cond.instanceMethod ({ cls := "MoodFare$Love", name := "kind", desc := "()I" } : Jvm.MethodName)) ∈ lw_all := lw_g (lw_at lw_m6 40 rfl) rfl
theorem q1306 : (Jvm.Cond.code ({ cls := "MoodFare$Love", name := "kind", desc := "()I" } : Jvm.MethodName) prog_13_method_2_code (1 : Nat) (Option.some Jvm.ClassFile.FieldType.int)) ∈ lw_all := lw_g (lw_at lw_m6 41 rfl) rfl
theorem q1338 : (Jvm.Cond.selects "MoodFare$Love" ({ cls := "MoodFare$Corner", name := "number", desc := "()I" } : Jvm.MethodName) ({ cls := "MoodFare$Corner", name := "number", desc := "()I" } : Jvm.MethodName)) ∈ lw_all := lw_g (lw_at lw_m6 73 rfl) rfl
theorem q1384 : (Jvm.Cond.castable "MoodFare$Love" "MoodFare$Marked") ∈ lw_tbl := lw_at lw_m6 119 rfl
theorem q1385 : (Jvm.Cond.selects "MoodFare$Love" ({ cls := "MoodFare$Marked", name := "fee", desc := "()I" } : Jvm.MethodName) ({ cls := "MoodFare$Corner", name := "fee", desc := "()I" } : Jvm.MethodName)) ∈ lw_all := lw_g (lw_at lw_m6 120 rfl) rfl
theorem q1386 : (Jvm.Cond.unhidden "MoodFare$Love" "fee" "()I") ∈ lw_tbl := lw_at lw_m6 121 rfl
theorem q1403 : (Jvm.Cond.selects "MoodFare$Love" ({ cls := "MoodFare$Joy", name := "mark", desc := "(LMoodFare$Trail;LMoodFare$Held;)I" } : Jvm.MethodName) ({ cls := "MoodFare$Love", name := "mark", desc := "(LMoodFare$Trail;LMoodFare$Held;)I" } : Jvm.MethodName)) ∈ lw_all := lw_g (lw_at lw_m6 138 rfl) rfl
theorem q1404 : (Jvm.Cond.instanceMethod ({ cls := "MoodFare$Love", name := "mark", desc := "(LMoodFare$Trail;LMoodFare$Held;)I" } : Jvm.MethodName)) ∈ lw_all := lw_g (lw_at lw_m6 139 rfl) rfl
theorem q1405 : (Jvm.Cond.code ({ cls := "MoodFare$Love", name := "mark", desc := "(LMoodFare$Trail;LMoodFare$Held;)I" } : Jvm.MethodName) prog_13_method_5_code (3 : Nat) (Option.some Jvm.ClassFile.FieldType.int)) ∈ lw_all := lw_g (lw_at lw_m6 140 rfl) rfl
theorem q1406 : (Jvm.Cond.methodLink "MoodFare$Love" (13 : Nat) ({ cls := "MoodFare$Trail", name := "begins", desc := "(I)V" } : Jvm.MethodName)) ∈ lw_all := lw_g (lw_at lw_m6 141 rfl) rfl
theorem q1407 : (Jvm.Cond.methodLink "MoodFare$Love" (23 : Nat) ({ cls := "MoodFare$Joy", name := "mark", desc := "(LMoodFare$Trail;LMoodFare$Held;)I" } : Jvm.MethodName)) ∈ lw_all := lw_g (lw_at lw_m6 142 rfl) rfl
theorem q1423 : (Jvm.Cond.selects "MoodFare$Love" ({ cls := "MoodFare$Marked", name := "number", desc := "()I" } : Jvm.MethodName) ({ cls := "MoodFare$Corner", name := "number", desc := "()I" } : Jvm.MethodName)) ∈ lw_all := lw_g (lw_at lw_m6 158 rfl) rfl
theorem q1424 : (Jvm.Cond.unhidden "MoodFare$Love" "number" "()I") ∈ lw_tbl := lw_at lw_m6 159 rfl
theorem q1438 : (Jvm.Cond.selects "MoodFare$Love" ({ cls := "MoodFare$Marked", name := "size", desc := "(LMoodFare$Trail;LMoodFare$Held;)I" } : Jvm.MethodName) ({ cls := "MoodFare$Love", name := "size", desc := "(LMoodFare$Trail;LMoodFare$Held;)I" } : Jvm.MethodName)) ∈ lw_all := lw_g (lw_at lw_m6 173 rfl) rfl
theorem q1439 : (Jvm.Cond.instanceMethod ({ cls := "MoodFare$Love", name := "size", desc := "(LMoodFare$Trail;LMoodFare$Held;)I" } : Jvm.MethodName)) ∈ lw_all := lw_g (lw_at lw_m6 174 rfl) rfl
theorem q1440 : (Jvm.Cond.code ({ cls := "MoodFare$Love", name := "size", desc := "(LMoodFare$Trail;LMoodFare$Held;)I" } : Jvm.MethodName) prog_13_method_4_code (3 : Nat) (Option.some Jvm.ClassFile.FieldType.int)) ∈ lw_all := lw_g (lw_at lw_m6 175 rfl) rfl
theorem q1441 : (Jvm.Cond.methodLink "MoodFare$Love" (19 : Nat) ({ cls := "MoodFare$Joy", name := "size", desc := "(LMoodFare$Trail;LMoodFare$Held;)I" } : Jvm.MethodName)) ∈ lw_all := lw_g (lw_at lw_m6 176 rfl) rfl
theorem q1453 : (Jvm.Cond.selects "MoodFare$Love" ({ cls := "MoodFare$Marked", name := "mark", desc := "(LMoodFare$Trail;LMoodFare$Held;)I" } : Jvm.MethodName) ({ cls := "MoodFare$Love", name := "mark", desc := "(LMoodFare$Trail;LMoodFare$Held;)I" } : Jvm.MethodName)) ∈ lw_all := lw_g (lw_at lw_m6 188 rfl) rfl
theorem q1893 : (Jvm.Cond.castable "MoodFare$Love" "MoodFare$Corner") ∈ lw_tbl := lw_at lw_m8 148 rfl
theorem q1896 : (Jvm.Cond.castable "MoodFare$Love" "MoodFare$Joy") ∈ lw_tbl := lw_at lw_m8 151 rfl
theorem q1911 : (Jvm.Cond.castable "MoodFare$Love" "java/lang/Object") ∈ lw_tbl := lw_at lw_m8 166 rfl
theorem in_X9 : ∀ w ∈ wsX90, w ∈ lw_all := lw_in wsX90 [728, 729] (by decide +kernel) (by decide +kernel)

/-! MoodFare$Haste -/
set_option maxRecDepth 100000
def RX10 : String := "MoodFare$Haste"
def TX10 : u_T := fun k => match k with
  | 0 => ("MoodFare$Corner", "number", "I", true)
  | _ => ("MoodFare$Corner", "fee", "I", true)
def tyX10 : Nat → FieldType := fun k => match k with
  | 0 => .int
  | _ => .int
abbrev wsX100 : List Cond := u_ws RX10 TX10 2
theorem nmX10 : ∀ a, a < 2 → ∀ b, b < 2 → a ≠ b → (TX10 a).2.1 ≠ (TX10 b).2.1 := by decide +kernel
theorem tyX10_ok : ∀ k, k < 2 → parseFieldDescriptor (TX10 k).2.2.1 = some (tyX10 k) := by decide +kernel
abbrev cX10_init : ByteArray := prog_10_method_1_code
def yX10_init : MethodName := ⟨RX10, "<init>", "(II)V"⟩
def dkwX10_init_0 : List UInt8 := [42, 27, 28, 183, 0, 3, 177]
abbrev dktX10_init_0 : List UInt8 := dkwX10_init_0 ++ []
theorem dksX10_init_0 : cX10_init.data.toList.drop 0 = dktX10_init_0 := by decide +kernel
theorem dX10_init_0 : decode cX10_init 0 = .ok (.aload_n 0, 1) := dk_42 (dk_at dksX10_init_0 0 rfl rfl)
theorem dX10_init_1 : decode cX10_init 1 = .ok (.iload_n 1, 1) := dk_27 (dk_at dksX10_init_0 1 rfl rfl)
theorem dX10_init_2 : decode cX10_init 2 = .ok (.iload_n 2, 1) := dk_28 (dk_at dksX10_init_0 2 rfl rfl)
theorem dX10_init_3 : decode cX10_init 3 = .ok (.invokespecial 3, 3) := dk_183 0 3 (dk_at dksX10_init_0 3 rfl rfl)
theorem dX10_init_6 : decode cX10_init 6 = .ok (.return_, 1) := dk_177 (dk_at dksX10_init_0 6 rfl rfl)
abbrev cX10_passed : ByteArray := prog_10_method_3_code
def yX10_passed : MethodName := ⟨RX10, "passed", "(III)I"⟩
def dkwX10_passed_0 : List UInt8 := [29, 5, 112, 4, 160, 0, 13, 42, 27, 28, 29, 183, 0, 9, 167, 0, 4, 27, 172]
abbrev dktX10_passed_0 : List UInt8 := dkwX10_passed_0 ++ []
theorem dksX10_passed_0 : cX10_passed.data.toList.drop 0 = dktX10_passed_0 := by decide +kernel
theorem dX10_passed_0 : decode cX10_passed 0 = .ok (.iload_n 3, 1) := dk_29 (dk_at dksX10_passed_0 0 rfl rfl)
theorem dX10_passed_1 : decode cX10_passed 1 = .ok (.iconst 2, 1) := dk_5 (dk_at dksX10_passed_0 1 rfl rfl)
theorem dX10_passed_2 : decode cX10_passed 2 = .ok (.irem, 1) := dk_112 (dk_at dksX10_passed_0 2 rfl rfl)
theorem dX10_passed_3 : decode cX10_passed 3 = .ok (.iconst 1, 1) := dk_4 (dk_at dksX10_passed_0 3 rfl rfl)
theorem dX10_passed_4 : decode cX10_passed 4 = .ok (.if_icmp .ne 13, 3) := dk_160 0 13 (dk_at dksX10_passed_0 4 rfl rfl)
theorem dX10_passed_7 : decode cX10_passed 7 = .ok (.aload_n 0, 1) := dk_42 (dk_at dksX10_passed_0 7 rfl rfl)
theorem dX10_passed_8 : decode cX10_passed 8 = .ok (.iload_n 1, 1) := dk_27 (dk_at dksX10_passed_0 8 rfl rfl)
theorem dX10_passed_9 : decode cX10_passed 9 = .ok (.iload_n 2, 1) := dk_28 (dk_at dksX10_passed_0 9 rfl rfl)
theorem dX10_passed_10 : decode cX10_passed 10 = .ok (.iload_n 3, 1) := dk_29 (dk_at dksX10_passed_0 10 rfl rfl)
theorem dX10_passed_11 : decode cX10_passed 11 = .ok (.invokespecial 9, 3) := dk_183 0 9 (dk_at dksX10_passed_0 11 rfl rfl)
theorem dX10_passed_14 : decode cX10_passed 14 = .ok (.goto 4, 3) := dk_167 0 4 (dk_at dksX10_passed_0 14 rfl rfl)
theorem dX10_passed_17 : decode cX10_passed 17 = .ok (.iload_n 1, 1) := dk_27 (dk_at dksX10_passed_0 17 rfl rfl)
theorem dX10_passed_18 : decode cX10_passed 18 = .ok (.ireturn, 1) := dk_172 (dk_at dksX10_passed_0 18 rfl rfl)
abbrev cX10_kind : ByteArray := prog_10_method_2_code
def yX10_kind : MethodName := ⟨RX10, "kind", "()I"⟩
theorem dX10_kind_0 : decode cX10_kind 0 = .ok (.iconst 3, 1) := by decide +kernel
theorem dX10_kind_1 : decode cX10_kind 1 = .ok (.ireturn, 1) := by decide +kernel
abbrev cX10_mark : ByteArray := prog_10_method_4_code
def yX10_mark : MethodName := ⟨RX10, "mark", "(LMoodFare$Trail;LMoodFare$Held;)I"⟩
def dkwX10_mark_0 : List UInt8 := [43, 16, 22, 182, 0, 13, 42, 43, 44, 183, 0, 19, 17, 3, 232, 100, 172]
abbrev dktX10_mark_0 : List UInt8 := dkwX10_mark_0 ++ []
theorem dksX10_mark_0 : cX10_mark.data.toList.drop 0 = dktX10_mark_0 := by decide +kernel
theorem dX10_mark_0 : decode cX10_mark 0 = .ok (.aload_n 1, 1) := dk_43 (dk_at dksX10_mark_0 0 rfl rfl)
theorem dX10_mark_1 : decode cX10_mark 1 = .ok (.bipush 22, 2) := dk_16 22 (dk_at dksX10_mark_0 1 rfl rfl)
theorem dX10_mark_3 : decode cX10_mark 3 = .ok (.invokevirtual 13, 3) := dk_182 0 13 (dk_at dksX10_mark_0 3 rfl rfl)
theorem dX10_mark_6 : decode cX10_mark 6 = .ok (.aload_n 0, 1) := dk_42 (dk_at dksX10_mark_0 6 rfl rfl)
theorem dX10_mark_7 : decode cX10_mark 7 = .ok (.aload_n 1, 1) := dk_43 (dk_at dksX10_mark_0 7 rfl rfl)
theorem dX10_mark_8 : decode cX10_mark 8 = .ok (.aload_n 2, 1) := dk_44 (dk_at dksX10_mark_0 8 rfl rfl)
theorem dX10_mark_9 : decode cX10_mark 9 = .ok (.invokespecial 19, 3) := dk_183 0 19 (dk_at dksX10_mark_0 9 rfl rfl)
theorem dX10_mark_12 : decode cX10_mark 12 = .ok (.sipush 1000, 3) := dk_17 3 232 (dk_at dksX10_mark_0 12 rfl rfl)
theorem dX10_mark_15 : decode cX10_mark 15 = .ok (.isub, 1) := dk_100 (dk_at dksX10_mark_0 15 rfl rfl)
theorem dX10_mark_16 : decode cX10_mark 16 = .ok (.ireturn, 1) := dk_172 (dk_at dksX10_mark_0 16 rfl rfl)
theorem q94 : (Jvm.Cond.initialized "MoodFare$Haste") ∈ lw_all := lw_g (lw_at lw_m1 29 rfl) rfl
theorem q732 : (Jvm.Cond.instantiable "MoodFare$Haste" (2 : Nat)) ∈ lw_all := lw_g (lw_at lw_m3 187 rfl) rfl
theorem q734 : (Jvm.Cond.instanceMethod ({ cls := "MoodFare$Haste", name := "<init>", desc := "(II)V" } : Jvm.MethodName)) ∈ lw_all := lw_g (lw_at lw_m3 189 rfl) rfl
theorem q735 : (Jvm.Cond.code ({ cls := "MoodFare$Haste", name := "<init>", desc := "(II)V" } : Jvm.MethodName) prog_10_method_1_code (3 : Nat) (Option.none : Option Jvm.ClassFile.FieldType)) ∈ lw_all := lw_g (lw_at lw_m3 190 rfl) rfl
theorem q736 : (Jvm.Cond.methodLink "MoodFare$Haste" (3 : Nat) ({ cls := "MoodFare$Joy", name := "<init>", desc := "(II)V" } : Jvm.MethodName)) ∈ lw_all := lw_g (lw_at lw_m3 191 rfl) rfl
theorem q737 : (Jvm.Cond.laysFinal "MoodFare$Haste" "MoodFare$Corner" "number" "I") ∈ lw_all := lw_g (lw_at lw_m3 192 rfl) rfl
theorem q738 : (Jvm.Cond.laysFinal "MoodFare$Haste" "MoodFare$Corner" "fee" "I") ∈ lw_all := lw_g (lw_at lw_m3 193 rfl) rfl
theorem q739 : (Jvm.Cond.superclass "MoodFare$Haste" "MoodFare$Joy") ∈ lw_all := lw_g (lw_at lw_m3 194 rfl) rfl
theorem q801 : (Jvm.Cond.selects "MoodFare$Haste" ({ cls := "java/lang/Object", name := "getClass", desc := "()Ljava/lang/Class;" } : Jvm.MethodName) ({ cls := "java/lang/Object", name := "getClass", desc := "()Ljava/lang/Class;" } : Jvm.MethodName)) ∈ lw_all := lw_g (lw_at lw_m4 16 rfl) rfl
theorem q923 : (Jvm.Cond.selects "MoodFare$Haste" ({ cls := "MoodFare$Corner", name := "passed", desc := "(III)I" } : Jvm.MethodName) ({ cls := "MoodFare$Haste", name := "passed", desc := "(III)I" } : Jvm.MethodName)) ∈ lw_all := lw_g (lw_at lw_m4 138 rfl) rfl
theorem q924 : (Jvm.Cond.instanceMethod ({ cls := "MoodFare$Haste", name := "passed", desc := "(III)I" } : Jvm.MethodName)) ∈ lw_all := lw_g (lw_at lw_m4 139 rfl) rfl
theorem q925 : (Jvm.Cond.code ({ cls := "MoodFare$Haste", name := "passed", desc := "(III)I" } : Jvm.MethodName) prog_10_method_3_code (4 : Nat) (Option.some Jvm.ClassFile.FieldType.int)) ∈ lw_all := lw_g (lw_at lw_m4 140 rfl) rfl
theorem q926 : (Jvm.Cond.methodLink "MoodFare$Haste" (9 : Nat) ({ cls := "MoodFare$Joy", name := "passed", desc := "(III)I" } : Jvm.MethodName)) ∈ lw_all := lw_g (lw_at lw_m4 141 rfl) rfl
theorem q946 : (Jvm.Cond.selects "MoodFare$Haste" ({ cls := "MoodFare$Corner", name := "fee", desc := "()I" } : Jvm.MethodName) ({ cls := "MoodFare$Corner", name := "fee", desc := "()I" } : Jvm.MethodName)) ∈ lw_all := lw_g (lw_at lw_m4 161 rfl) rfl
theorem q1298 : (Jvm.Cond.selects "MoodFare$Haste" ({ cls := "MoodFare$Corner", name := "kind", desc := "()I" } : Jvm.MethodName) ({ cls := "MoodFare$Haste", name := "kind", desc := "()I" } : Jvm.MethodName)) ∈ lw_all := lw_g (lw_at lw_m6 33 rfl) rfl
theorem q1299 : (Jvm.Cond.instanceMethod ({ cls := "MoodFare$Haste", name := "kind", desc := "()I" } : Jvm.MethodName)) ∈ lw_all := lw_g (lw_at lw_m6 34 rfl) rfl
theorem q1300 : (Jvm.Cond.code ({ cls := "MoodFare$Haste", name := "kind", desc := "()I" } : Jvm.MethodName) prog_10_method_2_code (1 : Nat) (Option.some Jvm.ClassFile.FieldType.int)) ∈ lw_all := lw_g (lw_at lw_m6 35 rfl) rfl
theorem q1336 : (Jvm.Cond.selects "MoodFare$Haste" ({ cls := "MoodFare$Corner", name := "number", desc := "()I" } : Jvm.MethodName) ({ cls := "MoodFare$Corner", name := "number", desc := "()I" } : Jvm.MethodName)) ∈ lw_all := lw_g (lw_at lw_m6 71 rfl) rfl
theorem q1378 : (Jvm.Cond.castable "MoodFare$Haste" "MoodFare$Marked") ∈ lw_tbl := lw_at lw_m6 113 rfl
theorem q1379 : (Jvm.Cond.selects "MoodFare$Haste" ({ cls := "MoodFare$Marked", name := "fee", desc := "()I" } : Jvm.MethodName) ({ cls := "MoodFare$Corner", name := "fee", desc := "()I" } : Jvm.MethodName)) ∈ lw_all := lw_g (lw_at lw_m6 114 rfl) rfl
theorem q1380 : (Jvm.Cond.unhidden "MoodFare$Haste" "fee" "()I") ∈ lw_tbl := lw_at lw_m6 115 rfl
theorem q1390 : (Jvm.Cond.selects "MoodFare$Haste" ({ cls := "MoodFare$Marked", name := "size", desc := "(LMoodFare$Trail;LMoodFare$Held;)I" } : Jvm.MethodName) ({ cls := "MoodFare$Joy", name := "size", desc := "(LMoodFare$Trail;LMoodFare$Held;)I" } : Jvm.MethodName)) ∈ lw_all := lw_g (lw_at lw_m6 125 rfl) rfl
theorem q1398 : (Jvm.Cond.selects "MoodFare$Haste" ({ cls := "MoodFare$Joy", name := "mark", desc := "(LMoodFare$Trail;LMoodFare$Held;)I" } : Jvm.MethodName) ({ cls := "MoodFare$Haste", name := "mark", desc := "(LMoodFare$Trail;LMoodFare$Held;)I" } : Jvm.MethodName)) ∈ lw_all := lw_g (lw_at lw_m6 133 rfl) rfl
theorem q1399 : (Jvm.Cond.instanceMethod ({ cls := "MoodFare$Haste", name := "mark", desc := "(LMoodFare$Trail;LMoodFare$Held;)I" } : Jvm.MethodName)) ∈ lw_all := lw_g (lw_at lw_m6 134 rfl) rfl
theorem q1400 : (Jvm.Cond.code ({ cls := "MoodFare$Haste", name := "mark", desc := "(LMoodFare$Trail;LMoodFare$Held;)I" } : Jvm.MethodName) prog_10_method_4_code (3 : Nat) (Option.some Jvm.ClassFile.FieldType.int)) ∈ lw_all := lw_g (lw_at lw_m6 135 rfl) rfl
theorem q1401 : (Jvm.Cond.methodLink "MoodFare$Haste" (13 : Nat) ({ cls := "MoodFare$Trail", name := "begins", desc := "(I)V" } : Jvm.MethodName)) ∈ lw_all := lw_g (lw_at lw_m6 136 rfl) rfl
theorem q1402 : (Jvm.Cond.methodLink "MoodFare$Haste" (19 : Nat) ({ cls := "MoodFare$Joy", name := "mark", desc := "(LMoodFare$Trail;LMoodFare$Held;)I" } : Jvm.MethodName)) ∈ lw_all := lw_g (lw_at lw_m6 137 rfl) rfl
theorem q1419 : (Jvm.Cond.selects "MoodFare$Haste" ({ cls := "MoodFare$Marked", name := "number", desc := "()I" } : Jvm.MethodName) ({ cls := "MoodFare$Corner", name := "number", desc := "()I" } : Jvm.MethodName)) ∈ lw_all := lw_g (lw_at lw_m6 154 rfl) rfl
theorem q1420 : (Jvm.Cond.unhidden "MoodFare$Haste" "number" "()I") ∈ lw_tbl := lw_at lw_m6 155 rfl
theorem q1451 : (Jvm.Cond.selects "MoodFare$Haste" ({ cls := "MoodFare$Marked", name := "mark", desc := "(LMoodFare$Trail;LMoodFare$Held;)I" } : Jvm.MethodName) ({ cls := "MoodFare$Haste", name := "mark", desc := "(LMoodFare$Trail;LMoodFare$Held;)I" } : Jvm.MethodName)) ∈ lw_all := lw_g (lw_at lw_m6 186 rfl) rfl
theorem q1891 : (Jvm.Cond.castable "MoodFare$Haste" "MoodFare$Corner") ∈ lw_tbl := lw_at lw_m8 146 rfl
theorem q1895 : (Jvm.Cond.castable "MoodFare$Haste" "MoodFare$Joy") ∈ lw_tbl := lw_at lw_m8 150 rfl
theorem q1912 : (Jvm.Cond.castable "MoodFare$Haste" "java/lang/Object") ∈ lw_tbl := lw_at lw_m8 167 rfl
theorem in_X10 : ∀ w ∈ wsX100, w ∈ lw_all := lw_in wsX100 [737, 738] (by decide +kernel) (by decide +kernel)

/-! MoodFare$Grief -/
set_option maxRecDepth 100000
def RX11 : String := "MoodFare$Grief"
def TX11 : u_T := fun k => match k with
  | 0 => ("MoodFare$Corner", "number", "I", true)
  | _ => ("MoodFare$Corner", "fee", "I", true)
def tyX11 : Nat → FieldType := fun k => match k with
  | 0 => .int
  | _ => .int
abbrev wsX110 : List Cond := u_ws RX11 TX11 2
theorem nmX11 : ∀ a, a < 2 → ∀ b, b < 2 → a ≠ b → (TX11 a).2.1 ≠ (TX11 b).2.1 := by decide +kernel
theorem tyX11_ok : ∀ k, k < 2 → parseFieldDescriptor (TX11 k).2.2.1 = some (tyX11 k) := by decide +kernel
abbrev cX11_init : ByteArray := prog_8_method_1_code
def yX11_init : MethodName := ⟨RX11, "<init>", "(II)V"⟩
def dkwX11_init_0 : List UInt8 := [42, 27, 28, 183, 0, 3, 177]
abbrev dktX11_init_0 : List UInt8 := dkwX11_init_0 ++ []
theorem dksX11_init_0 : cX11_init.data.toList.drop 0 = dktX11_init_0 := by decide +kernel
theorem dX11_init_0 : decode cX11_init 0 = .ok (.aload_n 0, 1) := dk_42 (dk_at dksX11_init_0 0 rfl rfl)
theorem dX11_init_1 : decode cX11_init 1 = .ok (.iload_n 1, 1) := dk_27 (dk_at dksX11_init_0 1 rfl rfl)
theorem dX11_init_2 : decode cX11_init 2 = .ok (.iload_n 2, 1) := dk_28 (dk_at dksX11_init_0 2 rfl rfl)
theorem dX11_init_3 : decode cX11_init 3 = .ok (.invokespecial 3, 3) := dk_183 0 3 (dk_at dksX11_init_0 3 rfl rfl)
theorem dX11_init_6 : decode cX11_init 6 = .ok (.return_, 1) := dk_177 (dk_at dksX11_init_0 6 rfl rfl)
abbrev cX11_passed : ByteArray := prog_8_method_3_code
def yX11_passed : MethodName := ⟨RX11, "passed", "(III)I"⟩
def dkwX11_passed_0 : List UInt8 := [3, 27, 28, 100, 184, 0, 9, 172]
abbrev dktX11_passed_0 : List UInt8 := dkwX11_passed_0 ++ []
theorem dksX11_passed_0 : cX11_passed.data.toList.drop 0 = dktX11_passed_0 := by decide +kernel
theorem dX11_passed_0 : decode cX11_passed 0 = .ok (.iconst 0, 1) := dk_3 (dk_at dksX11_passed_0 0 rfl rfl)
theorem dX11_passed_1 : decode cX11_passed 1 = .ok (.iload_n 1, 1) := dk_27 (dk_at dksX11_passed_0 1 rfl rfl)
theorem dX11_passed_2 : decode cX11_passed 2 = .ok (.iload_n 2, 1) := dk_28 (dk_at dksX11_passed_0 2 rfl rfl)
theorem dX11_passed_3 : decode cX11_passed 3 = .ok (.isub, 1) := dk_100 (dk_at dksX11_passed_0 3 rfl rfl)
theorem dX11_passed_4 : decode cX11_passed 4 = .ok (.invokestatic 9, 3) := dk_184 0 9 (dk_at dksX11_passed_0 4 rfl rfl)
theorem dX11_passed_7 : decode cX11_passed 7 = .ok (.ireturn, 1) := dk_172 (dk_at dksX11_passed_0 7 rfl rfl)
abbrev cX11_kind : ByteArray := prog_8_method_2_code
def yX11_kind : MethodName := ⟨RX11, "kind", "()I"⟩
theorem dX11_kind_0 : decode cX11_kind 0 = .ok (.iconst 4, 1) := by decide +kernel
theorem dX11_kind_1 : decode cX11_kind 1 = .ok (.ireturn, 1) := by decide +kernel
abbrev cX11_size : ByteArray := prog_8_method_4_code
def yX11_size : MethodName := ⟨RX11, "size", "(LMoodFare$Trail;LMoodFare$Held;)I"⟩
def dkwX11_size_0 : List UInt8 := [43, 16, 13, 182, 0, 15, 42, 43, 44, 183, 0, 21, 16, 100, 100, 172]
abbrev dktX11_size_0 : List UInt8 := dkwX11_size_0 ++ []
theorem dksX11_size_0 : cX11_size.data.toList.drop 0 = dktX11_size_0 := by decide +kernel
theorem dX11_size_0 : decode cX11_size 0 = .ok (.aload_n 1, 1) := dk_43 (dk_at dksX11_size_0 0 rfl rfl)
theorem dX11_size_1 : decode cX11_size 1 = .ok (.bipush 13, 2) := dk_16 13 (dk_at dksX11_size_0 1 rfl rfl)
theorem dX11_size_3 : decode cX11_size 3 = .ok (.invokevirtual 15, 3) := dk_182 0 15 (dk_at dksX11_size_0 3 rfl rfl)
theorem dX11_size_6 : decode cX11_size 6 = .ok (.aload_n 0, 1) := dk_42 (dk_at dksX11_size_0 6 rfl rfl)
theorem dX11_size_7 : decode cX11_size 7 = .ok (.aload_n 1, 1) := dk_43 (dk_at dksX11_size_0 7 rfl rfl)
theorem dX11_size_8 : decode cX11_size 8 = .ok (.aload_n 2, 1) := dk_44 (dk_at dksX11_size_0 8 rfl rfl)
theorem dX11_size_9 : decode cX11_size 9 = .ok (.invokespecial 21, 3) := dk_183 0 21 (dk_at dksX11_size_0 9 rfl rfl)
theorem dX11_size_12 : decode cX11_size 12 = .ok (.bipush 100, 2) := dk_16 100 (dk_at dksX11_size_0 12 rfl rfl)
theorem dX11_size_14 : decode cX11_size 14 = .ok (.isub, 1) := dk_100 (dk_at dksX11_size_0 14 rfl rfl)
theorem dX11_size_15 : decode cX11_size 15 = .ok (.ireturn, 1) := dk_172 (dk_at dksX11_size_0 15 rfl rfl)
abbrev cX11_mark : ByteArray := prog_8_method_5_code
def yX11_mark : MethodName := ⟨RX11, "mark", "(LMoodFare$Trail;LMoodFare$Held;)I"⟩
def dkwX11_mark_0 : List UInt8 := [43, 16, 23, 182, 0, 15, 42, 43, 44, 183, 0, 25, 42, 43, 44, 182, 0, 28, 100, 172]
abbrev dktX11_mark_0 : List UInt8 := dkwX11_mark_0 ++ []
theorem dksX11_mark_0 : cX11_mark.data.toList.drop 0 = dktX11_mark_0 := by decide +kernel
theorem dX11_mark_0 : decode cX11_mark 0 = .ok (.aload_n 1, 1) := dk_43 (dk_at dksX11_mark_0 0 rfl rfl)
theorem dX11_mark_1 : decode cX11_mark 1 = .ok (.bipush 23, 2) := dk_16 23 (dk_at dksX11_mark_0 1 rfl rfl)
theorem dX11_mark_3 : decode cX11_mark 3 = .ok (.invokevirtual 15, 3) := dk_182 0 15 (dk_at dksX11_mark_0 3 rfl rfl)
theorem dX11_mark_6 : decode cX11_mark 6 = .ok (.aload_n 0, 1) := dk_42 (dk_at dksX11_mark_0 6 rfl rfl)
theorem dX11_mark_7 : decode cX11_mark 7 = .ok (.aload_n 1, 1) := dk_43 (dk_at dksX11_mark_0 7 rfl rfl)
theorem dX11_mark_8 : decode cX11_mark 8 = .ok (.aload_n 2, 1) := dk_44 (dk_at dksX11_mark_0 8 rfl rfl)
theorem dX11_mark_9 : decode cX11_mark 9 = .ok (.invokespecial 25, 3) := dk_183 0 25 (dk_at dksX11_mark_0 9 rfl rfl)
theorem dX11_mark_12 : decode cX11_mark 12 = .ok (.aload_n 0, 1) := dk_42 (dk_at dksX11_mark_0 12 rfl rfl)
theorem dX11_mark_13 : decode cX11_mark 13 = .ok (.aload_n 1, 1) := dk_43 (dk_at dksX11_mark_0 13 rfl rfl)
theorem dX11_mark_14 : decode cX11_mark 14 = .ok (.aload_n 2, 1) := dk_44 (dk_at dksX11_mark_0 14 rfl rfl)
theorem dX11_mark_15 : decode cX11_mark 15 = .ok (.invokevirtual 28, 3) := dk_182 0 28 (dk_at dksX11_mark_0 15 rfl rfl)
theorem dX11_mark_18 : decode cX11_mark 18 = .ok (.isub, 1) := dk_100 (dk_at dksX11_mark_0 18 rfl rfl)
theorem dX11_mark_19 : decode cX11_mark 19 = .ok (.ireturn, 1) := dk_172 (dk_at dksX11_mark_0 19 rfl rfl)
theorem q95 : (Jvm.Cond.initialized "MoodFare$Grief") ∈ lw_all := lw_g (lw_at lw_m1 30 rfl) rfl
theorem q741 : (Jvm.Cond.instantiable "MoodFare$Grief" (2 : Nat)) ∈ lw_all := lw_g (lw_at lw_m3 196 rfl) rfl
theorem q743 : (Jvm.Cond.instanceMethod ({ cls := "MoodFare$Grief", name := "<init>", desc := "(II)V" } : Jvm.MethodName)) ∈ lw_all := lw_g (lw_at lw_m3 198 rfl) rfl
theorem q744 : (Jvm.Cond.code ({ cls := "MoodFare$Grief", name := "<init>", desc := "(II)V" } : Jvm.MethodName) prog_8_method_1_code (3 : Nat) (Option.none : Option Jvm.ClassFile.FieldType)) ∈ lw_all := lw_g (lw_at lw_m3 199 rfl) rfl
theorem q745 : (Jvm.Cond.methodLink "MoodFare$Grief" (3 : Nat) ({ cls := "MoodFare$Corner", name := "<init>", desc := "(II)V" } : Jvm.MethodName)) ∈ lw_all := lw_g (lw_at lw_m3 200 rfl) rfl
theorem q746 : (Jvm.Cond.laysFinal "MoodFare$Grief" "MoodFare$Corner" "number" "I") ∈ lw_all := lw_g (lw_at lw_m3 201 rfl) rfl
theorem q747 : (Jvm.Cond.laysFinal "MoodFare$Grief" "MoodFare$Corner" "fee" "I") ∈ lw_all := lw_g (lw_at lw_m3 202 rfl) rfl
theorem q748 : (Jvm.Cond.superclass "MoodFare$Grief" "MoodFare$Corner") ∈ lw_all := lw_g (lw_at lw_m3 203 rfl) rfl
theorem q799 : (Jvm.Cond.selects "MoodFare$Grief" ({ cls := "java/lang/Object", name := "getClass", desc := "()Ljava/lang/Class;" } : Jvm.MethodName) ({ cls := "java/lang/Object", name := "getClass", desc := "()Ljava/lang/Class;" } : Jvm.MethodName)) ∈ lw_all := lw_g (lw_at lw_m4 14 rfl) rfl
theorem q919 : (Jvm.Cond.selects "MoodFare$Grief" ({ cls := "MoodFare$Corner", name := "passed", desc := "(III)I" } : Jvm.MethodName) ({ cls := "MoodFare$Grief", name := "passed", desc := "(III)I" } : Jvm.MethodName)) ∈ lw_all := lw_g (lw_at lw_m4 134 rfl) rfl
theorem q920 : (Jvm.Cond.instanceMethod ({ cls := "MoodFare$Grief", name := "passed", desc := "(III)I" } : Jvm.MethodName)) ∈ lw_all := lw_g (lw_at lw_m4 135 rfl) rfl
theorem q921 : (Jvm.Cond.code ({ cls := "MoodFare$Grief", name := "passed", desc := "(III)I" } : Jvm.MethodName) prog_8_method_3_code (4 : Nat) (Option.some Jvm.ClassFile.FieldType.int)) ∈ lw_all := lw_g (lw_at lw_m4 136 rfl) rfl
theorem q922 : (Jvm.Cond.methodLink "MoodFare$Grief" (9 : Nat) ({ cls := "java/lang/Math", name := "max", desc := "(II)I" } : Jvm.MethodName)) ∈ lw_all := lw_g (lw_at lw_m4 137 rfl) rfl
theorem q945 : (Jvm.Cond.selects "MoodFare$Grief" ({ cls := "MoodFare$Corner", name := "fee", desc := "()I" } : Jvm.MethodName) ({ cls := "MoodFare$Corner", name := "fee", desc := "()I" } : Jvm.MethodName)) ∈ lw_all := lw_g (lw_at lw_m4 160 rfl) rfl
theorem q1295 : (Jvm.Cond.selects "MoodFare$Grief" ({ cls := "MoodFare$Corner", name := "kind", desc := "()I" } : Jvm.MethodName) ({ cls := "MoodFare$Grief", name := "kind", desc := "()I" } : Jvm.MethodName)) ∈ lw_all := lw_g (lw_at lw_m6 30 rfl) rfl
theorem q1296 : (Jvm.Cond.instanceMethod ({ cls := "MoodFare$Grief", name := "kind", desc := "()I" } : Jvm.MethodName)) ∈ lw_all := lw_g (lw_at lw_m6 31 rfl) rfl
theorem q1297 : (Jvm.Cond.code ({ cls := "MoodFare$Grief", name := "kind", desc := "()I" } : Jvm.MethodName) prog_8_method_2_code (1 : Nat) (Option.some Jvm.ClassFile.FieldType.int)) ∈ lw_all := lw_g (lw_at lw_m6 32 rfl) rfl
theorem q1335 : (Jvm.Cond.selects "MoodFare$Grief" ({ cls := "MoodFare$Corner", name := "number", desc := "()I" } : Jvm.MethodName) ({ cls := "MoodFare$Corner", name := "number", desc := "()I" } : Jvm.MethodName)) ∈ lw_all := lw_g (lw_at lw_m6 70 rfl) rfl
theorem q1360 : (Jvm.Cond.selects "MoodFare$Grief" ({ cls := "MoodFare$Marked", name := "size", desc := "(LMoodFare$Trail;LMoodFare$Held;)I" } : Jvm.MethodName) ({ cls := "MoodFare$Grief", name := "size", desc := "(LMoodFare$Trail;LMoodFare$Held;)I" } : Jvm.MethodName)) ∈ lw_all := lw_g (lw_at lw_m6 95 rfl) rfl
theorem q1361 : (Jvm.Cond.instanceMethod ({ cls := "MoodFare$Grief", name := "size", desc := "(LMoodFare$Trail;LMoodFare$Held;)I" } : Jvm.MethodName)) ∈ lw_all := lw_g (lw_at lw_m6 96 rfl) rfl
theorem q1362 : (Jvm.Cond.code ({ cls := "MoodFare$Grief", name := "size", desc := "(LMoodFare$Trail;LMoodFare$Held;)I" } : Jvm.MethodName) prog_8_method_4_code (3 : Nat) (Option.some Jvm.ClassFile.FieldType.int)) ∈ lw_all := lw_g (lw_at lw_m6 97 rfl) rfl
theorem q1363 : (Jvm.Cond.methodLink "MoodFare$Grief" (15 : Nat) ({ cls := "MoodFare$Trail", name := "begins", desc := "(I)V" } : Jvm.MethodName)) ∈ lw_all := lw_g (lw_at lw_m6 98 rfl) rfl
theorem q1374 : (Jvm.Cond.castable "MoodFare$Grief" "MoodFare$Marked") ∈ lw_tbl := lw_at lw_m6 109 rfl
theorem q1375 : (Jvm.Cond.selects "MoodFare$Grief" ({ cls := "MoodFare$Marked", name := "fee", desc := "()I" } : Jvm.MethodName) ({ cls := "MoodFare$Corner", name := "fee", desc := "()I" } : Jvm.MethodName)) ∈ lw_all := lw_g (lw_at lw_m6 110 rfl) rfl
theorem q1376 : (Jvm.Cond.unhidden "MoodFare$Grief" "fee" "()I") ∈ lw_tbl := lw_at lw_m6 111 rfl
theorem q1416 : (Jvm.Cond.selects "MoodFare$Grief" ({ cls := "MoodFare$Marked", name := "number", desc := "()I" } : Jvm.MethodName) ({ cls := "MoodFare$Corner", name := "number", desc := "()I" } : Jvm.MethodName)) ∈ lw_all := lw_g (lw_at lw_m6 151 rfl) rfl
theorem q1417 : (Jvm.Cond.unhidden "MoodFare$Grief" "number" "()I") ∈ lw_tbl := lw_at lw_m6 152 rfl
theorem q1447 : (Jvm.Cond.selects "MoodFare$Grief" ({ cls := "MoodFare$Marked", name := "mark", desc := "(LMoodFare$Trail;LMoodFare$Held;)I" } : Jvm.MethodName) ({ cls := "MoodFare$Grief", name := "mark", desc := "(LMoodFare$Trail;LMoodFare$Held;)I" } : Jvm.MethodName)) ∈ lw_all := lw_g (lw_at lw_m6 182 rfl) rfl
theorem q1448 : (Jvm.Cond.instanceMethod ({ cls := "MoodFare$Grief", name := "mark", desc := "(LMoodFare$Trail;LMoodFare$Held;)I" } : Jvm.MethodName)) ∈ lw_all := lw_g (lw_at lw_m6 183 rfl) rfl
theorem q1449 : (Jvm.Cond.code ({ cls := "MoodFare$Grief", name := "mark", desc := "(LMoodFare$Trail;LMoodFare$Held;)I" } : Jvm.MethodName) prog_8_method_5_code (3 : Nat) (Option.some Jvm.ClassFile.FieldType.int)) ∈ lw_all := lw_g (lw_at lw_m6 184 rfl) rfl
theorem q1450 : (Jvm.Cond.methodLink "MoodFare$Grief" (28 : Nat) ({ cls := "MoodFare$Grief", name := "size", desc := "(LMoodFare$Trail;LMoodFare$Held;)I" } : Jvm.MethodName)) ∈ lw_all := lw_g (lw_at lw_m6 185 rfl) rfl
theorem q1884 : (Jvm.Cond.sameMethod "MoodFare$Grief" "MoodFare$Grief" "passed" "(III)I") ∈ lw_all := lw_g (lw_at lw_m8 139 rfl) rfl
theorem q1886 : (Jvm.Cond.sameMethod "MoodFare$Grief" "MoodFare$Grief" "size" "(LMoodFare$Trail;LMoodFare$Held;)I") ∈ lw_all := lw_g (lw_at lw_m8 141 rfl) rfl
theorem q1887 : (Jvm.Cond.selects "MoodFare$Grief" ({ cls := "MoodFare$Grief", name := "size", desc := "(LMoodFare$Trail;LMoodFare$Held;)I" } : Jvm.MethodName) ({ cls := "MoodFare$Grief", name := "size", desc := "(LMoodFare$Trail;LMoodFare$Held;)I" } : Jvm.MethodName)) ∈ lw_all := lw_g (lw_at lw_m8 142 rfl) rfl
theorem q1890 : (Jvm.Cond.castable "MoodFare$Grief" "MoodFare$Corner") ∈ lw_tbl := lw_at lw_m8 145 rfl
theorem q1913 : (Jvm.Cond.castable "MoodFare$Grief" "java/lang/Object") ∈ lw_tbl := lw_at lw_m8 168 rfl
theorem in_X11 : ∀ w ∈ wsX110, w ∈ lw_all := lw_in wsX110 [746, 747] (by decide +kernel) (by decide +kernel)

/-! MoodFare$Ruin -/
set_option maxRecDepth 100000
def RX12 : String := "MoodFare$Ruin"
def TX12 : u_T := fun k => match k with
  | 0 => ("MoodFare$Corner", "number", "I", true)
  | _ => ("MoodFare$Corner", "fee", "I", true)
def tyX12 : Nat → FieldType := fun k => match k with
  | 0 => .int
  | _ => .int
abbrev wsX120 : List Cond := u_ws RX12 TX12 2
theorem nmX12 : ∀ a, a < 2 → ∀ b, b < 2 → a ≠ b → (TX12 a).2.1 ≠ (TX12 b).2.1 := by decide +kernel
theorem tyX12_ok : ∀ k, k < 2 → parseFieldDescriptor (TX12 k).2.2.1 = some (tyX12 k) := by decide +kernel
abbrev cX12_init : ByteArray := prog_17_method_1_code
def yX12_init : MethodName := ⟨RX12, "<init>", "(II)V"⟩
def dkwX12_init_0 : List UInt8 := [42, 27, 28, 183, 0, 3, 177]
abbrev dktX12_init_0 : List UInt8 := dkwX12_init_0 ++ []
theorem dksX12_init_0 : cX12_init.data.toList.drop 0 = dktX12_init_0 := by decide +kernel
theorem dX12_init_0 : decode cX12_init 0 = .ok (.aload_n 0, 1) := dk_42 (dk_at dksX12_init_0 0 rfl rfl)
theorem dX12_init_1 : decode cX12_init 1 = .ok (.iload_n 1, 1) := dk_27 (dk_at dksX12_init_0 1 rfl rfl)
theorem dX12_init_2 : decode cX12_init 2 = .ok (.iload_n 2, 1) := dk_28 (dk_at dksX12_init_0 2 rfl rfl)
theorem dX12_init_3 : decode cX12_init 3 = .ok (.invokespecial 3, 3) := dk_183 0 3 (dk_at dksX12_init_0 3 rfl rfl)
theorem dX12_init_6 : decode cX12_init 6 = .ok (.return_, 1) := dk_177 (dk_at dksX12_init_0 6 rfl rfl)
abbrev cX12_passed : ByteArray := prog_17_method_3_code
def yX12_passed : MethodName := ⟨RX12, "passed", "(III)I"⟩
def dkwX12_passed_0 : List UInt8 := [42, 27, 28, 29, 183, 0, 9, 5, 108, 172]
abbrev dktX12_passed_0 : List UInt8 := dkwX12_passed_0 ++ []
theorem dksX12_passed_0 : cX12_passed.data.toList.drop 0 = dktX12_passed_0 := by decide +kernel
theorem dX12_passed_0 : decode cX12_passed 0 = .ok (.aload_n 0, 1) := dk_42 (dk_at dksX12_passed_0 0 rfl rfl)
theorem dX12_passed_1 : decode cX12_passed 1 = .ok (.iload_n 1, 1) := dk_27 (dk_at dksX12_passed_0 1 rfl rfl)
theorem dX12_passed_2 : decode cX12_passed 2 = .ok (.iload_n 2, 1) := dk_28 (dk_at dksX12_passed_0 2 rfl rfl)
theorem dX12_passed_3 : decode cX12_passed 3 = .ok (.iload_n 3, 1) := dk_29 (dk_at dksX12_passed_0 3 rfl rfl)
theorem dX12_passed_4 : decode cX12_passed 4 = .ok (.invokespecial 9, 3) := dk_183 0 9 (dk_at dksX12_passed_0 4 rfl rfl)
theorem dX12_passed_7 : decode cX12_passed 7 = .ok (.iconst 2, 1) := dk_5 (dk_at dksX12_passed_0 7 rfl rfl)
theorem dX12_passed_8 : decode cX12_passed 8 = .ok (.idiv, 1) := dk_108 (dk_at dksX12_passed_0 8 rfl rfl)
theorem dX12_passed_9 : decode cX12_passed 9 = .ok (.ireturn, 1) := dk_172 (dk_at dksX12_passed_0 9 rfl rfl)
abbrev cX12_kind : ByteArray := prog_17_method_2_code
def yX12_kind : MethodName := ⟨RX12, "kind", "()I"⟩
theorem dX12_kind_0 : decode cX12_kind 0 = .ok (.iconst 5, 1) := by decide +kernel
theorem dX12_kind_1 : decode cX12_kind 1 = .ok (.ireturn, 1) := by decide +kernel
abbrev cX12_size : ByteArray := prog_17_method_4_code
def yX12_size : MethodName := ⟨RX12, "size", "(LMoodFare$Trail;LMoodFare$Held;)I"⟩
def dkwX12_size_0 : List UInt8 := [43, 16, 14, 182, 0, 13, 5, 42, 43, 44, 183, 0, 19, 104, 172]
abbrev dktX12_size_0 : List UInt8 := dkwX12_size_0 ++ []
theorem dksX12_size_0 : cX12_size.data.toList.drop 0 = dktX12_size_0 := by decide +kernel
theorem dX12_size_0 : decode cX12_size 0 = .ok (.aload_n 1, 1) := dk_43 (dk_at dksX12_size_0 0 rfl rfl)
theorem dX12_size_1 : decode cX12_size 1 = .ok (.bipush 14, 2) := dk_16 14 (dk_at dksX12_size_0 1 rfl rfl)
theorem dX12_size_3 : decode cX12_size 3 = .ok (.invokevirtual 13, 3) := dk_182 0 13 (dk_at dksX12_size_0 3 rfl rfl)
theorem dX12_size_6 : decode cX12_size 6 = .ok (.iconst 2, 1) := dk_5 (dk_at dksX12_size_0 6 rfl rfl)
theorem dX12_size_7 : decode cX12_size 7 = .ok (.aload_n 0, 1) := dk_42 (dk_at dksX12_size_0 7 rfl rfl)
theorem dX12_size_8 : decode cX12_size 8 = .ok (.aload_n 1, 1) := dk_43 (dk_at dksX12_size_0 8 rfl rfl)
theorem dX12_size_9 : decode cX12_size 9 = .ok (.aload_n 2, 1) := dk_44 (dk_at dksX12_size_0 9 rfl rfl)
theorem dX12_size_10 : decode cX12_size 10 = .ok (.invokespecial 19, 3) := dk_183 0 19 (dk_at dksX12_size_0 10 rfl rfl)
theorem dX12_size_13 : decode cX12_size 13 = .ok (.imul, 1) := dk_104 (dk_at dksX12_size_0 13 rfl rfl)
theorem dX12_size_14 : decode cX12_size 14 = .ok (.ireturn, 1) := dk_172 (dk_at dksX12_size_0 14 rfl rfl)
theorem q96 : (Jvm.Cond.initialized "MoodFare$Ruin") ∈ lw_all := lw_g (lw_at lw_m1 31 rfl) rfl
theorem q750 : (Jvm.Cond.instantiable "MoodFare$Ruin" (2 : Nat)) ∈ lw_all := lw_g (lw_at lw_m3 205 rfl) rfl
theorem q752 : (Jvm.Cond.instanceMethod ({ cls := "MoodFare$Ruin", name := "<init>", desc := "(II)V" } : Jvm.MethodName)) ∈ lw_all := lw_g (lw_at lw_m3 207 rfl) rfl
theorem q753 : (Jvm.Cond.code ({ cls := "MoodFare$Ruin", name := "<init>", desc := "(II)V" } : Jvm.MethodName) prog_17_method_1_code (3 : Nat) (Option.none : Option Jvm.ClassFile.FieldType)) ∈ lw_all := lw_g (lw_at lw_m3 208 rfl) rfl
theorem q754 : (Jvm.Cond.methodLink "MoodFare$Ruin" (3 : Nat) ({ cls := "MoodFare$Grief", name := "<init>", desc := "(II)V" } : Jvm.MethodName)) ∈ lw_all := lw_g (lw_at lw_m3 209 rfl) rfl
theorem q755 : (Jvm.Cond.laysFinal "MoodFare$Ruin" "MoodFare$Corner" "number" "I") ∈ lw_all := lw_g (lw_at lw_m3 210 rfl) rfl
theorem q756 : (Jvm.Cond.laysFinal "MoodFare$Ruin" "MoodFare$Corner" "fee" "I") ∈ lw_all := lw_g (lw_at lw_m3 211 rfl) rfl
theorem q757 : (Jvm.Cond.superclass "MoodFare$Ruin" "MoodFare$Grief") ∈ lw_all := lw_g (lw_at lw_m3 212 rfl) rfl
theorem q806 : (Jvm.Cond.selects "MoodFare$Ruin" ({ cls := "java/lang/Object", name := "getClass", desc := "()Ljava/lang/Class;" } : Jvm.MethodName) ({ cls := "java/lang/Object", name := "getClass", desc := "()Ljava/lang/Class;" } : Jvm.MethodName)) ∈ lw_all := lw_g (lw_at lw_m4 21 rfl) rfl
theorem q935 : (Jvm.Cond.selects "MoodFare$Ruin" ({ cls := "MoodFare$Corner", name := "passed", desc := "(III)I" } : Jvm.MethodName) ({ cls := "MoodFare$Ruin", name := "passed", desc := "(III)I" } : Jvm.MethodName)) ∈ lw_all := lw_g (lw_at lw_m4 150 rfl) rfl
theorem q936 : (Jvm.Cond.instanceMethod ({ cls := "MoodFare$Ruin", name := "passed", desc := "(III)I" } : Jvm.MethodName)) ∈ lw_all := lw_g (lw_at lw_m4 151 rfl) rfl
theorem q937 : (Jvm.Cond.code ({ cls := "MoodFare$Ruin", name := "passed", desc := "(III)I" } : Jvm.MethodName) prog_17_method_3_code (4 : Nat) (Option.some Jvm.ClassFile.FieldType.int)) ∈ lw_all := lw_g (lw_at lw_m4 152 rfl) rfl
theorem q938 : (Jvm.Cond.methodLink "MoodFare$Ruin" (9 : Nat) ({ cls := "MoodFare$Grief", name := "passed", desc := "(III)I" } : Jvm.MethodName)) ∈ lw_all := lw_g (lw_at lw_m4 153 rfl) rfl
theorem q949 : (Jvm.Cond.selects "MoodFare$Ruin" ({ cls := "MoodFare$Corner", name := "fee", desc := "()I" } : Jvm.MethodName) ({ cls := "MoodFare$Corner", name := "fee", desc := "()I" } : Jvm.MethodName)) ∈ lw_all := lw_g (lw_at lw_m4 164 rfl) rfl
theorem q1307 : (Jvm.Cond.selects "MoodFare$Ruin" ({ cls := "MoodFare$Corner", name := "kind", desc := "()I" } : Jvm.MethodName) ({ cls := "MoodFare$Ruin", name := "kind", desc := "()I" } : Jvm.MethodName)) ∈ lw_all := lw_g (lw_at lw_m6 42 rfl) rfl
theorem q1308 : (Jvm.Cond.instanceMethod ({ cls := "MoodFare$Ruin", name := "kind", desc := "()I" } : Jvm.MethodName)) ∈ lw_all := lw_g (lw_at lw_m6 43 rfl) rfl
theorem q1309 : (Jvm.Cond.code ({ cls := "MoodFare$Ruin", name := "kind", desc := "()I" } : Jvm.MethodName) prog_17_method_2_code (1 : Nat) (Option.some Jvm.ClassFile.FieldType.int)) ∈ lw_all := lw_g (lw_at lw_m6 44 rfl) rfl
theorem q1339 : (Jvm.Cond.selects "MoodFare$Ruin" ({ cls := "MoodFare$Corner", name := "number", desc := "()I" } : Jvm.MethodName) ({ cls := "MoodFare$Corner", name := "number", desc := "()I" } : Jvm.MethodName)) ∈ lw_all := lw_g (lw_at lw_m6 74 rfl) rfl
theorem q1387 : (Jvm.Cond.castable "MoodFare$Ruin" "MoodFare$Marked") ∈ lw_tbl := lw_at lw_m6 122 rfl
theorem q1388 : (Jvm.Cond.selects "MoodFare$Ruin" ({ cls := "MoodFare$Marked", name := "fee", desc := "()I" } : Jvm.MethodName) ({ cls := "MoodFare$Corner", name := "fee", desc := "()I" } : Jvm.MethodName)) ∈ lw_all := lw_g (lw_at lw_m6 123 rfl) rfl
theorem q1389 : (Jvm.Cond.unhidden "MoodFare$Ruin" "fee" "()I") ∈ lw_tbl := lw_at lw_m6 124 rfl
theorem q1425 : (Jvm.Cond.selects "MoodFare$Ruin" ({ cls := "MoodFare$Marked", name := "number", desc := "()I" } : Jvm.MethodName) ({ cls := "MoodFare$Corner", name := "number", desc := "()I" } : Jvm.MethodName)) ∈ lw_all := lw_g (lw_at lw_m6 160 rfl) rfl
theorem q1426 : (Jvm.Cond.unhidden "MoodFare$Ruin" "number" "()I") ∈ lw_tbl := lw_at lw_m6 161 rfl
theorem q1442 : (Jvm.Cond.selects "MoodFare$Ruin" ({ cls := "MoodFare$Marked", name := "size", desc := "(LMoodFare$Trail;LMoodFare$Held;)I" } : Jvm.MethodName) ({ cls := "MoodFare$Ruin", name := "size", desc := "(LMoodFare$Trail;LMoodFare$Held;)I" } : Jvm.MethodName)) ∈ lw_all := lw_g (lw_at lw_m6 177 rfl) rfl
theorem q1443 : (Jvm.Cond.instanceMethod ({ cls := "MoodFare$Ruin", name := "size", desc := "(LMoodFare$Trail;LMoodFare$Held;)I" } : Jvm.MethodName)) ∈ lw_all := lw_g (lw_at lw_m6 178 rfl) rfl
theorem q1444 : (Jvm.Cond.code ({ cls := "MoodFare$Ruin", name := "size", desc := "(LMoodFare$Trail;LMoodFare$Held;)I" } : Jvm.MethodName) prog_17_method_4_code (3 : Nat) (Option.some Jvm.ClassFile.FieldType.int)) ∈ lw_all := lw_g (lw_at lw_m6 179 rfl) rfl
theorem q1445 : (Jvm.Cond.methodLink "MoodFare$Ruin" (13 : Nat) ({ cls := "MoodFare$Trail", name := "begins", desc := "(I)V" } : Jvm.MethodName)) ∈ lw_all := lw_g (lw_at lw_m6 180 rfl) rfl
theorem q1446 : (Jvm.Cond.methodLink "MoodFare$Ruin" (19 : Nat) ({ cls := "MoodFare$Grief", name := "size", desc := "(LMoodFare$Trail;LMoodFare$Held;)I" } : Jvm.MethodName)) ∈ lw_all := lw_g (lw_at lw_m6 181 rfl) rfl
theorem q1454 : (Jvm.Cond.selects "MoodFare$Ruin" ({ cls := "MoodFare$Marked", name := "mark", desc := "(LMoodFare$Trail;LMoodFare$Held;)I" } : Jvm.MethodName) ({ cls := "MoodFare$Grief", name := "mark", desc := "(LMoodFare$Trail;LMoodFare$Held;)I" } : Jvm.MethodName)) ∈ lw_all := lw_g (lw_at lw_m6 189 rfl) rfl
theorem q1888 : (Jvm.Cond.selects "MoodFare$Ruin" ({ cls := "MoodFare$Grief", name := "size", desc := "(LMoodFare$Trail;LMoodFare$Held;)I" } : Jvm.MethodName) ({ cls := "MoodFare$Ruin", name := "size", desc := "(LMoodFare$Trail;LMoodFare$Held;)I" } : Jvm.MethodName)) ∈ lw_all := lw_g (lw_at lw_m8 143 rfl) rfl
theorem q1894 : (Jvm.Cond.castable "MoodFare$Ruin" "MoodFare$Corner") ∈ lw_tbl := lw_at lw_m8 149 rfl
theorem q1897 : (Jvm.Cond.castable "MoodFare$Ruin" "MoodFare$Grief") ∈ lw_tbl := lw_at lw_m8 152 rfl
theorem q1914 : (Jvm.Cond.castable "MoodFare$Ruin" "java/lang/Object") ∈ lw_tbl := lw_at lw_m8 169 rfl
theorem in_X12 : ∀ w ∈ wsX120, w ∈ lw_all := lw_in wsX120 [755, 756] (by decide +kernel) (by decide +kernel)

/-! MoodFare$Cheapest -/
set_option maxRecDepth 100000
def RX13 : String := "MoodFare$Cheapest"
def TX13 : u_T := fun k => match k with
  | 0 => ("MoodFare$Cheapest", "corner", "I", true)
  | 1 => ("MoodFare$Cheapest", "much", "I", false)
  | _ => ("MoodFare$Cheapest", "many", "I", false)
def tyX13 : Nat → FieldType := fun k => match k with
  | 0 => .int
  | 1 => .int
  | _ => .int
abbrev wsX130 : List Cond := u_ws RX13 TX13 3
theorem nmX13 : ∀ a, a < 3 → ∀ b, b < 3 → a ≠ b → (TX13 a).2.1 ≠ (TX13 b).2.1 := by decide +kernel
theorem tyX13_ok : ∀ k, k < 3 → parseFieldDescriptor (TX13 k).2.2.1 = some (tyX13 k) := by decide +kernel
abbrev cX13_init : ByteArray := prog_2_method_1_code
def yX13_init : MethodName := ⟨RX13, "<init>", "(I)V"⟩
def dkwX13_init_0 : List UInt8 := [42, 183, 0, 3, 42, 18, 9, 181, 0, 10, 42, 27, 181, 0, 16, 177]
abbrev dktX13_init_0 : List UInt8 := dkwX13_init_0 ++ []
theorem dksX13_init_0 : cX13_init.data.toList.drop 0 = dktX13_init_0 := by decide +kernel
theorem dX13_init_0 : decode cX13_init 0 = .ok (.aload_n 0, 1) := dk_42 (dk_at dksX13_init_0 0 rfl rfl)
theorem dX13_init_1 : decode cX13_init 1 = .ok (.invokespecial 3, 3) := dk_183 0 3 (dk_at dksX13_init_0 1 rfl rfl)
theorem dX13_init_4 : decode cX13_init 4 = .ok (.aload_n 0, 1) := dk_42 (dk_at dksX13_init_0 4 rfl rfl)
theorem dX13_init_5 : decode cX13_init 5 = .ok (.ldc 9, 2) := dk_18 9 (dk_at dksX13_init_0 5 rfl rfl)
theorem dX13_init_7 : decode cX13_init 7 = .ok (.putfield 10, 3) := dk_181 0 10 (dk_at dksX13_init_0 7 rfl rfl)
theorem dX13_init_10 : decode cX13_init 10 = .ok (.aload_n 0, 1) := dk_42 (dk_at dksX13_init_0 10 rfl rfl)
theorem dX13_init_11 : decode cX13_init 11 = .ok (.iload_n 1, 1) := dk_27 (dk_at dksX13_init_0 11 rfl rfl)
theorem dX13_init_12 : decode cX13_init 12 = .ok (.putfield 16, 3) := dk_181 0 16 (dk_at dksX13_init_0 12 rfl rfl)
theorem dX13_init_15 : decode cX13_init 15 = .ok (.return_, 1) := dk_177 (dk_at dksX13_init_0 15 rfl rfl)
abbrev cX13_isBetter : ByteArray := prog_2_method_2_code
def yX13_isBetter : MethodName := ⟨RX13, "isBetter", "(LMoodFare$Town;II)Z"⟩
def dkwX13_isBetter_2 : List UInt8 := [42, 29, 181, 0, 10, 42, 28, 181, 0, 24, 4, 172]
abbrev dktX13_isBetter_2 : List UInt8 := dkwX13_isBetter_2 ++ []
def dkwX13_isBetter_1 : List UInt8 := [180, 0, 10, 163, 0, 19, 29, 42, 180, 0, 10, 160, 0, 13, 28, 42, 180, 0, 24, 161, 0, 5, 3, 172]
abbrev dktX13_isBetter_1 : List UInt8 := dkwX13_isBetter_1 ++ dktX13_isBetter_2
def dkwX13_isBetter_0 : List UInt8 := [43, 180, 0, 19, 42, 180, 0, 16, 160, 0, 36, 42, 180, 0, 10, 18, 9, 159, 0, 29, 29, 42]
abbrev dktX13_isBetter_0 : List UInt8 := dkwX13_isBetter_0 ++ dktX13_isBetter_1
theorem dksX13_isBetter_0 : cX13_isBetter.data.toList.drop 0 = dktX13_isBetter_0 := by decide +kernel
theorem dksX13_isBetter_1 : cX13_isBetter.data.toList.drop 22 = dktX13_isBetter_1 := dk_seg dksX13_isBetter_0 22 rfl rfl
theorem dksX13_isBetter_2 : cX13_isBetter.data.toList.drop 46 = dktX13_isBetter_2 := dk_seg dksX13_isBetter_1 24 rfl rfl
theorem dX13_isBetter_0 : decode cX13_isBetter 0 = .ok (.aload_n 1, 1) := dk_43 (dk_at dksX13_isBetter_0 0 rfl rfl)
theorem dX13_isBetter_1 : decode cX13_isBetter 1 = .ok (.getfield 19, 3) := dk_180 0 19 (dk_at dksX13_isBetter_0 1 rfl rfl)
theorem dX13_isBetter_4 : decode cX13_isBetter 4 = .ok (.aload_n 0, 1) := dk_42 (dk_at dksX13_isBetter_0 4 rfl rfl)
theorem dX13_isBetter_5 : decode cX13_isBetter 5 = .ok (.getfield 16, 3) := dk_180 0 16 (dk_at dksX13_isBetter_0 5 rfl rfl)
theorem dX13_isBetter_8 : decode cX13_isBetter 8 = .ok (.if_icmp .ne 36, 3) := dk_160 0 36 (dk_at dksX13_isBetter_0 8 rfl rfl)
theorem dX13_isBetter_11 : decode cX13_isBetter 11 = .ok (.aload_n 0, 1) := dk_42 (dk_at dksX13_isBetter_0 11 rfl rfl)
theorem dX13_isBetter_12 : decode cX13_isBetter 12 = .ok (.getfield 10, 3) := dk_180 0 10 (dk_at dksX13_isBetter_0 12 rfl rfl)
theorem dX13_isBetter_15 : decode cX13_isBetter 15 = .ok (.ldc 9, 2) := dk_18 9 (dk_at dksX13_isBetter_0 15 rfl rfl)
theorem dX13_isBetter_17 : decode cX13_isBetter 17 = .ok (.if_icmp .eq 29, 3) := dk_159 0 29 (dk_at dksX13_isBetter_0 17 rfl rfl)
theorem dX13_isBetter_20 : decode cX13_isBetter 20 = .ok (.iload_n 3, 1) := dk_29 (dk_at dksX13_isBetter_0 20 rfl rfl)
theorem dX13_isBetter_21 : decode cX13_isBetter 21 = .ok (.aload_n 0, 1) := dk_42 (dk_at dksX13_isBetter_0 21 rfl rfl)
theorem dX13_isBetter_22 : decode cX13_isBetter 22 = .ok (.getfield 10, 3) := dk_180 0 10 (dk_at dksX13_isBetter_1 0 rfl rfl)
theorem dX13_isBetter_25 : decode cX13_isBetter 25 = .ok (.if_icmp .gt 19, 3) := dk_163 0 19 (dk_at dksX13_isBetter_1 3 rfl rfl)
theorem dX13_isBetter_28 : decode cX13_isBetter 28 = .ok (.iload_n 3, 1) := dk_29 (dk_at dksX13_isBetter_1 6 rfl rfl)
theorem dX13_isBetter_29 : decode cX13_isBetter 29 = .ok (.aload_n 0, 1) := dk_42 (dk_at dksX13_isBetter_1 7 rfl rfl)
theorem dX13_isBetter_30 : decode cX13_isBetter 30 = .ok (.getfield 10, 3) := dk_180 0 10 (dk_at dksX13_isBetter_1 8 rfl rfl)
theorem dX13_isBetter_33 : decode cX13_isBetter 33 = .ok (.if_icmp .ne 13, 3) := dk_160 0 13 (dk_at dksX13_isBetter_1 11 rfl rfl)
theorem dX13_isBetter_36 : decode cX13_isBetter 36 = .ok (.iload_n 2, 1) := dk_28 (dk_at dksX13_isBetter_1 14 rfl rfl)
theorem dX13_isBetter_37 : decode cX13_isBetter 37 = .ok (.aload_n 0, 1) := dk_42 (dk_at dksX13_isBetter_1 15 rfl rfl)
theorem dX13_isBetter_38 : decode cX13_isBetter 38 = .ok (.getfield 24, 3) := dk_180 0 24 (dk_at dksX13_isBetter_1 16 rfl rfl)
theorem dX13_isBetter_41 : decode cX13_isBetter 41 = .ok (.if_icmp .lt 5, 3) := dk_161 0 5 (dk_at dksX13_isBetter_1 19 rfl rfl)
theorem dX13_isBetter_44 : decode cX13_isBetter 44 = .ok (.iconst 0, 1) := dk_3 (dk_at dksX13_isBetter_1 22 rfl rfl)
theorem dX13_isBetter_45 : decode cX13_isBetter 45 = .ok (.ireturn, 1) := dk_172 (dk_at dksX13_isBetter_1 23 rfl rfl)
theorem dX13_isBetter_46 : decode cX13_isBetter 46 = .ok (.aload_n 0, 1) := dk_42 (dk_at dksX13_isBetter_2 0 rfl rfl)
theorem dX13_isBetter_47 : decode cX13_isBetter 47 = .ok (.iload_n 3, 1) := dk_29 (dk_at dksX13_isBetter_2 1 rfl rfl)
theorem dX13_isBetter_48 : decode cX13_isBetter 48 = .ok (.putfield 10, 3) := dk_181 0 10 (dk_at dksX13_isBetter_2 2 rfl rfl)
theorem dX13_isBetter_51 : decode cX13_isBetter 51 = .ok (.aload_n 0, 1) := dk_42 (dk_at dksX13_isBetter_2 5 rfl rfl)
theorem dX13_isBetter_52 : decode cX13_isBetter 52 = .ok (.iload_n 2, 1) := dk_28 (dk_at dksX13_isBetter_2 6 rfl rfl)
theorem dX13_isBetter_53 : decode cX13_isBetter 53 = .ok (.putfield 24, 3) := dk_181 0 24 (dk_at dksX13_isBetter_2 7 rfl rfl)
theorem dX13_isBetter_56 : decode cX13_isBetter 56 = .ok (.iconst 1, 1) := dk_4 (dk_at dksX13_isBetter_2 10 rfl rfl)
theorem dX13_isBetter_57 : decode cX13_isBetter 57 = .ok (.ireturn, 1) := dk_172 (dk_at dksX13_isBetter_2 11 rfl rfl)
theorem q100 : (Jvm.Cond.initialized "MoodFare$Cheapest") ∈ lw_all := lw_g (lw_at lw_m1 35 rfl) rfl
theorem q175 : (Jvm.Cond.fieldLink "MoodFare$Cheapest" (19 : Nat) "MoodFare$Town" "at" "I") ∈ lw_all := lw_g (lw_at lw_m1 110 rfl) rfl
theorem q794 : (Jvm.Cond.selects "MoodFare$Cheapest" ({ cls := "java/lang/Object", name := "getClass", desc := "()Ljava/lang/Class;" } : Jvm.MethodName) ({ cls := "java/lang/Object", name := "getClass", desc := "()Ljava/lang/Class;" } : Jvm.MethodName)) ∈ lw_all := lw_g (lw_at lw_m4 9 rfl) rfl
theorem q1023 : (Jvm.Cond.instantiable "MoodFare$Cheapest" (3 : Nat)) ∈ lw_all := lw_g (lw_at lw_m4 238 rfl) rfl
theorem q1025 : (Jvm.Cond.instanceMethod ({ cls := "MoodFare$Cheapest", name := "<init>", desc := "(I)V" } : Jvm.MethodName)) ∈ lw_all := lw_g (lw_at lw_m5 0 rfl) rfl
theorem q1026 : (Jvm.Cond.code ({ cls := "MoodFare$Cheapest", name := "<init>", desc := "(I)V" } : Jvm.MethodName) prog_2_method_1_code (2 : Nat) (Option.none : Option Jvm.ClassFile.FieldType)) ∈ lw_all := lw_g (lw_at lw_m5 1 rfl) rfl
theorem q1027 : (Jvm.Cond.methodLink "MoodFare$Cheapest" (3 : Nat) ({ cls := "java/lang/Object", name := "<init>", desc := "()V" } : Jvm.MethodName)) ∈ lw_all := lw_g (lw_at lw_m5 2 rfl) rfl
theorem q1028 : (Jvm.Cond.constant "MoodFare$Cheapest" (9 : Nat) (-1000000 : Int32)) ∈ lw_all := lw_g (lw_at lw_m5 3 rfl) rfl
theorem q1029 : (Jvm.Cond.fieldLink "MoodFare$Cheapest" (16 : Nat) "MoodFare$Cheapest" "corner" "I") ∈ lw_all := lw_g (lw_at lw_m5 4 rfl) rfl
theorem q1030 : (Jvm.Cond.fieldLink "MoodFare$Cheapest" (10 : Nat) "MoodFare$Cheapest" "much" "I") ∈ lw_all := lw_g (lw_at lw_m5 5 rfl) rfl
theorem q1032 : (Jvm.Cond.fieldLink "MoodFare$Cheapest" (24 : Nat) "MoodFare$Cheapest" "many" "I") ∈ lw_all := lw_g (lw_at lw_m5 7 rfl) rfl
theorem q1034 : (Jvm.Cond.laysFinal "MoodFare$Cheapest" "MoodFare$Cheapest" "corner" "I") ∈ lw_all := lw_g (lw_at lw_m5 9 rfl) rfl
theorem q1035 : (Jvm.Cond.soleField "MoodFare$Cheapest" "corner") ∈ lw_all := lw_g (lw_at lw_m5 10 rfl) rfl
theorem q1036 : (Jvm.Cond.lays "MoodFare$Cheapest" "MoodFare$Cheapest" "much" "I") ∈ lw_all := lw_g (lw_at lw_m5 11 rfl) rfl
theorem q1037 : (Jvm.Cond.soleField "MoodFare$Cheapest" "much") ∈ lw_all := lw_g (lw_at lw_m5 12 rfl) rfl
theorem q1038 : (Jvm.Cond.lays "MoodFare$Cheapest" "MoodFare$Cheapest" "many" "I") ∈ lw_all := lw_g (lw_at lw_m5 13 rfl) rfl
theorem q1039 : (Jvm.Cond.soleField "MoodFare$Cheapest" "many") ∈ lw_all := lw_g (lw_at lw_m5 14 rfl) rfl
theorem q1040 : (Jvm.Cond.superclass "MoodFare$Cheapest" "java/lang/Object") ∈ lw_all := lw_g (lw_at lw_m5 15 rfl) rfl
theorem q1049 : (Jvm.Cond.castable "MoodFare$Cheapest" "MoodFare$Worth") ∈ lw_tbl := lw_at lw_m5 24 rfl
theorem q1050 : (Jvm.Cond.selects "MoodFare$Cheapest" ({ cls := "MoodFare$Worth", name := "isBetter", desc := "(LMoodFare$Town;II)Z" } : Jvm.MethodName) ({ cls := "MoodFare$Cheapest", name := "isBetter", desc := "(LMoodFare$Town;II)Z" } : Jvm.MethodName)) ∈ lw_all := lw_g (lw_at lw_m5 25 rfl) rfl
theorem q1051 : (Jvm.Cond.unhidden "MoodFare$Cheapest" "isBetter" "(LMoodFare$Town;II)Z") ∈ lw_tbl := lw_at lw_m5 26 rfl
theorem q1052 : (Jvm.Cond.instanceMethod ({ cls := "MoodFare$Cheapest", name := "isBetter", desc := "(LMoodFare$Town;II)Z" } : Jvm.MethodName)) ∈ lw_all := lw_g (lw_at lw_m5 27 rfl) rfl
theorem q1053 : (Jvm.Cond.publicMethod ({ cls := "MoodFare$Cheapest", name := "isBetter", desc := "(LMoodFare$Town;II)Z" } : Jvm.MethodName)) ∈ lw_tbl := lw_at lw_m5 28 rfl
theorem q1054 : (Jvm.Cond.code ({ cls := "MoodFare$Cheapest", name := "isBetter", desc := "(LMoodFare$Town;II)Z" } : Jvm.MethodName) prog_2_method_2_code (4 : Nat) (Option.some Jvm.ClassFile.FieldType.boolean)) ∈ lw_all := lw_g (lw_at lw_m5 29 rfl) rfl
theorem q1915 : (Jvm.Cond.castable "MoodFare$Cheapest" "java/lang/Object") ∈ lw_tbl := lw_at lw_m8 170 rfl
theorem in_X13 : ∀ w ∈ wsX130, w ∈ lw_all := lw_in wsX130 [1034, 1036, 1038] (by decide +kernel) (by decide +kernel)

/-! MoodFare$Dearest -/
set_option maxRecDepth 100000
def RX14 : String := "MoodFare$Dearest"
def TX14 : u_T := fun k => match k with
  | 0 => ("MoodFare$Dearest", "steps", "I", true)
  | 1 => ("MoodFare$Dearest", "much", "I", false)
  | _ => ("MoodFare$Dearest", "where", "I", false)
def tyX14 : Nat → FieldType := fun k => match k with
  | 0 => .int
  | 1 => .int
  | _ => .int
abbrev wsX140 : List Cond := u_ws RX14 TX14 3
theorem nmX14 : ∀ a, a < 3 → ∀ b, b < 3 → a ≠ b → (TX14 a).2.1 ≠ (TX14 b).2.1 := by decide +kernel
theorem tyX14_ok : ∀ k, k < 3 → parseFieldDescriptor (TX14 k).2.2.1 = some (tyX14 k) := by decide +kernel
abbrev cX14_isBetter : ByteArray := prog_4_method_2_code
def yX14_isBetter : MethodName := ⟨RX14, "isBetter", "(LMoodFare$Town;II)Z"⟩
def dkwX14_isBetter_1 : List UInt8 := [43, 180, 0, 19, 181, 0, 24, 4, 172]
abbrev dktX14_isBetter_1 : List UInt8 := dkwX14_isBetter_1 ++ []
def dkwX14_isBetter_0 : List UInt8 := [28, 42, 180, 0, 16, 161, 0, 11, 29, 42, 180, 0, 10, 163, 0, 5, 3, 172, 42, 29, 181, 0, 10, 42]
abbrev dktX14_isBetter_0 : List UInt8 := dkwX14_isBetter_0 ++ dktX14_isBetter_1
theorem dksX14_isBetter_0 : cX14_isBetter.data.toList.drop 0 = dktX14_isBetter_0 := by decide +kernel
theorem dksX14_isBetter_1 : cX14_isBetter.data.toList.drop 24 = dktX14_isBetter_1 := dk_seg dksX14_isBetter_0 24 rfl rfl
theorem dX14_isBetter_0 : decode cX14_isBetter 0 = .ok (.iload_n 2, 1) := dk_28 (dk_at dksX14_isBetter_0 0 rfl rfl)
theorem dX14_isBetter_1 : decode cX14_isBetter 1 = .ok (.aload_n 0, 1) := dk_42 (dk_at dksX14_isBetter_0 1 rfl rfl)
theorem dX14_isBetter_2 : decode cX14_isBetter 2 = .ok (.getfield 16, 3) := dk_180 0 16 (dk_at dksX14_isBetter_0 2 rfl rfl)
theorem dX14_isBetter_5 : decode cX14_isBetter 5 = .ok (.if_icmp .lt 11, 3) := dk_161 0 11 (dk_at dksX14_isBetter_0 5 rfl rfl)
theorem dX14_isBetter_8 : decode cX14_isBetter 8 = .ok (.iload_n 3, 1) := dk_29 (dk_at dksX14_isBetter_0 8 rfl rfl)
theorem dX14_isBetter_9 : decode cX14_isBetter 9 = .ok (.aload_n 0, 1) := dk_42 (dk_at dksX14_isBetter_0 9 rfl rfl)
theorem dX14_isBetter_10 : decode cX14_isBetter 10 = .ok (.getfield 10, 3) := dk_180 0 10 (dk_at dksX14_isBetter_0 10 rfl rfl)
theorem dX14_isBetter_13 : decode cX14_isBetter 13 = .ok (.if_icmp .gt 5, 3) := dk_163 0 5 (dk_at dksX14_isBetter_0 13 rfl rfl)
theorem dX14_isBetter_16 : decode cX14_isBetter 16 = .ok (.iconst 0, 1) := dk_3 (dk_at dksX14_isBetter_0 16 rfl rfl)
theorem dX14_isBetter_17 : decode cX14_isBetter 17 = .ok (.ireturn, 1) := dk_172 (dk_at dksX14_isBetter_0 17 rfl rfl)
theorem dX14_isBetter_18 : decode cX14_isBetter 18 = .ok (.aload_n 0, 1) := dk_42 (dk_at dksX14_isBetter_0 18 rfl rfl)
theorem dX14_isBetter_19 : decode cX14_isBetter 19 = .ok (.iload_n 3, 1) := dk_29 (dk_at dksX14_isBetter_0 19 rfl rfl)
theorem dX14_isBetter_20 : decode cX14_isBetter 20 = .ok (.putfield 10, 3) := dk_181 0 10 (dk_at dksX14_isBetter_0 20 rfl rfl)
theorem dX14_isBetter_23 : decode cX14_isBetter 23 = .ok (.aload_n 0, 1) := dk_42 (dk_at dksX14_isBetter_0 23 rfl rfl)
theorem dX14_isBetter_24 : decode cX14_isBetter 24 = .ok (.aload_n 1, 1) := dk_43 (dk_at dksX14_isBetter_1 0 rfl rfl)
theorem dX14_isBetter_25 : decode cX14_isBetter 25 = .ok (.getfield 19, 3) := dk_180 0 19 (dk_at dksX14_isBetter_1 1 rfl rfl)
theorem dX14_isBetter_28 : decode cX14_isBetter 28 = .ok (.putfield 24, 3) := dk_181 0 24 (dk_at dksX14_isBetter_1 4 rfl rfl)
theorem dX14_isBetter_31 : decode cX14_isBetter 31 = .ok (.iconst 1, 1) := dk_4 (dk_at dksX14_isBetter_1 7 rfl rfl)
theorem dX14_isBetter_32 : decode cX14_isBetter 32 = .ok (.ireturn, 1) := dk_172 (dk_at dksX14_isBetter_1 8 rfl rfl)
abbrev cX14_init : ByteArray := prog_4_method_1_code
def yX14_init : MethodName := ⟨RX14, "<init>", "(I)V"⟩
def dkwX14_init_0 : List UInt8 := [42, 183, 0, 3, 42, 18, 9, 181, 0, 10, 42, 27, 181, 0, 16, 177]
abbrev dktX14_init_0 : List UInt8 := dkwX14_init_0 ++ []
theorem dksX14_init_0 : cX14_init.data.toList.drop 0 = dktX14_init_0 := by decide +kernel
theorem dX14_init_0 : decode cX14_init 0 = .ok (.aload_n 0, 1) := dk_42 (dk_at dksX14_init_0 0 rfl rfl)
theorem dX14_init_1 : decode cX14_init 1 = .ok (.invokespecial 3, 3) := dk_183 0 3 (dk_at dksX14_init_0 1 rfl rfl)
theorem dX14_init_4 : decode cX14_init 4 = .ok (.aload_n 0, 1) := dk_42 (dk_at dksX14_init_0 4 rfl rfl)
theorem dX14_init_5 : decode cX14_init 5 = .ok (.ldc 9, 2) := dk_18 9 (dk_at dksX14_init_0 5 rfl rfl)
theorem dX14_init_7 : decode cX14_init 7 = .ok (.putfield 10, 3) := dk_181 0 10 (dk_at dksX14_init_0 7 rfl rfl)
theorem dX14_init_10 : decode cX14_init 10 = .ok (.aload_n 0, 1) := dk_42 (dk_at dksX14_init_0 10 rfl rfl)
theorem dX14_init_11 : decode cX14_init 11 = .ok (.iload_n 1, 1) := dk_27 (dk_at dksX14_init_0 11 rfl rfl)
theorem dX14_init_12 : decode cX14_init 12 = .ok (.putfield 16, 3) := dk_181 0 16 (dk_at dksX14_init_0 12 rfl rfl)
theorem dX14_init_15 : decode cX14_init 15 = .ok (.return_, 1) := dk_177 (dk_at dksX14_init_0 15 rfl rfl)
theorem q101 : (Jvm.Cond.initialized "MoodFare$Dearest") ∈ lw_all := lw_g (lw_at lw_m1 36 rfl) rfl
theorem q177 : (Jvm.Cond.fieldLink "MoodFare$Dearest" (19 : Nat) "MoodFare$Town" "at" "I") ∈ lw_all := lw_g (lw_at lw_m1 112 rfl) rfl
theorem q795 : (Jvm.Cond.selects "MoodFare$Dearest" ({ cls := "java/lang/Object", name := "getClass", desc := "()Ljava/lang/Class;" } : Jvm.MethodName) ({ cls := "java/lang/Object", name := "getClass", desc := "()Ljava/lang/Class;" } : Jvm.MethodName)) ∈ lw_all := lw_g (lw_at lw_m4 10 rfl) rfl
theorem q1055 : (Jvm.Cond.castable "MoodFare$Dearest" "MoodFare$Worth") ∈ lw_tbl := lw_at lw_m5 30 rfl
theorem q1056 : (Jvm.Cond.selects "MoodFare$Dearest" ({ cls := "MoodFare$Worth", name := "isBetter", desc := "(LMoodFare$Town;II)Z" } : Jvm.MethodName) ({ cls := "MoodFare$Dearest", name := "isBetter", desc := "(LMoodFare$Town;II)Z" } : Jvm.MethodName)) ∈ lw_all := lw_g (lw_at lw_m5 31 rfl) rfl
theorem q1057 : (Jvm.Cond.unhidden "MoodFare$Dearest" "isBetter" "(LMoodFare$Town;II)Z") ∈ lw_tbl := lw_at lw_m5 32 rfl
theorem q1058 : (Jvm.Cond.instanceMethod ({ cls := "MoodFare$Dearest", name := "isBetter", desc := "(LMoodFare$Town;II)Z" } : Jvm.MethodName)) ∈ lw_all := lw_g (lw_at lw_m5 33 rfl) rfl
theorem q1059 : (Jvm.Cond.publicMethod ({ cls := "MoodFare$Dearest", name := "isBetter", desc := "(LMoodFare$Town;II)Z" } : Jvm.MethodName)) ∈ lw_tbl := lw_at lw_m5 34 rfl
theorem q1060 : (Jvm.Cond.code ({ cls := "MoodFare$Dearest", name := "isBetter", desc := "(LMoodFare$Town;II)Z" } : Jvm.MethodName) prog_4_method_2_code (4 : Nat) (Option.some Jvm.ClassFile.FieldType.boolean)) ∈ lw_all := lw_g (lw_at lw_m5 35 rfl) rfl
theorem q1085 : (Jvm.Cond.instantiable "MoodFare$Dearest" (3 : Nat)) ∈ lw_all := lw_g (lw_at lw_m5 60 rfl) rfl
theorem q1087 : (Jvm.Cond.instanceMethod ({ cls := "MoodFare$Dearest", name := "<init>", desc := "(I)V" } : Jvm.MethodName)) ∈ lw_all := lw_g (lw_at lw_m5 62 rfl) rfl
theorem q1088 : (Jvm.Cond.code ({ cls := "MoodFare$Dearest", name := "<init>", desc := "(I)V" } : Jvm.MethodName) prog_4_method_1_code (2 : Nat) (Option.none : Option Jvm.ClassFile.FieldType)) ∈ lw_all := lw_g (lw_at lw_m5 63 rfl) rfl
theorem q1089 : (Jvm.Cond.methodLink "MoodFare$Dearest" (3 : Nat) ({ cls := "java/lang/Object", name := "<init>", desc := "()V" } : Jvm.MethodName)) ∈ lw_all := lw_g (lw_at lw_m5 64 rfl) rfl
theorem q1090 : (Jvm.Cond.constant "MoodFare$Dearest" (9 : Nat) (-1000000 : Int32)) ∈ lw_all := lw_g (lw_at lw_m5 65 rfl) rfl
theorem q1091 : (Jvm.Cond.fieldLink "MoodFare$Dearest" (16 : Nat) "MoodFare$Dearest" "steps" "I") ∈ lw_all := lw_g (lw_at lw_m5 66 rfl) rfl
theorem q1092 : (Jvm.Cond.fieldLink "MoodFare$Dearest" (10 : Nat) "MoodFare$Dearest" "much" "I") ∈ lw_all := lw_g (lw_at lw_m5 67 rfl) rfl
theorem q1094 : (Jvm.Cond.fieldLink "MoodFare$Dearest" (24 : Nat) "MoodFare$Dearest" "where" "I") ∈ lw_all := lw_g (lw_at lw_m5 69 rfl) rfl
theorem q1096 : (Jvm.Cond.laysFinal "MoodFare$Dearest" "MoodFare$Dearest" "steps" "I") ∈ lw_all := lw_g (lw_at lw_m5 71 rfl) rfl
theorem q1097 : (Jvm.Cond.soleField "MoodFare$Dearest" "steps") ∈ lw_all := lw_g (lw_at lw_m5 72 rfl) rfl
theorem q1098 : (Jvm.Cond.lays "MoodFare$Dearest" "MoodFare$Dearest" "much" "I") ∈ lw_all := lw_g (lw_at lw_m5 73 rfl) rfl
theorem q1099 : (Jvm.Cond.soleField "MoodFare$Dearest" "much") ∈ lw_all := lw_g (lw_at lw_m5 74 rfl) rfl
theorem q1100 : (Jvm.Cond.lays "MoodFare$Dearest" "MoodFare$Dearest" "where" "I") ∈ lw_all := lw_g (lw_at lw_m5 75 rfl) rfl
theorem q1101 : (Jvm.Cond.soleField "MoodFare$Dearest" "where") ∈ lw_all := lw_g (lw_at lw_m5 76 rfl) rfl
theorem q1102 : (Jvm.Cond.superclass "MoodFare$Dearest" "java/lang/Object") ∈ lw_all := lw_g (lw_at lw_m5 77 rfl) rfl
theorem q1916 : (Jvm.Cond.castable "MoodFare$Dearest" "java/lang/Object") ∈ lw_tbl := lw_at lw_m8 171 rfl
theorem in_X14 : ∀ w ∈ wsX140, w ∈ lw_all := lw_in wsX140 [1096, 1098, 1100] (by decide +kernel) (by decide +kernel)

/-! MoodFare$Moods -/
set_option maxRecDepth 100000
def RX15 : String := "MoodFare$Moods"
def TX15 : u_T := fun k => match k with
  | 0 => ("MoodFare$Moods", "corner", "I", true)
  | 1 => ("MoodFare$Moods", "steps", "I", true)
  | _ => ("MoodFare$Moods", "set", "I", false)
def tyX15 : Nat → FieldType := fun k => match k with
  | 0 => .int
  | 1 => .int
  | _ => .int
abbrev wsX150 : List Cond := u_ws RX15 TX15 3
theorem nmX15 : ∀ a, a < 3 → ∀ b, b < 3 → a ≠ b → (TX15 a).2.1 ≠ (TX15 b).2.1 := by decide +kernel
theorem tyX15_ok : ∀ k, k < 3 → parseFieldDescriptor (TX15 k).2.2.1 = some (tyX15 k) := by decide +kernel
abbrev cX15_isBetter : ByteArray := prog_15_method_2_code
def yX15_isBetter : MethodName := ⟨RX15, "isBetter", "(LMoodFare$Town;II)Z"⟩
def dkwX15_isBetter_1 : List UInt8 := [4, 43, 180, 0, 24, 120, 167, 0, 4, 3, 128, 181, 0, 16, 3, 172]
abbrev dktX15_isBetter_1 : List UInt8 := dkwX15_isBetter_1 ++ []
def dkwX15_isBetter_0 : List UInt8 := [42, 89, 180, 0, 16, 28, 42, 180, 0, 13, 160, 0, 23, 43, 180, 0, 19, 42, 180, 0, 7, 160, 0, 12]
abbrev dktX15_isBetter_0 : List UInt8 := dkwX15_isBetter_0 ++ dktX15_isBetter_1
theorem dksX15_isBetter_0 : cX15_isBetter.data.toList.drop 0 = dktX15_isBetter_0 := by decide +kernel
theorem dksX15_isBetter_1 : cX15_isBetter.data.toList.drop 24 = dktX15_isBetter_1 := dk_seg dksX15_isBetter_0 24 rfl rfl
theorem dX15_isBetter_0 : decode cX15_isBetter 0 = .ok (.aload_n 0, 1) := dk_42 (dk_at dksX15_isBetter_0 0 rfl rfl)
theorem dX15_isBetter_1 : decode cX15_isBetter 1 = .ok (.dup, 1) := dk_89 (dk_at dksX15_isBetter_0 1 rfl rfl)
theorem dX15_isBetter_2 : decode cX15_isBetter 2 = .ok (.getfield 16, 3) := dk_180 0 16 (dk_at dksX15_isBetter_0 2 rfl rfl)
theorem dX15_isBetter_5 : decode cX15_isBetter 5 = .ok (.iload_n 2, 1) := dk_28 (dk_at dksX15_isBetter_0 5 rfl rfl)
theorem dX15_isBetter_6 : decode cX15_isBetter 6 = .ok (.aload_n 0, 1) := dk_42 (dk_at dksX15_isBetter_0 6 rfl rfl)
theorem dX15_isBetter_7 : decode cX15_isBetter 7 = .ok (.getfield 13, 3) := dk_180 0 13 (dk_at dksX15_isBetter_0 7 rfl rfl)
theorem dX15_isBetter_10 : decode cX15_isBetter 10 = .ok (.if_icmp .ne 23, 3) := dk_160 0 23 (dk_at dksX15_isBetter_0 10 rfl rfl)
theorem dX15_isBetter_13 : decode cX15_isBetter 13 = .ok (.aload_n 1, 1) := dk_43 (dk_at dksX15_isBetter_0 13 rfl rfl)
theorem dX15_isBetter_14 : decode cX15_isBetter 14 = .ok (.getfield 19, 3) := dk_180 0 19 (dk_at dksX15_isBetter_0 14 rfl rfl)
theorem dX15_isBetter_17 : decode cX15_isBetter 17 = .ok (.aload_n 0, 1) := dk_42 (dk_at dksX15_isBetter_0 17 rfl rfl)
theorem dX15_isBetter_18 : decode cX15_isBetter 18 = .ok (.getfield 7, 3) := dk_180 0 7 (dk_at dksX15_isBetter_0 18 rfl rfl)
theorem dX15_isBetter_21 : decode cX15_isBetter 21 = .ok (.if_icmp .ne 12, 3) := dk_160 0 12 (dk_at dksX15_isBetter_0 21 rfl rfl)
theorem dX15_isBetter_24 : decode cX15_isBetter 24 = .ok (.iconst 1, 1) := dk_4 (dk_at dksX15_isBetter_1 0 rfl rfl)
theorem dX15_isBetter_25 : decode cX15_isBetter 25 = .ok (.aload_n 1, 1) := dk_43 (dk_at dksX15_isBetter_1 1 rfl rfl)
theorem dX15_isBetter_26 : decode cX15_isBetter 26 = .ok (.getfield 24, 3) := dk_180 0 24 (dk_at dksX15_isBetter_1 2 rfl rfl)
theorem dX15_isBetter_29 : decode cX15_isBetter 29 = .ok (.ishl, 1) := dk_120 (dk_at dksX15_isBetter_1 5 rfl rfl)
theorem dX15_isBetter_30 : decode cX15_isBetter 30 = .ok (.goto 4, 3) := dk_167 0 4 (dk_at dksX15_isBetter_1 6 rfl rfl)
theorem dX15_isBetter_33 : decode cX15_isBetter 33 = .ok (.iconst 0, 1) := dk_3 (dk_at dksX15_isBetter_1 9 rfl rfl)
theorem dX15_isBetter_34 : decode cX15_isBetter 34 = .ok (.ior, 1) := dk_128 (dk_at dksX15_isBetter_1 10 rfl rfl)
theorem dX15_isBetter_35 : decode cX15_isBetter 35 = .ok (.putfield 16, 3) := dk_181 0 16 (dk_at dksX15_isBetter_1 11 rfl rfl)
theorem dX15_isBetter_38 : decode cX15_isBetter 38 = .ok (.iconst 0, 1) := dk_3 (dk_at dksX15_isBetter_1 14 rfl rfl)
theorem dX15_isBetter_39 : decode cX15_isBetter 39 = .ok (.ireturn, 1) := dk_172 (dk_at dksX15_isBetter_1 15 rfl rfl)
abbrev cX15_init : ByteArray := prog_15_method_1_code
def yX15_init : MethodName := ⟨RX15, "<init>", "(II)V"⟩
def dkwX15_init_0 : List UInt8 := [42, 183, 0, 1, 42, 27, 181, 0, 7, 42, 28, 181, 0, 13, 177]
abbrev dktX15_init_0 : List UInt8 := dkwX15_init_0 ++ []
theorem dksX15_init_0 : cX15_init.data.toList.drop 0 = dktX15_init_0 := by decide +kernel
theorem dX15_init_0 : decode cX15_init 0 = .ok (.aload_n 0, 1) := dk_42 (dk_at dksX15_init_0 0 rfl rfl)
theorem dX15_init_1 : decode cX15_init 1 = .ok (.invokespecial 1, 3) := dk_183 0 1 (dk_at dksX15_init_0 1 rfl rfl)
theorem dX15_init_4 : decode cX15_init 4 = .ok (.aload_n 0, 1) := dk_42 (dk_at dksX15_init_0 4 rfl rfl)
theorem dX15_init_5 : decode cX15_init 5 = .ok (.iload_n 1, 1) := dk_27 (dk_at dksX15_init_0 5 rfl rfl)
theorem dX15_init_6 : decode cX15_init 6 = .ok (.putfield 7, 3) := dk_181 0 7 (dk_at dksX15_init_0 6 rfl rfl)
theorem dX15_init_9 : decode cX15_init 9 = .ok (.aload_n 0, 1) := dk_42 (dk_at dksX15_init_0 9 rfl rfl)
theorem dX15_init_10 : decode cX15_init 10 = .ok (.iload_n 2, 1) := dk_28 (dk_at dksX15_init_0 10 rfl rfl)
theorem dX15_init_11 : decode cX15_init 11 = .ok (.putfield 13, 3) := dk_181 0 13 (dk_at dksX15_init_0 11 rfl rfl)
theorem dX15_init_14 : decode cX15_init 14 = .ok (.return_, 1) := dk_177 (dk_at dksX15_init_0 14 rfl rfl)
theorem q102 : (Jvm.Cond.initialized "MoodFare$Moods") ∈ lw_all := lw_g (lw_at lw_m1 37 rfl) rfl
theorem q170 : (Jvm.Cond.fieldLink "MoodFare$Moods" (24 : Nat) "MoodFare$Town" "mood" "I") ∈ lw_all := lw_g (lw_at lw_m1 105 rfl) rfl
theorem q176 : (Jvm.Cond.fieldLink "MoodFare$Moods" (19 : Nat) "MoodFare$Town" "at" "I") ∈ lw_all := lw_g (lw_at lw_m1 111 rfl) rfl
theorem q804 : (Jvm.Cond.selects "MoodFare$Moods" ({ cls := "java/lang/Object", name := "getClass", desc := "()Ljava/lang/Class;" } : Jvm.MethodName) ({ cls := "java/lang/Object", name := "getClass", desc := "()Ljava/lang/Class;" } : Jvm.MethodName)) ∈ lw_all := lw_g (lw_at lw_m4 19 rfl) rfl
theorem q1061 : (Jvm.Cond.castable "MoodFare$Moods" "MoodFare$Worth") ∈ lw_tbl := lw_at lw_m5 36 rfl
theorem q1062 : (Jvm.Cond.selects "MoodFare$Moods" ({ cls := "MoodFare$Worth", name := "isBetter", desc := "(LMoodFare$Town;II)Z" } : Jvm.MethodName) ({ cls := "MoodFare$Moods", name := "isBetter", desc := "(LMoodFare$Town;II)Z" } : Jvm.MethodName)) ∈ lw_all := lw_g (lw_at lw_m5 37 rfl) rfl
theorem q1063 : (Jvm.Cond.unhidden "MoodFare$Moods" "isBetter" "(LMoodFare$Town;II)Z") ∈ lw_tbl := lw_at lw_m5 38 rfl
theorem q1064 : (Jvm.Cond.instanceMethod ({ cls := "MoodFare$Moods", name := "isBetter", desc := "(LMoodFare$Town;II)Z" } : Jvm.MethodName)) ∈ lw_all := lw_g (lw_at lw_m5 39 rfl) rfl
theorem q1065 : (Jvm.Cond.publicMethod ({ cls := "MoodFare$Moods", name := "isBetter", desc := "(LMoodFare$Town;II)Z" } : Jvm.MethodName)) ∈ lw_tbl := lw_at lw_m5 40 rfl
theorem q1066 : (Jvm.Cond.code ({ cls := "MoodFare$Moods", name := "isBetter", desc := "(LMoodFare$Town;II)Z" } : Jvm.MethodName) prog_15_method_2_code (4 : Nat) (Option.some Jvm.ClassFile.FieldType.boolean)) ∈ lw_all := lw_g (lw_at lw_m5 41 rfl) rfl
theorem q1108 : (Jvm.Cond.instantiable "MoodFare$Moods" (3 : Nat)) ∈ lw_all := lw_g (lw_at lw_m5 83 rfl) rfl
theorem q1110 : (Jvm.Cond.instanceMethod ({ cls := "MoodFare$Moods", name := "<init>", desc := "(II)V" } : Jvm.MethodName)) ∈ lw_all := lw_g (lw_at lw_m5 85 rfl) rfl
theorem q1111 : (Jvm.Cond.code ({ cls := "MoodFare$Moods", name := "<init>", desc := "(II)V" } : Jvm.MethodName) prog_15_method_1_code (3 : Nat) (Option.none : Option Jvm.ClassFile.FieldType)) ∈ lw_all := lw_g (lw_at lw_m5 86 rfl) rfl
theorem q1112 : (Jvm.Cond.methodLink "MoodFare$Moods" (1 : Nat) ({ cls := "java/lang/Object", name := "<init>", desc := "()V" } : Jvm.MethodName)) ∈ lw_all := lw_g (lw_at lw_m5 87 rfl) rfl
theorem q1113 : (Jvm.Cond.fieldLink "MoodFare$Moods" (7 : Nat) "MoodFare$Moods" "corner" "I") ∈ lw_all := lw_g (lw_at lw_m5 88 rfl) rfl
theorem q1114 : (Jvm.Cond.fieldLink "MoodFare$Moods" (13 : Nat) "MoodFare$Moods" "steps" "I") ∈ lw_all := lw_g (lw_at lw_m5 89 rfl) rfl
theorem q1115 : (Jvm.Cond.fieldLink "MoodFare$Moods" (16 : Nat) "MoodFare$Moods" "set" "I") ∈ lw_all := lw_g (lw_at lw_m5 90 rfl) rfl
theorem q1117 : (Jvm.Cond.laysFinal "MoodFare$Moods" "MoodFare$Moods" "corner" "I") ∈ lw_all := lw_g (lw_at lw_m5 92 rfl) rfl
theorem q1118 : (Jvm.Cond.soleField "MoodFare$Moods" "corner") ∈ lw_all := lw_g (lw_at lw_m5 93 rfl) rfl
theorem q1119 : (Jvm.Cond.laysFinal "MoodFare$Moods" "MoodFare$Moods" "steps" "I") ∈ lw_all := lw_g (lw_at lw_m5 94 rfl) rfl
theorem q1120 : (Jvm.Cond.soleField "MoodFare$Moods" "steps") ∈ lw_all := lw_g (lw_at lw_m5 95 rfl) rfl
theorem q1121 : (Jvm.Cond.lays "MoodFare$Moods" "MoodFare$Moods" "set" "I") ∈ lw_all := lw_g (lw_at lw_m5 96 rfl) rfl
theorem q1122 : (Jvm.Cond.soleField "MoodFare$Moods" "set") ∈ lw_all := lw_g (lw_at lw_m5 97 rfl) rfl
theorem q1123 : (Jvm.Cond.superclass "MoodFare$Moods" "java/lang/Object") ∈ lw_all := lw_g (lw_at lw_m5 98 rfl) rfl
theorem q1917 : (Jvm.Cond.castable "MoodFare$Moods" "java/lang/Object") ∈ lw_tbl := lw_at lw_m8 172 rfl
theorem in_X15 : ∀ w ∈ wsX150, w ∈ lw_all := lw_in wsX150 [1117, 1119, 1121] (by decide +kernel) (by decide +kernel)

/-! MoodFare$Soonest -/
set_option maxRecDepth 100000
def RX16 : String := "MoodFare$Soonest"
def TX16 : u_T := fun k => match k with
  | 0 => ("MoodFare$Soonest", "mood", "I", true)
  | _ => ("MoodFare$Soonest", "many", "I", false)
def tyX16 : Nat → FieldType := fun k => match k with
  | 0 => .int
  | _ => .int
abbrev wsX160 : List Cond := u_ws RX16 TX16 2
theorem nmX16 : ∀ a, a < 2 → ∀ b, b < 2 → a ≠ b → (TX16 a).2.1 ≠ (TX16 b).2.1 := by decide +kernel
theorem tyX16_ok : ∀ k, k < 2 → parseFieldDescriptor (TX16 k).2.2.1 = some (tyX16 k) := by decide +kernel
abbrev cX16_isBetter : ByteArray := prog_20_method_2_code
def yX16_isBetter : MethodName := ⟨RX16, "isBetter", "(LMoodFare$Town;II)Z"⟩
def dkwX16_isBetter_1 : List UInt8 := [180, 0, 10, 161, 0, 5, 3, 172, 42, 28, 181, 0, 10, 4, 172]
abbrev dktX16_isBetter_1 : List UInt8 := dkwX16_isBetter_1 ++ []
def dkwX16_isBetter_0 : List UInt8 := [43, 180, 0, 19, 42, 180, 0, 16, 160, 0, 20, 42, 180, 0, 10, 18, 9, 159, 0, 13, 28, 42]
abbrev dktX16_isBetter_0 : List UInt8 := dkwX16_isBetter_0 ++ dktX16_isBetter_1
theorem dksX16_isBetter_0 : cX16_isBetter.data.toList.drop 0 = dktX16_isBetter_0 := by decide +kernel
theorem dksX16_isBetter_1 : cX16_isBetter.data.toList.drop 22 = dktX16_isBetter_1 := dk_seg dksX16_isBetter_0 22 rfl rfl
theorem dX16_isBetter_0 : decode cX16_isBetter 0 = .ok (.aload_n 1, 1) := dk_43 (dk_at dksX16_isBetter_0 0 rfl rfl)
theorem dX16_isBetter_1 : decode cX16_isBetter 1 = .ok (.getfield 19, 3) := dk_180 0 19 (dk_at dksX16_isBetter_0 1 rfl rfl)
theorem dX16_isBetter_4 : decode cX16_isBetter 4 = .ok (.aload_n 0, 1) := dk_42 (dk_at dksX16_isBetter_0 4 rfl rfl)
theorem dX16_isBetter_5 : decode cX16_isBetter 5 = .ok (.getfield 16, 3) := dk_180 0 16 (dk_at dksX16_isBetter_0 5 rfl rfl)
theorem dX16_isBetter_8 : decode cX16_isBetter 8 = .ok (.if_icmp .ne 20, 3) := dk_160 0 20 (dk_at dksX16_isBetter_0 8 rfl rfl)
theorem dX16_isBetter_11 : decode cX16_isBetter 11 = .ok (.aload_n 0, 1) := dk_42 (dk_at dksX16_isBetter_0 11 rfl rfl)
theorem dX16_isBetter_12 : decode cX16_isBetter 12 = .ok (.getfield 10, 3) := dk_180 0 10 (dk_at dksX16_isBetter_0 12 rfl rfl)
theorem dX16_isBetter_15 : decode cX16_isBetter 15 = .ok (.ldc 9, 2) := dk_18 9 (dk_at dksX16_isBetter_0 15 rfl rfl)
theorem dX16_isBetter_17 : decode cX16_isBetter 17 = .ok (.if_icmp .eq 13, 3) := dk_159 0 13 (dk_at dksX16_isBetter_0 17 rfl rfl)
theorem dX16_isBetter_20 : decode cX16_isBetter 20 = .ok (.iload_n 2, 1) := dk_28 (dk_at dksX16_isBetter_0 20 rfl rfl)
theorem dX16_isBetter_21 : decode cX16_isBetter 21 = .ok (.aload_n 0, 1) := dk_42 (dk_at dksX16_isBetter_0 21 rfl rfl)
theorem dX16_isBetter_22 : decode cX16_isBetter 22 = .ok (.getfield 10, 3) := dk_180 0 10 (dk_at dksX16_isBetter_1 0 rfl rfl)
theorem dX16_isBetter_25 : decode cX16_isBetter 25 = .ok (.if_icmp .lt 5, 3) := dk_161 0 5 (dk_at dksX16_isBetter_1 3 rfl rfl)
theorem dX16_isBetter_28 : decode cX16_isBetter 28 = .ok (.iconst 0, 1) := dk_3 (dk_at dksX16_isBetter_1 6 rfl rfl)
theorem dX16_isBetter_29 : decode cX16_isBetter 29 = .ok (.ireturn, 1) := dk_172 (dk_at dksX16_isBetter_1 7 rfl rfl)
theorem dX16_isBetter_30 : decode cX16_isBetter 30 = .ok (.aload_n 0, 1) := dk_42 (dk_at dksX16_isBetter_1 8 rfl rfl)
theorem dX16_isBetter_31 : decode cX16_isBetter 31 = .ok (.iload_n 2, 1) := dk_28 (dk_at dksX16_isBetter_1 9 rfl rfl)
theorem dX16_isBetter_32 : decode cX16_isBetter 32 = .ok (.putfield 10, 3) := dk_181 0 10 (dk_at dksX16_isBetter_1 10 rfl rfl)
theorem dX16_isBetter_35 : decode cX16_isBetter 35 = .ok (.iconst 1, 1) := dk_4 (dk_at dksX16_isBetter_1 13 rfl rfl)
theorem dX16_isBetter_36 : decode cX16_isBetter 36 = .ok (.ireturn, 1) := dk_172 (dk_at dksX16_isBetter_1 14 rfl rfl)
abbrev cX16_init : ByteArray := prog_20_method_1_code
def yX16_init : MethodName := ⟨RX16, "<init>", "(I)V"⟩
def dkwX16_init_0 : List UInt8 := [42, 183, 0, 3, 42, 18, 9, 181, 0, 10, 42, 27, 181, 0, 16, 177]
abbrev dktX16_init_0 : List UInt8 := dkwX16_init_0 ++ []
theorem dksX16_init_0 : cX16_init.data.toList.drop 0 = dktX16_init_0 := by decide +kernel
theorem dX16_init_0 : decode cX16_init 0 = .ok (.aload_n 0, 1) := dk_42 (dk_at dksX16_init_0 0 rfl rfl)
theorem dX16_init_1 : decode cX16_init 1 = .ok (.invokespecial 3, 3) := dk_183 0 3 (dk_at dksX16_init_0 1 rfl rfl)
theorem dX16_init_4 : decode cX16_init 4 = .ok (.aload_n 0, 1) := dk_42 (dk_at dksX16_init_0 4 rfl rfl)
theorem dX16_init_5 : decode cX16_init 5 = .ok (.ldc 9, 2) := dk_18 9 (dk_at dksX16_init_0 5 rfl rfl)
theorem dX16_init_7 : decode cX16_init 7 = .ok (.putfield 10, 3) := dk_181 0 10 (dk_at dksX16_init_0 7 rfl rfl)
theorem dX16_init_10 : decode cX16_init 10 = .ok (.aload_n 0, 1) := dk_42 (dk_at dksX16_init_0 10 rfl rfl)
theorem dX16_init_11 : decode cX16_init 11 = .ok (.iload_n 1, 1) := dk_27 (dk_at dksX16_init_0 11 rfl rfl)
theorem dX16_init_12 : decode cX16_init 12 = .ok (.putfield 16, 3) := dk_181 0 16 (dk_at dksX16_init_0 12 rfl rfl)
theorem dX16_init_15 : decode cX16_init 15 = .ok (.return_, 1) := dk_177 (dk_at dksX16_init_0 15 rfl rfl)
theorem q103 : (Jvm.Cond.initialized "MoodFare$Soonest") ∈ lw_all := lw_g (lw_at lw_m1 38 rfl) rfl
theorem q169 : (Jvm.Cond.fieldLink "MoodFare$Soonest" (19 : Nat) "MoodFare$Town" "mood" "I") ∈ lw_all := lw_g (lw_at lw_m1 104 rfl) rfl
theorem q809 : (Jvm.Cond.selects "MoodFare$Soonest" ({ cls := "java/lang/Object", name := "getClass", desc := "()Ljava/lang/Class;" } : Jvm.MethodName) ({ cls := "java/lang/Object", name := "getClass", desc := "()Ljava/lang/Class;" } : Jvm.MethodName)) ∈ lw_all := lw_g (lw_at lw_m4 24 rfl) rfl
theorem q1067 : (Jvm.Cond.castable "MoodFare$Soonest" "MoodFare$Worth") ∈ lw_tbl := lw_at lw_m5 42 rfl
theorem q1068 : (Jvm.Cond.selects "MoodFare$Soonest" ({ cls := "MoodFare$Worth", name := "isBetter", desc := "(LMoodFare$Town;II)Z" } : Jvm.MethodName) ({ cls := "MoodFare$Soonest", name := "isBetter", desc := "(LMoodFare$Town;II)Z" } : Jvm.MethodName)) ∈ lw_all := lw_g (lw_at lw_m5 43 rfl) rfl
theorem q1069 : (Jvm.Cond.unhidden "MoodFare$Soonest" "isBetter" "(LMoodFare$Town;II)Z") ∈ lw_tbl := lw_at lw_m5 44 rfl
theorem q1070 : (Jvm.Cond.instanceMethod ({ cls := "MoodFare$Soonest", name := "isBetter", desc := "(LMoodFare$Town;II)Z" } : Jvm.MethodName)) ∈ lw_all := lw_g (lw_at lw_m5 45 rfl) rfl
theorem q1071 : (Jvm.Cond.publicMethod ({ cls := "MoodFare$Soonest", name := "isBetter", desc := "(LMoodFare$Town;II)Z" } : Jvm.MethodName)) ∈ lw_tbl := lw_at lw_m5 46 rfl
theorem q1072 : (Jvm.Cond.code ({ cls := "MoodFare$Soonest", name := "isBetter", desc := "(LMoodFare$Town;II)Z" } : Jvm.MethodName) prog_20_method_2_code (4 : Nat) (Option.some Jvm.ClassFile.FieldType.boolean)) ∈ lw_all := lw_g (lw_at lw_m5 47 rfl) rfl
theorem q1073 : (Jvm.Cond.constant "MoodFare$Soonest" (9 : Nat) (-1000000 : Int32)) ∈ lw_all := lw_g (lw_at lw_m5 48 rfl) rfl
theorem q1130 : (Jvm.Cond.instantiable "MoodFare$Soonest" (2 : Nat)) ∈ lw_all := lw_g (lw_at lw_m5 105 rfl) rfl
theorem q1132 : (Jvm.Cond.instanceMethod ({ cls := "MoodFare$Soonest", name := "<init>", desc := "(I)V" } : Jvm.MethodName)) ∈ lw_all := lw_g (lw_at lw_m5 107 rfl) rfl
theorem q1133 : (Jvm.Cond.code ({ cls := "MoodFare$Soonest", name := "<init>", desc := "(I)V" } : Jvm.MethodName) prog_20_method_1_code (2 : Nat) (Option.none : Option Jvm.ClassFile.FieldType)) ∈ lw_all := lw_g (lw_at lw_m5 108 rfl) rfl
theorem q1134 : (Jvm.Cond.methodLink "MoodFare$Soonest" (3 : Nat) ({ cls := "java/lang/Object", name := "<init>", desc := "()V" } : Jvm.MethodName)) ∈ lw_all := lw_g (lw_at lw_m5 109 rfl) rfl
theorem q1135 : (Jvm.Cond.fieldLink "MoodFare$Soonest" (16 : Nat) "MoodFare$Soonest" "mood" "I") ∈ lw_all := lw_g (lw_at lw_m5 110 rfl) rfl
theorem q1136 : (Jvm.Cond.fieldLink "MoodFare$Soonest" (10 : Nat) "MoodFare$Soonest" "many" "I") ∈ lw_all := lw_g (lw_at lw_m5 111 rfl) rfl
theorem q1138 : (Jvm.Cond.laysFinal "MoodFare$Soonest" "MoodFare$Soonest" "mood" "I") ∈ lw_all := lw_g (lw_at lw_m5 113 rfl) rfl
theorem q1139 : (Jvm.Cond.soleField "MoodFare$Soonest" "mood") ∈ lw_all := lw_g (lw_at lw_m5 114 rfl) rfl
theorem q1140 : (Jvm.Cond.lays "MoodFare$Soonest" "MoodFare$Soonest" "many" "I") ∈ lw_all := lw_g (lw_at lw_m5 115 rfl) rfl
theorem q1141 : (Jvm.Cond.soleField "MoodFare$Soonest" "many") ∈ lw_all := lw_g (lw_at lw_m5 116 rfl) rfl
theorem q1142 : (Jvm.Cond.superclass "MoodFare$Soonest" "java/lang/Object") ∈ lw_all := lw_g (lw_at lw_m5 117 rfl) rfl
theorem q1918 : (Jvm.Cond.castable "MoodFare$Soonest" "java/lang/Object") ∈ lw_tbl := lw_at lw_m8 173 rfl
theorem in_X16 : ∀ w ∈ wsX160, w ∈ lw_all := lw_in wsX160 [1138, 1140] (by decide +kernel) (by decide +kernel)

/-! MoodFare$Fits -/
set_option maxRecDepth 100000
def RX17 : String := "MoodFare$Fits"
def TX17 : u_T := fun k => match k with
  | 0 => ("MoodFare$Fits", "what", "I", true)
  | _ => ("MoodFare$Fits", "this$0", "LMoodFare;", true)
def tyX17 : Nat → FieldType := fun k => match k with
  | 0 => .int
  | _ => .object "MoodFare"
abbrev wsX170 : List Cond := u_ws RX17 TX17 2
theorem nmX17 : ∀ a, a < 2 → ∀ b, b < 2 → a ≠ b → (TX17 a).2.1 ≠ (TX17 b).2.1 := by decide +kernel
theorem tyX17_ok : ∀ k, k < 2 → parseFieldDescriptor (TX17 k).2.2.1 = some (tyX17 k) := by decide +kernel
abbrev cX17_init : ByteArray := prog_6_method_1_code
def yX17_init : MethodName := ⟨RX17, "<init>", "(LMoodFare;I)V"⟩
def dkwX17_init_0 : List UInt8 := [42, 43, 181, 0, 3, 42, 183, 0, 9, 42, 28, 181, 0, 15, 177]
abbrev dktX17_init_0 : List UInt8 := dkwX17_init_0 ++ []
theorem dksX17_init_0 : cX17_init.data.toList.drop 0 = dktX17_init_0 := by decide +kernel
theorem dX17_init_0 : decode cX17_init 0 = .ok (.aload_n 0, 1) := dk_42 (dk_at dksX17_init_0 0 rfl rfl)
theorem dX17_init_1 : decode cX17_init 1 = .ok (.aload_n 1, 1) := dk_43 (dk_at dksX17_init_0 1 rfl rfl)
theorem dX17_init_2 : decode cX17_init 2 = .ok (.putfield 3, 3) := dk_181 0 3 (dk_at dksX17_init_0 2 rfl rfl)
theorem dX17_init_5 : decode cX17_init 5 = .ok (.aload_n 0, 1) := dk_42 (dk_at dksX17_init_0 5 rfl rfl)
theorem dX17_init_6 : decode cX17_init 6 = .ok (.invokespecial 9, 3) := dk_183 0 9 (dk_at dksX17_init_0 6 rfl rfl)
theorem dX17_init_9 : decode cX17_init 9 = .ok (.aload_n 0, 1) := dk_42 (dk_at dksX17_init_0 9 rfl rfl)
theorem dX17_init_10 : decode cX17_init 10 = .ok (.iload_n 2, 1) := dk_28 (dk_at dksX17_init_0 10 rfl rfl)
theorem dX17_init_11 : decode cX17_init 11 = .ok (.putfield 15, 3) := dk_181 0 15 (dk_at dksX17_init_0 11 rfl rfl)
theorem dX17_init_14 : decode cX17_init 14 = .ok (.return_, 1) := dk_177 (dk_at dksX17_init_0 14 rfl rfl)
abbrev cX17_by : ByteArray := prog_6_method_2_code
def yX17_by : MethodName := ⟨RX17, "by", "([I[I)I"⟩
def dkwX17_by_3 : List UInt8 := [4, 21, 4, 120, 167, 0, 4, 3, 128, 62, 132, 4, 1, 167, 255, 181, 29, 172]
abbrev dktX17_by_3 : List UInt8 := dkwX17_by_3 ++ []
def dkwX17_by_2 : List UInt8 := [180, 0, 3, 180, 0, 23, 21, 4, 181, 0, 32, 29, 42, 180, 0, 3, 43, 44, 182, 0, 35, 153, 0, 10]
abbrev dktX17_by_2 : List UInt8 := dkwX17_by_2 ++ dktX17_by_3
def dkwX17_by_1 : List UInt8 := [180, 0, 15, 154, 0, 18, 42, 180, 0, 3, 180, 0, 23, 21, 4, 181, 0, 27, 167, 0, 15, 42]
abbrev dktX17_by_1 : List UInt8 := dkwX17_by_1 ++ dktX17_by_2
def dkwX17_by_0 : List UInt8 := [3, 62, 42, 180, 0, 15, 54, 4, 21, 4, 16, 9, 163, 0, 74, 42, 180, 0, 3, 182, 0, 19, 87, 42]
abbrev dktX17_by_0 : List UInt8 := dkwX17_by_0 ++ dktX17_by_1
theorem dksX17_by_0 : cX17_by.data.toList.drop 0 = dktX17_by_0 := by decide +kernel
theorem dksX17_by_1 : cX17_by.data.toList.drop 24 = dktX17_by_1 := dk_seg dksX17_by_0 24 rfl rfl
theorem dksX17_by_2 : cX17_by.data.toList.drop 46 = dktX17_by_2 := dk_seg dksX17_by_1 22 rfl rfl
theorem dksX17_by_3 : cX17_by.data.toList.drop 70 = dktX17_by_3 := dk_seg dksX17_by_2 24 rfl rfl
theorem dX17_by_0 : decode cX17_by 0 = .ok (.iconst 0, 1) := dk_3 (dk_at dksX17_by_0 0 rfl rfl)
theorem dX17_by_1 : decode cX17_by 1 = .ok (.istore_n 3, 1) := dk_62 (dk_at dksX17_by_0 1 rfl rfl)
theorem dX17_by_2 : decode cX17_by 2 = .ok (.aload_n 0, 1) := dk_42 (dk_at dksX17_by_0 2 rfl rfl)
theorem dX17_by_3 : decode cX17_by 3 = .ok (.getfield 15, 3) := dk_180 0 15 (dk_at dksX17_by_0 3 rfl rfl)
theorem dX17_by_6 : decode cX17_by 6 = .ok (.istore 4, 2) := dk_54 4 (dk_at dksX17_by_0 6 rfl rfl)
theorem dX17_by_8 : decode cX17_by 8 = .ok (.iload 4, 2) := dk_21 4 (dk_at dksX17_by_0 8 rfl rfl)
theorem dX17_by_10 : decode cX17_by 10 = .ok (.bipush 9, 2) := dk_16 9 (dk_at dksX17_by_0 10 rfl rfl)
theorem dX17_by_12 : decode cX17_by 12 = .ok (.if_icmp .gt 74, 3) := dk_163 0 74 (dk_at dksX17_by_0 12 rfl rfl)
theorem dX17_by_15 : decode cX17_by 15 = .ok (.aload_n 0, 1) := dk_42 (dk_at dksX17_by_0 15 rfl rfl)
theorem dX17_by_16 : decode cX17_by 16 = .ok (.getfield 3, 3) := dk_180 0 3 (dk_at dksX17_by_0 16 rfl rfl)
theorem dX17_by_19 : decode cX17_by 19 = .ok (.invokevirtual 19, 3) := dk_182 0 19 (dk_at dksX17_by_0 19 rfl rfl)
theorem dX17_by_22 : decode cX17_by 22 = .ok (.pop, 1) := dk_87 (dk_at dksX17_by_0 22 rfl rfl)
theorem dX17_by_23 : decode cX17_by 23 = .ok (.aload_n 0, 1) := dk_42 (dk_at dksX17_by_0 23 rfl rfl)
theorem dX17_by_24 : decode cX17_by 24 = .ok (.getfield 15, 3) := dk_180 0 15 (dk_at dksX17_by_1 0 rfl rfl)
theorem dX17_by_27 : decode cX17_by 27 = .ok (.ifCond .ne 18, 3) := dk_154 0 18 (dk_at dksX17_by_1 3 rfl rfl)
theorem dX17_by_30 : decode cX17_by 30 = .ok (.aload_n 0, 1) := dk_42 (dk_at dksX17_by_1 6 rfl rfl)
theorem dX17_by_31 : decode cX17_by 31 = .ok (.getfield 3, 3) := dk_180 0 3 (dk_at dksX17_by_1 7 rfl rfl)
theorem dX17_by_34 : decode cX17_by 34 = .ok (.getfield 23, 3) := dk_180 0 23 (dk_at dksX17_by_1 10 rfl rfl)
theorem dX17_by_37 : decode cX17_by 37 = .ok (.iload 4, 2) := dk_21 4 (dk_at dksX17_by_1 13 rfl rfl)
theorem dX17_by_39 : decode cX17_by 39 = .ok (.putfield 27, 3) := dk_181 0 27 (dk_at dksX17_by_1 15 rfl rfl)
theorem dX17_by_42 : decode cX17_by 42 = .ok (.goto 15, 3) := dk_167 0 15 (dk_at dksX17_by_1 18 rfl rfl)
theorem dX17_by_45 : decode cX17_by 45 = .ok (.aload_n 0, 1) := dk_42 (dk_at dksX17_by_1 21 rfl rfl)
theorem dX17_by_46 : decode cX17_by 46 = .ok (.getfield 3, 3) := dk_180 0 3 (dk_at dksX17_by_2 0 rfl rfl)
theorem dX17_by_49 : decode cX17_by 49 = .ok (.getfield 23, 3) := dk_180 0 23 (dk_at dksX17_by_2 3 rfl rfl)
theorem dX17_by_52 : decode cX17_by 52 = .ok (.iload 4, 2) := dk_21 4 (dk_at dksX17_by_2 6 rfl rfl)
theorem dX17_by_54 : decode cX17_by 54 = .ok (.putfield 32, 3) := dk_181 0 32 (dk_at dksX17_by_2 8 rfl rfl)
theorem dX17_by_57 : decode cX17_by 57 = .ok (.iload_n 3, 1) := dk_29 (dk_at dksX17_by_2 11 rfl rfl)
theorem dX17_by_58 : decode cX17_by 58 = .ok (.aload_n 0, 1) := dk_42 (dk_at dksX17_by_2 12 rfl rfl)
theorem dX17_by_59 : decode cX17_by 59 = .ok (.getfield 3, 3) := dk_180 0 3 (dk_at dksX17_by_2 13 rfl rfl)
theorem dX17_by_62 : decode cX17_by 62 = .ok (.aload_n 1, 1) := dk_43 (dk_at dksX17_by_2 16 rfl rfl)
theorem dX17_by_63 : decode cX17_by 63 = .ok (.aload_n 2, 1) := dk_44 (dk_at dksX17_by_2 17 rfl rfl)
theorem dX17_by_64 : decode cX17_by 64 = .ok (.invokevirtual 35, 3) := dk_182 0 35 (dk_at dksX17_by_2 18 rfl rfl)
theorem dX17_by_67 : decode cX17_by 67 = .ok (.ifCond .eq 10, 3) := dk_153 0 10 (dk_at dksX17_by_2 21 rfl rfl)
theorem dX17_by_70 : decode cX17_by 70 = .ok (.iconst 1, 1) := dk_4 (dk_at dksX17_by_3 0 rfl rfl)
theorem dX17_by_71 : decode cX17_by 71 = .ok (.iload 4, 2) := dk_21 4 (dk_at dksX17_by_3 1 rfl rfl)
theorem dX17_by_73 : decode cX17_by 73 = .ok (.ishl, 1) := dk_120 (dk_at dksX17_by_3 3 rfl rfl)
theorem dX17_by_74 : decode cX17_by 74 = .ok (.goto 4, 3) := dk_167 0 4 (dk_at dksX17_by_3 4 rfl rfl)
theorem dX17_by_77 : decode cX17_by 77 = .ok (.iconst 0, 1) := dk_3 (dk_at dksX17_by_3 7 rfl rfl)
theorem dX17_by_78 : decode cX17_by 78 = .ok (.ior, 1) := dk_128 (dk_at dksX17_by_3 8 rfl rfl)
theorem dX17_by_79 : decode cX17_by 79 = .ok (.istore_n 3, 1) := dk_62 (dk_at dksX17_by_3 9 rfl rfl)
theorem dX17_by_80 : decode cX17_by 80 = .ok (.iinc 4 1, 3) := dk_132 4 1 (dk_at dksX17_by_3 10 rfl rfl)
theorem dX17_by_83 : decode cX17_by 83 = .ok (.goto (-75), 3) := dk_167 255 181 (dk_at dksX17_by_3 13 rfl rfl)
theorem dX17_by_86 : decode cX17_by 86 = .ok (.iload_n 3, 1) := dk_29 (dk_at dksX17_by_3 16 rfl rfl)
theorem dX17_by_87 : decode cX17_by 87 = .ok (.ireturn, 1) := dk_172 (dk_at dksX17_by_3 17 rfl rfl)
theorem q104 : (Jvm.Cond.initialized "MoodFare$Fits") ∈ lw_all := lw_g (lw_at lw_m1 39 rfl) rfl
theorem q166 : (Jvm.Cond.fieldLink "MoodFare$Fits" (32 : Nat) "MoodFare$Town" "rate" "I") ∈ lw_all := lw_g (lw_at lw_m1 101 rfl) rfl
theorem q171 : (Jvm.Cond.fieldLink "MoodFare$Fits" (27 : Nat) "MoodFare$Town" "mood" "I") ∈ lw_all := lw_g (lw_at lw_m1 106 rfl) rfl
theorem q253 : (Jvm.Cond.fieldLinkNest "MoodFare$Fits" (23 : Nat) "MoodFare" "then" "LMoodFare$Town;" "MoodFare") ∈ lw_tbl := lw_at lw_m1 188 rfl
theorem q797 : (Jvm.Cond.selects "MoodFare$Fits" ({ cls := "java/lang/Object", name := "getClass", desc := "()Ljava/lang/Class;" } : Jvm.MethodName) ({ cls := "java/lang/Object", name := "getClass", desc := "()Ljava/lang/Class;" } : Jvm.MethodName)) ∈ lw_all := lw_g (lw_at lw_m4 12 rfl) rfl
theorem q1151 : (Jvm.Cond.instantiable "MoodFare$Fits" (2 : Nat)) ∈ lw_all := lw_g (lw_at lw_m5 126 rfl) rfl
theorem q1153 : (Jvm.Cond.instanceMethod ({ cls := "MoodFare$Fits", name := "<init>", desc := "(LMoodFare;I)V" } : Jvm.MethodName)) ∈ lw_all := lw_g (lw_at lw_m5 128 rfl) rfl
theorem q1154 : (Jvm.Cond.code ({ cls := "MoodFare$Fits", name := "<init>", desc := "(LMoodFare;I)V" } : Jvm.MethodName) prog_6_method_1_code (3 : Nat) (Option.none : Option Jvm.ClassFile.FieldType)) ∈ lw_all := lw_g (lw_at lw_m5 129 rfl) rfl
theorem q1155 : (Jvm.Cond.methodLink "MoodFare$Fits" (9 : Nat) ({ cls := "java/lang/Object", name := "<init>", desc := "()V" } : Jvm.MethodName)) ∈ lw_all := lw_g (lw_at lw_m5 130 rfl) rfl
theorem q1156 : (Jvm.Cond.fieldLink "MoodFare$Fits" (15 : Nat) "MoodFare$Fits" "what" "I") ∈ lw_all := lw_g (lw_at lw_m5 131 rfl) rfl
theorem q1157 : (Jvm.Cond.fieldLink "MoodFare$Fits" (3 : Nat) "MoodFare$Fits" "this$0" "LMoodFare;") ∈ lw_all := lw_g (lw_at lw_m5 132 rfl) rfl
theorem q1158 : (Jvm.Cond.laysFinal "MoodFare$Fits" "MoodFare$Fits" "what" "I") ∈ lw_all := lw_g (lw_at lw_m5 133 rfl) rfl
theorem q1159 : (Jvm.Cond.soleField "MoodFare$Fits" "what") ∈ lw_all := lw_g (lw_at lw_m5 134 rfl) rfl
theorem q1160 : (Jvm.Cond.laysFinal "MoodFare$Fits" "MoodFare$Fits" "this$0" "LMoodFare;") ∈ lw_all := lw_g (lw_at lw_m5 135 rfl) rfl
theorem q1161 : (Jvm.Cond.soleField "MoodFare$Fits" "this$0") ∈ lw_all := lw_g (lw_at lw_m5 136 rfl) rfl
theorem q1162 : (Jvm.Cond.superclass "MoodFare$Fits" "java/lang/Object") ∈ lw_all := lw_g (lw_at lw_m5 137 rfl) rfl
theorem q1183 : (Jvm.Cond.castable "MoodFare$Fits" "MoodFare$Told") ∈ lw_tbl := lw_at lw_m5 158 rfl
theorem q1184 : (Jvm.Cond.selects "MoodFare$Fits" ({ cls := "MoodFare$Told", name := "by", desc := "([I[I)I" } : Jvm.MethodName) ({ cls := "MoodFare$Fits", name := "by", desc := "([I[I)I" } : Jvm.MethodName)) ∈ lw_all := lw_g (lw_at lw_m5 159 rfl) rfl
theorem q1185 : (Jvm.Cond.unhidden "MoodFare$Fits" "by" "([I[I)I") ∈ lw_tbl := lw_at lw_m5 160 rfl
theorem q1186 : (Jvm.Cond.instanceMethod ({ cls := "MoodFare$Fits", name := "by", desc := "([I[I)I" } : Jvm.MethodName)) ∈ lw_all := lw_g (lw_at lw_m5 161 rfl) rfl
theorem q1187 : (Jvm.Cond.publicMethod ({ cls := "MoodFare$Fits", name := "by", desc := "([I[I)I" } : Jvm.MethodName)) ∈ lw_tbl := lw_at lw_m5 162 rfl
theorem q1188 : (Jvm.Cond.code ({ cls := "MoodFare$Fits", name := "by", desc := "([I[I)I" } : Jvm.MethodName) prog_6_method_2_code (5 : Nat) (Option.some Jvm.ClassFile.FieldType.int)) ∈ lw_all := lw_g (lw_at lw_m5 163 rfl) rfl
theorem q1189 : (Jvm.Cond.methodLinkNest "MoodFare$Fits" (19 : Nat) ({ cls := "MoodFare", name := "asNow", desc := "()LMoodFare$Town;" } : Jvm.MethodName) "MoodFare") ∈ lw_tbl := lw_at lw_m5 164 rfl
theorem q1190 : (Jvm.Cond.methodLinkNest "MoodFare$Fits" (35 : Nat) ({ cls := "MoodFare", name := "costsSo", desc := "([I[I)Z" } : Jvm.MethodName) "MoodFare") ∈ lw_tbl := lw_at lw_m5 165 rfl
theorem q1919 : (Jvm.Cond.castable "MoodFare$Fits" "java/lang/Object") ∈ lw_tbl := lw_at lw_m8 174 rfl
theorem in_X17 : ∀ w ∈ wsX170, w ∈ lw_all := lw_in wsX170 [1158, 1160] (by decide +kernel) (by decide +kernel)

/-! MoodFare$FitsOf -/
set_option maxRecDepth 100000
def RX18 : String := "MoodFare$FitsOf"
def TX18 : u_T := fun k => match k with
  | 0 => ("MoodFare$FitsOf", "corner", "I", true)
  | 1 => ("MoodFare$FitsOf", "what", "I", true)
  | _ => ("MoodFare$FitsOf", "this$0", "LMoodFare;", true)
def tyX18 : Nat → FieldType := fun k => match k with
  | 0 => .int
  | 1 => .int
  | _ => .object "MoodFare"
abbrev wsX180 : List Cond := u_ws RX18 TX18 3
theorem nmX18 : ∀ a, a < 3 → ∀ b, b < 3 → a ≠ b → (TX18 a).2.1 ≠ (TX18 b).2.1 := by decide +kernel
theorem tyX18_ok : ∀ k, k < 3 → parseFieldDescriptor (TX18 k).2.2.1 = some (tyX18 k) := by decide +kernel
abbrev cX18_by : ByteArray := prog_7_method_2_code
def yX18_by : MethodName := ⟨RX18, "by", "([I[I)I"⟩
def dkwX18_by_6 : List UInt8 := [167, 0, 4, 3, 128, 62, 132, 4, 1, 167, 255, 123, 29, 172]
abbrev dktX18_by_6 : List UInt8 := dkwX18_by_6 ++ []
def dkwX18_by_5 : List UInt8 := [180, 0, 15, 21, 4, 79, 29, 42, 180, 0, 3, 43, 44, 182, 0, 63, 153, 0, 10, 4, 21, 4, 120]
abbrev dktX18_by_5 : List UInt8 := dkwX18_by_5 ++ dktX18_by_6
def dkwX18_by_4 : List UInt8 := [184, 0, 51, 185, 0, 55, 3, 0, 87, 167, 0, 20, 42, 180, 0, 3, 180, 0, 26, 180, 0, 59, 42]
abbrev dktX18_by_4 : List UInt8 := dkwX18_by_4 ++ dktX18_by_5
def dkwX18_by_3 : List UInt8 := [180, 0, 3, 180, 0, 36, 180, 0, 30, 42, 180, 0, 15, 185, 0, 39, 2, 0, 192, 0, 45, 182, 0, 47]
abbrev dktX18_by_3 : List UInt8 := dkwX18_by_3 ++ dktX18_by_4
def dkwX18_by_2 : List UInt8 := [154, 0, 60, 42, 180, 0, 3, 180, 0, 26, 180, 0, 30, 42, 180, 0, 15, 21, 4, 42, 180, 0, 15, 42]
abbrev dktX18_by_2 : List UInt8 := dkwX18_by_2 ++ dktX18_by_3
def dkwX18_by_1 : List UInt8 := [154, 0, 7, 8, 167, 0, 5, 16, 9, 163, 0, 121, 42, 180, 0, 3, 182, 0, 22, 87, 42, 180, 0, 19]
abbrev dktX18_by_1 : List UInt8 := dkwX18_by_1 ++ dktX18_by_2
def dkwX18_by_0 : List UInt8 := [3, 62, 42, 180, 0, 19, 154, 0, 7, 4, 167, 0, 4, 3, 54, 4, 21, 4, 42, 180, 0, 19]
abbrev dktX18_by_0 : List UInt8 := dkwX18_by_0 ++ dktX18_by_1
theorem dksX18_by_0 : cX18_by.data.toList.drop 0 = dktX18_by_0 := by decide +kernel
theorem dksX18_by_1 : cX18_by.data.toList.drop 22 = dktX18_by_1 := dk_seg dksX18_by_0 22 rfl rfl
theorem dksX18_by_2 : cX18_by.data.toList.drop 46 = dktX18_by_2 := dk_seg dksX18_by_1 24 rfl rfl
theorem dksX18_by_3 : cX18_by.data.toList.drop 70 = dktX18_by_3 := dk_seg dksX18_by_2 24 rfl rfl
theorem dksX18_by_4 : cX18_by.data.toList.drop 94 = dktX18_by_4 := dk_seg dksX18_by_3 24 rfl rfl
theorem dksX18_by_5 : cX18_by.data.toList.drop 117 = dktX18_by_5 := dk_seg dksX18_by_4 23 rfl rfl
theorem dksX18_by_6 : cX18_by.data.toList.drop 140 = dktX18_by_6 := dk_seg dksX18_by_5 23 rfl rfl
theorem dX18_by_0 : decode cX18_by 0 = .ok (.iconst 0, 1) := dk_3 (dk_at dksX18_by_0 0 rfl rfl)
theorem dX18_by_1 : decode cX18_by 1 = .ok (.istore_n 3, 1) := dk_62 (dk_at dksX18_by_0 1 rfl rfl)
theorem dX18_by_2 : decode cX18_by 2 = .ok (.aload_n 0, 1) := dk_42 (dk_at dksX18_by_0 2 rfl rfl)
theorem dX18_by_3 : decode cX18_by 3 = .ok (.getfield 19, 3) := dk_180 0 19 (dk_at dksX18_by_0 3 rfl rfl)
theorem dX18_by_6 : decode cX18_by 6 = .ok (.ifCond .ne 7, 3) := dk_154 0 7 (dk_at dksX18_by_0 6 rfl rfl)
theorem dX18_by_9 : decode cX18_by 9 = .ok (.iconst 1, 1) := dk_4 (dk_at dksX18_by_0 9 rfl rfl)
theorem dX18_by_10 : decode cX18_by 10 = .ok (.goto 4, 3) := dk_167 0 4 (dk_at dksX18_by_0 10 rfl rfl)
theorem dX18_by_13 : decode cX18_by 13 = .ok (.iconst 0, 1) := dk_3 (dk_at dksX18_by_0 13 rfl rfl)
theorem dX18_by_14 : decode cX18_by 14 = .ok (.istore 4, 2) := dk_54 4 (dk_at dksX18_by_0 14 rfl rfl)
theorem dX18_by_16 : decode cX18_by 16 = .ok (.iload 4, 2) := dk_21 4 (dk_at dksX18_by_0 16 rfl rfl)
theorem dX18_by_18 : decode cX18_by 18 = .ok (.aload_n 0, 1) := dk_42 (dk_at dksX18_by_0 18 rfl rfl)
theorem dX18_by_19 : decode cX18_by 19 = .ok (.getfield 19, 3) := dk_180 0 19 (dk_at dksX18_by_0 19 rfl rfl)
theorem dX18_by_22 : decode cX18_by 22 = .ok (.ifCond .ne 7, 3) := dk_154 0 7 (dk_at dksX18_by_1 0 rfl rfl)
theorem dX18_by_25 : decode cX18_by 25 = .ok (.iconst 5, 1) := dk_8 (dk_at dksX18_by_1 3 rfl rfl)
theorem dX18_by_26 : decode cX18_by 26 = .ok (.goto 5, 3) := dk_167 0 5 (dk_at dksX18_by_1 4 rfl rfl)
theorem dX18_by_29 : decode cX18_by 29 = .ok (.bipush 9, 2) := dk_16 9 (dk_at dksX18_by_1 7 rfl rfl)
theorem dX18_by_31 : decode cX18_by 31 = .ok (.if_icmp .gt 121, 3) := dk_163 0 121 (dk_at dksX18_by_1 9 rfl rfl)
theorem dX18_by_34 : decode cX18_by 34 = .ok (.aload_n 0, 1) := dk_42 (dk_at dksX18_by_1 12 rfl rfl)
theorem dX18_by_35 : decode cX18_by 35 = .ok (.getfield 3, 3) := dk_180 0 3 (dk_at dksX18_by_1 13 rfl rfl)
theorem dX18_by_38 : decode cX18_by 38 = .ok (.invokevirtual 22, 3) := dk_182 0 22 (dk_at dksX18_by_1 16 rfl rfl)
theorem dX18_by_41 : decode cX18_by 41 = .ok (.pop, 1) := dk_87 (dk_at dksX18_by_1 19 rfl rfl)
theorem dX18_by_42 : decode cX18_by 42 = .ok (.aload_n 0, 1) := dk_42 (dk_at dksX18_by_1 20 rfl rfl)
theorem dX18_by_43 : decode cX18_by 43 = .ok (.getfield 19, 3) := dk_180 0 19 (dk_at dksX18_by_1 21 rfl rfl)
theorem dX18_by_46 : decode cX18_by 46 = .ok (.ifCond .ne 60, 3) := dk_154 0 60 (dk_at dksX18_by_2 0 rfl rfl)
theorem dX18_by_49 : decode cX18_by 49 = .ok (.aload_n 0, 1) := dk_42 (dk_at dksX18_by_2 3 rfl rfl)
theorem dX18_by_50 : decode cX18_by 50 = .ok (.getfield 3, 3) := dk_180 0 3 (dk_at dksX18_by_2 4 rfl rfl)
theorem dX18_by_53 : decode cX18_by 53 = .ok (.getfield 26, 3) := dk_180 0 26 (dk_at dksX18_by_2 7 rfl rfl)
theorem dX18_by_56 : decode cX18_by 56 = .ok (.getfield 30, 3) := dk_180 0 30 (dk_at dksX18_by_2 10 rfl rfl)
theorem dX18_by_59 : decode cX18_by 59 = .ok (.aload_n 0, 1) := dk_42 (dk_at dksX18_by_2 13 rfl rfl)
theorem dX18_by_60 : decode cX18_by 60 = .ok (.getfield 15, 3) := dk_180 0 15 (dk_at dksX18_by_2 14 rfl rfl)
theorem dX18_by_63 : decode cX18_by 63 = .ok (.iload 4, 2) := dk_21 4 (dk_at dksX18_by_2 17 rfl rfl)
theorem dX18_by_65 : decode cX18_by 65 = .ok (.aload_n 0, 1) := dk_42 (dk_at dksX18_by_2 19 rfl rfl)
theorem dX18_by_66 : decode cX18_by 66 = .ok (.getfield 15, 3) := dk_180 0 15 (dk_at dksX18_by_2 20 rfl rfl)
theorem dX18_by_69 : decode cX18_by 69 = .ok (.aload_n 0, 1) := dk_42 (dk_at dksX18_by_2 23 rfl rfl)
theorem dX18_by_70 : decode cX18_by 70 = .ok (.getfield 3, 3) := dk_180 0 3 (dk_at dksX18_by_3 0 rfl rfl)
theorem dX18_by_73 : decode cX18_by 73 = .ok (.getfield 36, 3) := dk_180 0 36 (dk_at dksX18_by_3 3 rfl rfl)
theorem dX18_by_76 : decode cX18_by 76 = .ok (.getfield 30, 3) := dk_180 0 30 (dk_at dksX18_by_3 6 rfl rfl)
theorem dX18_by_79 : decode cX18_by 79 = .ok (.aload_n 0, 1) := dk_42 (dk_at dksX18_by_3 9 rfl rfl)
theorem dX18_by_80 : decode cX18_by 80 = .ok (.getfield 15, 3) := dk_180 0 15 (dk_at dksX18_by_3 10 rfl rfl)
theorem dX18_by_83 : decode cX18_by 83 = .ok (.invokeinterface 39 2, 5) := by decide +kernel
theorem dX18_by_88 : decode cX18_by 88 = .ok (.checkcast 45, 3) := dk_192 0 45 (dk_at dksX18_by_3 18 rfl rfl)
theorem dX18_by_91 : decode cX18_by 91 = .ok (.invokevirtual 47, 3) := dk_182 0 47 (dk_at dksX18_by_3 21 rfl rfl)
theorem dX18_by_94 : decode cX18_by 94 = .ok (.invokestatic 51, 3) := dk_184 0 51 (dk_at dksX18_by_4 0 rfl rfl)
theorem dX18_by_97 : decode cX18_by 97 = .ok (.invokeinterface 55 3, 5) := by decide +kernel
theorem dX18_by_102 : decode cX18_by 102 = .ok (.pop, 1) := dk_87 (dk_at dksX18_by_4 8 rfl rfl)
theorem dX18_by_103 : decode cX18_by 103 = .ok (.goto 20, 3) := dk_167 0 20 (dk_at dksX18_by_4 9 rfl rfl)
theorem dX18_by_106 : decode cX18_by 106 = .ok (.aload_n 0, 1) := dk_42 (dk_at dksX18_by_4 12 rfl rfl)
theorem dX18_by_107 : decode cX18_by 107 = .ok (.getfield 3, 3) := dk_180 0 3 (dk_at dksX18_by_4 13 rfl rfl)
theorem dX18_by_110 : decode cX18_by 110 = .ok (.getfield 26, 3) := dk_180 0 26 (dk_at dksX18_by_4 16 rfl rfl)
theorem dX18_by_113 : decode cX18_by 113 = .ok (.getfield 59, 3) := dk_180 0 59 (dk_at dksX18_by_4 19 rfl rfl)
theorem dX18_by_116 : decode cX18_by 116 = .ok (.aload_n 0, 1) := dk_42 (dk_at dksX18_by_4 22 rfl rfl)
theorem dX18_by_117 : decode cX18_by 117 = .ok (.getfield 15, 3) := dk_180 0 15 (dk_at dksX18_by_5 0 rfl rfl)
theorem dX18_by_120 : decode cX18_by 120 = .ok (.iload 4, 2) := dk_21 4 (dk_at dksX18_by_5 3 rfl rfl)
theorem dX18_by_122 : decode cX18_by 122 = .ok (.iastore, 1) := dk_79 (dk_at dksX18_by_5 5 rfl rfl)
theorem dX18_by_123 : decode cX18_by 123 = .ok (.iload_n 3, 1) := dk_29 (dk_at dksX18_by_5 6 rfl rfl)
theorem dX18_by_124 : decode cX18_by 124 = .ok (.aload_n 0, 1) := dk_42 (dk_at dksX18_by_5 7 rfl rfl)
theorem dX18_by_125 : decode cX18_by 125 = .ok (.getfield 3, 3) := dk_180 0 3 (dk_at dksX18_by_5 8 rfl rfl)
theorem dX18_by_128 : decode cX18_by 128 = .ok (.aload_n 1, 1) := dk_43 (dk_at dksX18_by_5 11 rfl rfl)
theorem dX18_by_129 : decode cX18_by 129 = .ok (.aload_n 2, 1) := dk_44 (dk_at dksX18_by_5 12 rfl rfl)
theorem dX18_by_130 : decode cX18_by 130 = .ok (.invokevirtual 63, 3) := dk_182 0 63 (dk_at dksX18_by_5 13 rfl rfl)
theorem dX18_by_133 : decode cX18_by 133 = .ok (.ifCond .eq 10, 3) := dk_153 0 10 (dk_at dksX18_by_5 16 rfl rfl)
theorem dX18_by_136 : decode cX18_by 136 = .ok (.iconst 1, 1) := dk_4 (dk_at dksX18_by_5 19 rfl rfl)
theorem dX18_by_137 : decode cX18_by 137 = .ok (.iload 4, 2) := dk_21 4 (dk_at dksX18_by_5 20 rfl rfl)
theorem dX18_by_139 : decode cX18_by 139 = .ok (.ishl, 1) := dk_120 (dk_at dksX18_by_5 22 rfl rfl)
theorem dX18_by_140 : decode cX18_by 140 = .ok (.goto 4, 3) := dk_167 0 4 (dk_at dksX18_by_6 0 rfl rfl)
theorem dX18_by_143 : decode cX18_by 143 = .ok (.iconst 0, 1) := dk_3 (dk_at dksX18_by_6 3 rfl rfl)
theorem dX18_by_144 : decode cX18_by 144 = .ok (.ior, 1) := dk_128 (dk_at dksX18_by_6 4 rfl rfl)
theorem dX18_by_145 : decode cX18_by 145 = .ok (.istore_n 3, 1) := dk_62 (dk_at dksX18_by_6 5 rfl rfl)
theorem dX18_by_146 : decode cX18_by 146 = .ok (.iinc 4 1, 3) := dk_132 4 1 (dk_at dksX18_by_6 6 rfl rfl)
theorem dX18_by_149 : decode cX18_by 149 = .ok (.goto (-133), 3) := dk_167 255 123 (dk_at dksX18_by_6 9 rfl rfl)
theorem dX18_by_152 : decode cX18_by 152 = .ok (.iload_n 3, 1) := dk_29 (dk_at dksX18_by_6 12 rfl rfl)
theorem dX18_by_153 : decode cX18_by 153 = .ok (.ireturn, 1) := dk_172 (dk_at dksX18_by_6 13 rfl rfl)
abbrev cX18_init : ByteArray := prog_7_method_1_code
def yX18_init : MethodName := ⟨RX18, "<init>", "(LMoodFare;II)V"⟩
def dkwX18_init_0 : List UInt8 := [42, 43, 181, 0, 3, 42, 183, 0, 9, 42, 28, 181, 0, 15, 42, 29, 181, 0, 19, 177]
abbrev dktX18_init_0 : List UInt8 := dkwX18_init_0 ++ []
theorem dksX18_init_0 : cX18_init.data.toList.drop 0 = dktX18_init_0 := by decide +kernel
theorem dX18_init_0 : decode cX18_init 0 = .ok (.aload_n 0, 1) := dk_42 (dk_at dksX18_init_0 0 rfl rfl)
theorem dX18_init_1 : decode cX18_init 1 = .ok (.aload_n 1, 1) := dk_43 (dk_at dksX18_init_0 1 rfl rfl)
theorem dX18_init_2 : decode cX18_init 2 = .ok (.putfield 3, 3) := dk_181 0 3 (dk_at dksX18_init_0 2 rfl rfl)
theorem dX18_init_5 : decode cX18_init 5 = .ok (.aload_n 0, 1) := dk_42 (dk_at dksX18_init_0 5 rfl rfl)
theorem dX18_init_6 : decode cX18_init 6 = .ok (.invokespecial 9, 3) := dk_183 0 9 (dk_at dksX18_init_0 6 rfl rfl)
theorem dX18_init_9 : decode cX18_init 9 = .ok (.aload_n 0, 1) := dk_42 (dk_at dksX18_init_0 9 rfl rfl)
theorem dX18_init_10 : decode cX18_init 10 = .ok (.iload_n 2, 1) := dk_28 (dk_at dksX18_init_0 10 rfl rfl)
theorem dX18_init_11 : decode cX18_init 11 = .ok (.putfield 15, 3) := dk_181 0 15 (dk_at dksX18_init_0 11 rfl rfl)
theorem dX18_init_14 : decode cX18_init 14 = .ok (.aload_n 0, 1) := dk_42 (dk_at dksX18_init_0 14 rfl rfl)
theorem dX18_init_15 : decode cX18_init 15 = .ok (.iload_n 3, 1) := dk_29 (dk_at dksX18_init_0 15 rfl rfl)
theorem dX18_init_16 : decode cX18_init 16 = .ok (.putfield 19, 3) := dk_181 0 19 (dk_at dksX18_init_0 16 rfl rfl)
theorem dX18_init_19 : decode cX18_init 19 = .ok (.return_, 1) := dk_177 (dk_at dksX18_init_0 19 rfl rfl)
theorem q105 : (Jvm.Cond.initialized "MoodFare$FitsOf") ∈ lw_all := lw_g (lw_at lw_m1 40 rfl) rfl
theorem q185 : (Jvm.Cond.fieldLink "MoodFare$FitsOf" (30 : Nat) "MoodFare$Town" "corners" "Ljava/util/List;") ∈ lw_all := lw_g (lw_at lw_m1 120 rfl) rfl
theorem q190 : (Jvm.Cond.fieldLink "MoodFare$FitsOf" (59 : Nat) "MoodFare$Town" "much" "[I") ∈ lw_all := lw_g (lw_at lw_m1 125 rfl) rfl
theorem q250 : (Jvm.Cond.fieldLinkNest "MoodFare$FitsOf" (36 : Nat) "MoodFare" "town" "LMoodFare$Town;" "MoodFare") ∈ lw_tbl := lw_at lw_m1 185 rfl
theorem q254 : (Jvm.Cond.fieldLinkNest "MoodFare$FitsOf" (26 : Nat) "MoodFare" "then" "LMoodFare$Town;" "MoodFare") ∈ lw_tbl := lw_at lw_m1 189 rfl
theorem q798 : (Jvm.Cond.selects "MoodFare$FitsOf" ({ cls := "java/lang/Object", name := "getClass", desc := "()Ljava/lang/Class;" } : Jvm.MethodName) ({ cls := "java/lang/Object", name := "getClass", desc := "()Ljava/lang/Class;" } : Jvm.MethodName)) ∈ lw_all := lw_g (lw_at lw_m4 13 rfl) rfl
theorem q1194 : (Jvm.Cond.castable "MoodFare$FitsOf" "MoodFare$Told") ∈ lw_tbl := lw_at lw_m5 169 rfl
theorem q1195 : (Jvm.Cond.selects "MoodFare$FitsOf" ({ cls := "MoodFare$Told", name := "by", desc := "([I[I)I" } : Jvm.MethodName) ({ cls := "MoodFare$FitsOf", name := "by", desc := "([I[I)I" } : Jvm.MethodName)) ∈ lw_all := lw_g (lw_at lw_m5 170 rfl) rfl
theorem q1196 : (Jvm.Cond.unhidden "MoodFare$FitsOf" "by" "([I[I)I") ∈ lw_tbl := lw_at lw_m5 171 rfl
theorem q1197 : (Jvm.Cond.instanceMethod ({ cls := "MoodFare$FitsOf", name := "by", desc := "([I[I)I" } : Jvm.MethodName)) ∈ lw_all := lw_g (lw_at lw_m5 172 rfl) rfl
theorem q1198 : (Jvm.Cond.publicMethod ({ cls := "MoodFare$FitsOf", name := "by", desc := "([I[I)I" } : Jvm.MethodName)) ∈ lw_tbl := lw_at lw_m5 173 rfl
theorem q1199 : (Jvm.Cond.code ({ cls := "MoodFare$FitsOf", name := "by", desc := "([I[I)I" } : Jvm.MethodName) prog_7_method_2_code (5 : Nat) (Option.some Jvm.ClassFile.FieldType.int)) ∈ lw_all := lw_g (lw_at lw_m5 174 rfl) rfl
theorem q1200 : (Jvm.Cond.methodLinkNest "MoodFare$FitsOf" (22 : Nat) ({ cls := "MoodFare", name := "asNow", desc := "()LMoodFare$Town;" } : Jvm.MethodName) "MoodFare") ∈ lw_tbl := lw_at lw_m5 175 rfl
theorem q1201 : (Jvm.Cond.interfaceEntry "MoodFare$FitsOf" (39 : Nat)) ∈ lw_tbl := lw_at lw_m5 176 rfl
theorem q1202 : (Jvm.Cond.methodLink "MoodFare$FitsOf" (39 : Nat) ({ cls := "java/util/List", name := "get", desc := "(I)Ljava/lang/Object;" } : Jvm.MethodName)) ∈ lw_all := lw_g (lw_at lw_m5 177 rfl) rfl
theorem q1203 : (Jvm.Cond.classLink "MoodFare$FitsOf" (45 : Nat) "MoodFare$Corner") ∈ lw_all := lw_g (lw_at lw_m5 178 rfl) rfl
theorem q1204 : (Jvm.Cond.methodLink "MoodFare$FitsOf" (47 : Nat) ({ cls := "MoodFare$Corner", name := "fee", desc := "()I" } : Jvm.MethodName)) ∈ lw_all := lw_g (lw_at lw_m5 179 rfl) rfl
theorem q1205 : (Jvm.Cond.methodLinkNest "MoodFare$FitsOf" (51 : Nat) ({ cls := "MoodFare", name := "cornerBy", desc := "(III)LMoodFare$Corner;" } : Jvm.MethodName) "MoodFare") ∈ lw_tbl := lw_at lw_m5 180 rfl
theorem q1206 : (Jvm.Cond.interfaceEntry "MoodFare$FitsOf" (55 : Nat)) ∈ lw_tbl := lw_at lw_m5 181 rfl
theorem q1207 : (Jvm.Cond.methodLink "MoodFare$FitsOf" (55 : Nat) ({ cls := "java/util/List", name := "set", desc := "(ILjava/lang/Object;)Ljava/lang/Object;" } : Jvm.MethodName)) ∈ lw_all := lw_g (lw_at lw_m5 182 rfl) rfl
theorem q1215 : (Jvm.Cond.methodLinkNest "MoodFare$FitsOf" (63 : Nat) ({ cls := "MoodFare", name := "costsSo", desc := "([I[I)Z" } : Jvm.MethodName) "MoodFare") ∈ lw_tbl := lw_at lw_m5 190 rfl
theorem q1231 : (Jvm.Cond.instantiable "MoodFare$FitsOf" (3 : Nat)) ∈ lw_all := lw_g (lw_at lw_m5 206 rfl) rfl
theorem q1233 : (Jvm.Cond.instanceMethod ({ cls := "MoodFare$FitsOf", name := "<init>", desc := "(LMoodFare;II)V" } : Jvm.MethodName)) ∈ lw_all := lw_g (lw_at lw_m5 208 rfl) rfl
theorem q1234 : (Jvm.Cond.code ({ cls := "MoodFare$FitsOf", name := "<init>", desc := "(LMoodFare;II)V" } : Jvm.MethodName) prog_7_method_1_code (4 : Nat) (Option.none : Option Jvm.ClassFile.FieldType)) ∈ lw_all := lw_g (lw_at lw_m5 209 rfl) rfl
theorem q1235 : (Jvm.Cond.methodLink "MoodFare$FitsOf" (9 : Nat) ({ cls := "java/lang/Object", name := "<init>", desc := "()V" } : Jvm.MethodName)) ∈ lw_all := lw_g (lw_at lw_m5 210 rfl) rfl
theorem q1236 : (Jvm.Cond.fieldLink "MoodFare$FitsOf" (15 : Nat) "MoodFare$FitsOf" "corner" "I") ∈ lw_all := lw_g (lw_at lw_m5 211 rfl) rfl
theorem q1237 : (Jvm.Cond.fieldLink "MoodFare$FitsOf" (19 : Nat) "MoodFare$FitsOf" "what" "I") ∈ lw_all := lw_g (lw_at lw_m5 212 rfl) rfl
theorem q1238 : (Jvm.Cond.fieldLink "MoodFare$FitsOf" (3 : Nat) "MoodFare$FitsOf" "this$0" "LMoodFare;") ∈ lw_all := lw_g (lw_at lw_m5 213 rfl) rfl
theorem q1239 : (Jvm.Cond.laysFinal "MoodFare$FitsOf" "MoodFare$FitsOf" "corner" "I") ∈ lw_all := lw_g (lw_at lw_m5 214 rfl) rfl
theorem q1240 : (Jvm.Cond.soleField "MoodFare$FitsOf" "corner") ∈ lw_all := lw_g (lw_at lw_m5 215 rfl) rfl
theorem q1241 : (Jvm.Cond.laysFinal "MoodFare$FitsOf" "MoodFare$FitsOf" "what" "I") ∈ lw_all := lw_g (lw_at lw_m5 216 rfl) rfl
theorem q1242 : (Jvm.Cond.soleField "MoodFare$FitsOf" "what") ∈ lw_all := lw_g (lw_at lw_m5 217 rfl) rfl
theorem q1243 : (Jvm.Cond.laysFinal "MoodFare$FitsOf" "MoodFare$FitsOf" "this$0" "LMoodFare;") ∈ lw_all := lw_g (lw_at lw_m5 218 rfl) rfl
theorem q1244 : (Jvm.Cond.soleField "MoodFare$FitsOf" "this$0") ∈ lw_all := lw_g (lw_at lw_m5 219 rfl) rfl
theorem q1245 : (Jvm.Cond.superclass "MoodFare$FitsOf" "java/lang/Object") ∈ lw_all := lw_g (lw_at lw_m5 220 rfl) rfl
theorem q1920 : (Jvm.Cond.castable "MoodFare$FitsOf" "java/lang/Object") ∈ lw_tbl := lw_at lw_m8 175 rfl
theorem in_X18 : ∀ w ∈ wsX180, w ∈ lw_all := lw_in wsX180 [1239, 1241, 1243] (by decide +kernel) (by decide +kernel)

/-! MoodFare$Shares -/
set_option maxRecDepth 100000
def RX19 : String := "MoodFare$Shares"
def TX19 : u_T := fun k => match k with
  | 0 => ("MoodFare$Shares", "from", "I", true)
  | _ => ("MoodFare$Shares", "this$0", "LMoodFare;", true)
def tyX19 : Nat → FieldType := fun k => match k with
  | 0 => .int
  | _ => .object "MoodFare"
abbrev wsX190 : List Cond := u_ws RX19 TX19 2
theorem nmX19 : ∀ a, a < 2 → ∀ b, b < 2 → a ≠ b → (TX19 a).2.1 ≠ (TX19 b).2.1 := by decide +kernel
theorem tyX19_ok : ∀ k, k < 2 → parseFieldDescriptor (TX19 k).2.2.1 = some (tyX19 k) := by decide +kernel
abbrev cX19_by : ByteArray := prog_18_method_2_code
def yX19_by : MethodName := ⟨RX19, "by", "([I[I)I"⟩
def dkwX19_by_3 : List UInt8 := [5, 108, 96, 62, 132, 4, 1, 167, 255, 190, 29, 172]
abbrev dktX19_by_3 : List UInt8 := dkwX19_by_3 ++ []
def dkwX19_by_2 : List UInt8 := [21, 4, 46, 182, 0, 34, 54, 5, 29, 21, 4, 42, 180, 0, 15, 162, 0, 7, 3, 167, 0, 7, 21, 5]
abbrev dktX19_by_2 : List UInt8 := dkwX19_by_2 ++ dktX19_by_3
def dkwX19_by_1 : List UInt8 := [180, 0, 23, 44, 21, 4, 46, 182, 0, 27, 154, 0, 6, 18, 33, 172, 42, 180, 0, 3, 180, 0, 23, 44]
abbrev dktX19_by_1 : List UInt8 := dkwX19_by_1 ++ dktX19_by_2
def dkwX19_by_0 : List UInt8 := [3, 62, 42, 180, 0, 3, 182, 0, 19, 87, 3, 54, 4, 21, 4, 44, 190, 162, 0, 65, 42, 180, 0, 3]
abbrev dktX19_by_0 : List UInt8 := dkwX19_by_0 ++ dktX19_by_1
theorem dksX19_by_0 : cX19_by.data.toList.drop 0 = dktX19_by_0 := by decide +kernel
theorem dksX19_by_1 : cX19_by.data.toList.drop 24 = dktX19_by_1 := dk_seg dksX19_by_0 24 rfl rfl
theorem dksX19_by_2 : cX19_by.data.toList.drop 48 = dktX19_by_2 := dk_seg dksX19_by_1 24 rfl rfl
theorem dksX19_by_3 : cX19_by.data.toList.drop 72 = dktX19_by_3 := dk_seg dksX19_by_2 24 rfl rfl
theorem dX19_by_0 : decode cX19_by 0 = .ok (.iconst 0, 1) := dk_3 (dk_at dksX19_by_0 0 rfl rfl)
theorem dX19_by_1 : decode cX19_by 1 = .ok (.istore_n 3, 1) := dk_62 (dk_at dksX19_by_0 1 rfl rfl)
theorem dX19_by_2 : decode cX19_by 2 = .ok (.aload_n 0, 1) := dk_42 (dk_at dksX19_by_0 2 rfl rfl)
theorem dX19_by_3 : decode cX19_by 3 = .ok (.getfield 3, 3) := dk_180 0 3 (dk_at dksX19_by_0 3 rfl rfl)
theorem dX19_by_6 : decode cX19_by 6 = .ok (.invokevirtual 19, 3) := dk_182 0 19 (dk_at dksX19_by_0 6 rfl rfl)
theorem dX19_by_9 : decode cX19_by 9 = .ok (.pop, 1) := dk_87 (dk_at dksX19_by_0 9 rfl rfl)
theorem dX19_by_10 : decode cX19_by 10 = .ok (.iconst 0, 1) := dk_3 (dk_at dksX19_by_0 10 rfl rfl)
theorem dX19_by_11 : decode cX19_by 11 = .ok (.istore 4, 2) := dk_54 4 (dk_at dksX19_by_0 11 rfl rfl)
theorem dX19_by_13 : decode cX19_by 13 = .ok (.iload 4, 2) := dk_21 4 (dk_at dksX19_by_0 13 rfl rfl)
theorem dX19_by_15 : decode cX19_by 15 = .ok (.aload_n 2, 1) := dk_44 (dk_at dksX19_by_0 15 rfl rfl)
theorem dX19_by_16 : decode cX19_by 16 = .ok (.arraylength, 1) := dk_190 (dk_at dksX19_by_0 16 rfl rfl)
theorem dX19_by_17 : decode cX19_by 17 = .ok (.if_icmp .ge 65, 3) := dk_162 0 65 (dk_at dksX19_by_0 17 rfl rfl)
theorem dX19_by_20 : decode cX19_by 20 = .ok (.aload_n 0, 1) := dk_42 (dk_at dksX19_by_0 20 rfl rfl)
theorem dX19_by_21 : decode cX19_by 21 = .ok (.getfield 3, 3) := dk_180 0 3 (dk_at dksX19_by_0 21 rfl rfl)
theorem dX19_by_24 : decode cX19_by 24 = .ok (.getfield 23, 3) := dk_180 0 23 (dk_at dksX19_by_1 0 rfl rfl)
theorem dX19_by_27 : decode cX19_by 27 = .ok (.aload_n 2, 1) := dk_44 (dk_at dksX19_by_1 3 rfl rfl)
theorem dX19_by_28 : decode cX19_by 28 = .ok (.iload 4, 2) := dk_21 4 (dk_at dksX19_by_1 4 rfl rfl)
theorem dX19_by_30 : decode cX19_by 30 = .ok (.iaload, 1) := dk_46 (dk_at dksX19_by_1 6 rfl rfl)
theorem dX19_by_31 : decode cX19_by 31 = .ok (.invokevirtual 27, 3) := dk_182 0 27 (dk_at dksX19_by_1 7 rfl rfl)
theorem dX19_by_34 : decode cX19_by 34 = .ok (.ifCond .ne 6, 3) := dk_154 0 6 (dk_at dksX19_by_1 10 rfl rfl)
theorem dX19_by_37 : decode cX19_by 37 = .ok (.ldc 33, 2) := dk_18 33 (dk_at dksX19_by_1 13 rfl rfl)
theorem dX19_by_39 : decode cX19_by 39 = .ok (.ireturn, 1) := dk_172 (dk_at dksX19_by_1 15 rfl rfl)
theorem dX19_by_40 : decode cX19_by 40 = .ok (.aload_n 0, 1) := dk_42 (dk_at dksX19_by_1 16 rfl rfl)
theorem dX19_by_41 : decode cX19_by 41 = .ok (.getfield 3, 3) := dk_180 0 3 (dk_at dksX19_by_1 17 rfl rfl)
theorem dX19_by_44 : decode cX19_by 44 = .ok (.getfield 23, 3) := dk_180 0 23 (dk_at dksX19_by_1 20 rfl rfl)
theorem dX19_by_47 : decode cX19_by 47 = .ok (.aload_n 2, 1) := dk_44 (dk_at dksX19_by_1 23 rfl rfl)
theorem dX19_by_48 : decode cX19_by 48 = .ok (.iload 4, 2) := dk_21 4 (dk_at dksX19_by_2 0 rfl rfl)
theorem dX19_by_50 : decode cX19_by 50 = .ok (.iaload, 1) := dk_46 (dk_at dksX19_by_2 2 rfl rfl)
theorem dX19_by_51 : decode cX19_by 51 = .ok (.invokevirtual 34, 3) := dk_182 0 34 (dk_at dksX19_by_2 3 rfl rfl)
theorem dX19_by_54 : decode cX19_by 54 = .ok (.istore 5, 2) := dk_54 5 (dk_at dksX19_by_2 6 rfl rfl)
theorem dX19_by_56 : decode cX19_by 56 = .ok (.iload_n 3, 1) := dk_29 (dk_at dksX19_by_2 8 rfl rfl)
theorem dX19_by_57 : decode cX19_by 57 = .ok (.iload 4, 2) := dk_21 4 (dk_at dksX19_by_2 9 rfl rfl)
theorem dX19_by_59 : decode cX19_by 59 = .ok (.aload_n 0, 1) := dk_42 (dk_at dksX19_by_2 11 rfl rfl)
theorem dX19_by_60 : decode cX19_by 60 = .ok (.getfield 15, 3) := dk_180 0 15 (dk_at dksX19_by_2 12 rfl rfl)
theorem dX19_by_63 : decode cX19_by 63 = .ok (.if_icmp .ge 7, 3) := dk_162 0 7 (dk_at dksX19_by_2 15 rfl rfl)
theorem dX19_by_66 : decode cX19_by 66 = .ok (.iconst 0, 1) := dk_3 (dk_at dksX19_by_2 18 rfl rfl)
theorem dX19_by_67 : decode cX19_by 67 = .ok (.goto 7, 3) := dk_167 0 7 (dk_at dksX19_by_2 19 rfl rfl)
theorem dX19_by_70 : decode cX19_by 70 = .ok (.iload 5, 2) := dk_21 5 (dk_at dksX19_by_2 22 rfl rfl)
theorem dX19_by_72 : decode cX19_by 72 = .ok (.iconst 2, 1) := dk_5 (dk_at dksX19_by_3 0 rfl rfl)
theorem dX19_by_73 : decode cX19_by 73 = .ok (.idiv, 1) := dk_108 (dk_at dksX19_by_3 1 rfl rfl)
theorem dX19_by_74 : decode cX19_by 74 = .ok (.iadd, 1) := dk_96 (dk_at dksX19_by_3 2 rfl rfl)
theorem dX19_by_75 : decode cX19_by 75 = .ok (.istore_n 3, 1) := dk_62 (dk_at dksX19_by_3 3 rfl rfl)
theorem dX19_by_76 : decode cX19_by 76 = .ok (.iinc 4 1, 3) := dk_132 4 1 (dk_at dksX19_by_3 4 rfl rfl)
theorem dX19_by_79 : decode cX19_by 79 = .ok (.goto (-66), 3) := dk_167 255 190 (dk_at dksX19_by_3 7 rfl rfl)
theorem dX19_by_82 : decode cX19_by 82 = .ok (.iload_n 3, 1) := dk_29 (dk_at dksX19_by_3 10 rfl rfl)
theorem dX19_by_83 : decode cX19_by 83 = .ok (.ireturn, 1) := dk_172 (dk_at dksX19_by_3 11 rfl rfl)
abbrev cX19_init : ByteArray := prog_18_method_1_code
def yX19_init : MethodName := ⟨RX19, "<init>", "(LMoodFare;I)V"⟩
def dkwX19_init_0 : List UInt8 := [42, 43, 181, 0, 3, 42, 183, 0, 9, 42, 28, 181, 0, 15, 177]
abbrev dktX19_init_0 : List UInt8 := dkwX19_init_0 ++ []
theorem dksX19_init_0 : cX19_init.data.toList.drop 0 = dktX19_init_0 := by decide +kernel
theorem dX19_init_0 : decode cX19_init 0 = .ok (.aload_n 0, 1) := dk_42 (dk_at dksX19_init_0 0 rfl rfl)
theorem dX19_init_1 : decode cX19_init 1 = .ok (.aload_n 1, 1) := dk_43 (dk_at dksX19_init_0 1 rfl rfl)
theorem dX19_init_2 : decode cX19_init 2 = .ok (.putfield 3, 3) := dk_181 0 3 (dk_at dksX19_init_0 2 rfl rfl)
theorem dX19_init_5 : decode cX19_init 5 = .ok (.aload_n 0, 1) := dk_42 (dk_at dksX19_init_0 5 rfl rfl)
theorem dX19_init_6 : decode cX19_init 6 = .ok (.invokespecial 9, 3) := dk_183 0 9 (dk_at dksX19_init_0 6 rfl rfl)
theorem dX19_init_9 : decode cX19_init 9 = .ok (.aload_n 0, 1) := dk_42 (dk_at dksX19_init_0 9 rfl rfl)
theorem dX19_init_10 : decode cX19_init 10 = .ok (.iload_n 2, 1) := dk_28 (dk_at dksX19_init_0 10 rfl rfl)
theorem dX19_init_11 : decode cX19_init 11 = .ok (.putfield 15, 3) := dk_181 0 15 (dk_at dksX19_init_0 11 rfl rfl)
theorem dX19_init_14 : decode cX19_init 14 = .ok (.return_, 1) := dk_177 (dk_at dksX19_init_0 14 rfl rfl)
theorem q106 : (Jvm.Cond.initialized "MoodFare$Shares") ∈ lw_all := lw_g (lw_at lw_m1 41 rfl) rfl
theorem q252 : (Jvm.Cond.fieldLinkNest "MoodFare$Shares" (23 : Nat) "MoodFare" "then" "LMoodFare$Town;" "MoodFare") ∈ lw_tbl := lw_at lw_m1 187 rfl
theorem q807 : (Jvm.Cond.selects "MoodFare$Shares" ({ cls := "java/lang/Object", name := "getClass", desc := "()Ljava/lang/Class;" } : Jvm.MethodName) ({ cls := "java/lang/Object", name := "getClass", desc := "()Ljava/lang/Class;" } : Jvm.MethodName)) ∈ lw_all := lw_g (lw_at lw_m4 22 rfl) rfl
theorem q1216 : (Jvm.Cond.castable "MoodFare$Shares" "MoodFare$Told") ∈ lw_tbl := lw_at lw_m5 191 rfl
theorem q1217 : (Jvm.Cond.selects "MoodFare$Shares" ({ cls := "MoodFare$Told", name := "by", desc := "([I[I)I" } : Jvm.MethodName) ({ cls := "MoodFare$Shares", name := "by", desc := "([I[I)I" } : Jvm.MethodName)) ∈ lw_all := lw_g (lw_at lw_m5 192 rfl) rfl
theorem q1218 : (Jvm.Cond.unhidden "MoodFare$Shares" "by" "([I[I)I") ∈ lw_tbl := lw_at lw_m5 193 rfl
theorem q1219 : (Jvm.Cond.instanceMethod ({ cls := "MoodFare$Shares", name := "by", desc := "([I[I)I" } : Jvm.MethodName)) ∈ lw_all := lw_g (lw_at lw_m5 194 rfl) rfl
theorem q1220 : (Jvm.Cond.publicMethod ({ cls := "MoodFare$Shares", name := "by", desc := "([I[I)I" } : Jvm.MethodName)) ∈ lw_tbl := lw_at lw_m5 195 rfl
theorem q1221 : (Jvm.Cond.code ({ cls := "MoodFare$Shares", name := "by", desc := "([I[I)I" } : Jvm.MethodName) prog_18_method_2_code (6 : Nat) (Option.some Jvm.ClassFile.FieldType.int)) ∈ lw_all := lw_g (lw_at lw_m5 196 rfl) rfl
theorem q1222 : (Jvm.Cond.methodLinkNest "MoodFare$Shares" (19 : Nat) ({ cls := "MoodFare", name := "asNow", desc := "()LMoodFare$Town;" } : Jvm.MethodName) "MoodFare") ∈ lw_tbl := lw_at lw_m5 197 rfl
theorem q1223 : (Jvm.Cond.methodLink "MoodFare$Shares" (27 : Nat) ({ cls := "MoodFare$Town", name := "isWay", desc := "(I)Z" } : Jvm.MethodName)) ∈ lw_all := lw_g (lw_at lw_m5 198 rfl) rfl
theorem q1224 : (Jvm.Cond.constant "MoodFare$Shares" (33 : Nat) (-1000000 : Int32)) ∈ lw_all := lw_g (lw_at lw_m5 199 rfl) rfl
theorem q1225 : (Jvm.Cond.methodLink "MoodFare$Shares" (34 : Nat) ({ cls := "MoodFare$Town", name := "ride", desc := "(I)I" } : Jvm.MethodName)) ∈ lw_all := lw_g (lw_at lw_m5 200 rfl) rfl
theorem q1251 : (Jvm.Cond.instantiable "MoodFare$Shares" (2 : Nat)) ∈ lw_all := lw_g (lw_at lw_m5 226 rfl) rfl
theorem q1253 : (Jvm.Cond.instanceMethod ({ cls := "MoodFare$Shares", name := "<init>", desc := "(LMoodFare;I)V" } : Jvm.MethodName)) ∈ lw_all := lw_g (lw_at lw_m5 228 rfl) rfl
theorem q1254 : (Jvm.Cond.code ({ cls := "MoodFare$Shares", name := "<init>", desc := "(LMoodFare;I)V" } : Jvm.MethodName) prog_18_method_1_code (3 : Nat) (Option.none : Option Jvm.ClassFile.FieldType)) ∈ lw_all := lw_g (lw_at lw_m5 229 rfl) rfl
theorem q1255 : (Jvm.Cond.methodLink "MoodFare$Shares" (9 : Nat) ({ cls := "java/lang/Object", name := "<init>", desc := "()V" } : Jvm.MethodName)) ∈ lw_all := lw_g (lw_at lw_m5 230 rfl) rfl
theorem q1256 : (Jvm.Cond.fieldLink "MoodFare$Shares" (15 : Nat) "MoodFare$Shares" "from" "I") ∈ lw_all := lw_g (lw_at lw_m5 231 rfl) rfl
theorem q1257 : (Jvm.Cond.fieldLink "MoodFare$Shares" (3 : Nat) "MoodFare$Shares" "this$0" "LMoodFare;") ∈ lw_all := lw_g (lw_at lw_m5 232 rfl) rfl
theorem q1258 : (Jvm.Cond.laysFinal "MoodFare$Shares" "MoodFare$Shares" "from" "I") ∈ lw_all := lw_g (lw_at lw_m5 233 rfl) rfl
theorem q1259 : (Jvm.Cond.soleField "MoodFare$Shares" "from") ∈ lw_all := lw_g (lw_at lw_m5 234 rfl) rfl
theorem q1260 : (Jvm.Cond.laysFinal "MoodFare$Shares" "MoodFare$Shares" "this$0" "LMoodFare;") ∈ lw_all := lw_g (lw_at lw_m5 235 rfl) rfl
theorem q1261 : (Jvm.Cond.soleField "MoodFare$Shares" "this$0") ∈ lw_all := lw_g (lw_at lw_m5 236 rfl) rfl
theorem q1262 : (Jvm.Cond.superclass "MoodFare$Shares" "java/lang/Object") ∈ lw_all := lw_g (lw_at lw_m5 237 rfl) rfl
theorem q1921 : (Jvm.Cond.castable "MoodFare$Shares" "java/lang/Object") ∈ lw_tbl := lw_at lw_m8 176 rfl
theorem in_X19 : ∀ w ∈ wsX190, w ∈ lw_all := lw_in wsX190 [1258, 1260] (by decide +kernel) (by decide +kernel)

/-! MoodFare$Has -/
set_option maxRecDepth 100000
def RX20 : String := "MoodFare$Has"
def TX20 : u_T := fun k => match k with
  | 0 => ("MoodFare$Has", "corner", "I", true)
  | _ => ("MoodFare$Has", "this$0", "LMoodFare;", true)
def tyX20 : Nat → FieldType := fun k => match k with
  | 0 => .int
  | _ => .object "MoodFare"
abbrev wsX200 : List Cond := u_ws RX20 TX20 2
theorem nmX20 : ∀ a, a < 2 → ∀ b, b < 2 → a ≠ b → (TX20 a).2.1 ≠ (TX20 b).2.1 := by decide +kernel
theorem tyX20_ok : ∀ k, k < 2 → parseFieldDescriptor (TX20 k).2.2.1 = some (tyX20 k) := by decide +kernel
abbrev cX20_init : ByteArray := prog_9_method_1_code
def yX20_init : MethodName := ⟨RX20, "<init>", "(LMoodFare;I)V"⟩
def dkwX20_init_0 : List UInt8 := [42, 43, 181, 0, 1, 42, 183, 0, 7, 42, 28, 181, 0, 13, 177]
abbrev dktX20_init_0 : List UInt8 := dkwX20_init_0 ++ []
theorem dksX20_init_0 : cX20_init.data.toList.drop 0 = dktX20_init_0 := by decide +kernel
theorem dX20_init_0 : decode cX20_init 0 = .ok (.aload_n 0, 1) := dk_42 (dk_at dksX20_init_0 0 rfl rfl)
theorem dX20_init_1 : decode cX20_init 1 = .ok (.aload_n 1, 1) := dk_43 (dk_at dksX20_init_0 1 rfl rfl)
theorem dX20_init_2 : decode cX20_init 2 = .ok (.putfield 1, 3) := dk_181 0 1 (dk_at dksX20_init_0 2 rfl rfl)
theorem dX20_init_5 : decode cX20_init 5 = .ok (.aload_n 0, 1) := dk_42 (dk_at dksX20_init_0 5 rfl rfl)
theorem dX20_init_6 : decode cX20_init 6 = .ok (.invokespecial 7, 3) := dk_183 0 7 (dk_at dksX20_init_0 6 rfl rfl)
theorem dX20_init_9 : decode cX20_init 9 = .ok (.aload_n 0, 1) := dk_42 (dk_at dksX20_init_0 9 rfl rfl)
theorem dX20_init_10 : decode cX20_init 10 = .ok (.iload_n 2, 1) := dk_28 (dk_at dksX20_init_0 10 rfl rfl)
theorem dX20_init_11 : decode cX20_init 11 = .ok (.putfield 13, 3) := dk_181 0 13 (dk_at dksX20_init_0 11 rfl rfl)
theorem dX20_init_14 : decode cX20_init 14 = .ok (.return_, 1) := dk_177 (dk_at dksX20_init_0 14 rfl rfl)
abbrev cX20_much : ByteArray := prog_9_method_2_code
def yX20_much : MethodName := ⟨RX20, "much", "()I"⟩
def dkwX20_much_0 : List UInt8 := [42, 180, 0, 1, 180, 0, 17, 180, 0, 23, 42, 180, 0, 13, 46, 172]
abbrev dktX20_much_0 : List UInt8 := dkwX20_much_0 ++ []
theorem dksX20_much_0 : cX20_much.data.toList.drop 0 = dktX20_much_0 := by decide +kernel
theorem dX20_much_0 : decode cX20_much 0 = .ok (.aload_n 0, 1) := dk_42 (dk_at dksX20_much_0 0 rfl rfl)
theorem dX20_much_1 : decode cX20_much 1 = .ok (.getfield 1, 3) := dk_180 0 1 (dk_at dksX20_much_0 1 rfl rfl)
theorem dX20_much_4 : decode cX20_much 4 = .ok (.getfield 17, 3) := dk_180 0 17 (dk_at dksX20_much_0 4 rfl rfl)
theorem dX20_much_7 : decode cX20_much 7 = .ok (.getfield 23, 3) := dk_180 0 23 (dk_at dksX20_much_0 7 rfl rfl)
theorem dX20_much_10 : decode cX20_much 10 = .ok (.aload_n 0, 1) := dk_42 (dk_at dksX20_much_0 10 rfl rfl)
theorem dX20_much_11 : decode cX20_much 11 = .ok (.getfield 13, 3) := dk_180 0 13 (dk_at dksX20_much_0 11 rfl rfl)
theorem dX20_much_14 : decode cX20_much 14 = .ok (.iaload, 1) := dk_46 (dk_at dksX20_much_0 14 rfl rfl)
theorem dX20_much_15 : decode cX20_much 15 = .ok (.ireturn, 1) := dk_172 (dk_at dksX20_much_0 15 rfl rfl)
theorem q108 : (Jvm.Cond.initialized "MoodFare$Has") ∈ lw_all := lw_g (lw_at lw_m1 43 rfl) rfl
theorem q189 : (Jvm.Cond.fieldLink "MoodFare$Has" (23 : Nat) "MoodFare$Town" "much" "[I") ∈ lw_all := lw_g (lw_at lw_m1 124 rfl) rfl
theorem q249 : (Jvm.Cond.fieldLinkNest "MoodFare$Has" (17 : Nat) "MoodFare" "town" "LMoodFare$Town;" "MoodFare") ∈ lw_tbl := lw_at lw_m1 184 rfl
theorem q800 : (Jvm.Cond.selects "MoodFare$Has" ({ cls := "java/lang/Object", name := "getClass", desc := "()Ljava/lang/Class;" } : Jvm.MethodName) ({ cls := "java/lang/Object", name := "getClass", desc := "()Ljava/lang/Class;" } : Jvm.MethodName)) ∈ lw_all := lw_g (lw_at lw_m4 15 rfl) rfl
theorem q1346 : (Jvm.Cond.instantiable "MoodFare$Has" (2 : Nat)) ∈ lw_all := lw_g (lw_at lw_m6 81 rfl) rfl
theorem q1348 : (Jvm.Cond.instanceMethod ({ cls := "MoodFare$Has", name := "<init>", desc := "(LMoodFare;I)V" } : Jvm.MethodName)) ∈ lw_all := lw_g (lw_at lw_m6 83 rfl) rfl
theorem q1349 : (Jvm.Cond.code ({ cls := "MoodFare$Has", name := "<init>", desc := "(LMoodFare;I)V" } : Jvm.MethodName) prog_9_method_1_code (3 : Nat) (Option.none : Option Jvm.ClassFile.FieldType)) ∈ lw_all := lw_g (lw_at lw_m6 84 rfl) rfl
theorem q1350 : (Jvm.Cond.methodLink "MoodFare$Has" (7 : Nat) ({ cls := "java/lang/Object", name := "<init>", desc := "()V" } : Jvm.MethodName)) ∈ lw_all := lw_g (lw_at lw_m6 85 rfl) rfl
theorem q1351 : (Jvm.Cond.fieldLink "MoodFare$Has" (13 : Nat) "MoodFare$Has" "corner" "I") ∈ lw_all := lw_g (lw_at lw_m6 86 rfl) rfl
theorem q1352 : (Jvm.Cond.fieldLink "MoodFare$Has" (1 : Nat) "MoodFare$Has" "this$0" "LMoodFare;") ∈ lw_all := lw_g (lw_at lw_m6 87 rfl) rfl
theorem q1353 : (Jvm.Cond.laysFinal "MoodFare$Has" "MoodFare$Has" "corner" "I") ∈ lw_all := lw_g (lw_at lw_m6 88 rfl) rfl
theorem q1354 : (Jvm.Cond.soleField "MoodFare$Has" "corner") ∈ lw_all := lw_g (lw_at lw_m6 89 rfl) rfl
theorem q1355 : (Jvm.Cond.laysFinal "MoodFare$Has" "MoodFare$Has" "this$0" "LMoodFare;") ∈ lw_all := lw_g (lw_at lw_m6 90 rfl) rfl
theorem q1356 : (Jvm.Cond.soleField "MoodFare$Has" "this$0") ∈ lw_all := lw_g (lw_at lw_m6 91 rfl) rfl
theorem q1357 : (Jvm.Cond.superclass "MoodFare$Has" "java/lang/Object") ∈ lw_all := lw_g (lw_at lw_m6 92 rfl) rfl
theorem q1431 : (Jvm.Cond.castable "MoodFare$Has" "MoodFare$Held") ∈ lw_tbl := lw_at lw_m6 166 rfl
theorem q1432 : (Jvm.Cond.selects "MoodFare$Has" ({ cls := "MoodFare$Held", name := "much", desc := "()I" } : Jvm.MethodName) ({ cls := "MoodFare$Has", name := "much", desc := "()I" } : Jvm.MethodName)) ∈ lw_all := lw_g (lw_at lw_m6 167 rfl) rfl
theorem q1433 : (Jvm.Cond.unhidden "MoodFare$Has" "much" "()I") ∈ lw_tbl := lw_at lw_m6 168 rfl
theorem q1434 : (Jvm.Cond.instanceMethod ({ cls := "MoodFare$Has", name := "much", desc := "()I" } : Jvm.MethodName)) ∈ lw_all := lw_g (lw_at lw_m6 169 rfl) rfl
theorem q1435 : (Jvm.Cond.publicMethod ({ cls := "MoodFare$Has", name := "much", desc := "()I" } : Jvm.MethodName)) ∈ lw_tbl := lw_at lw_m6 170 rfl
theorem q1436 : (Jvm.Cond.code ({ cls := "MoodFare$Has", name := "much", desc := "()I" } : Jvm.MethodName) prog_9_method_2_code (1 : Nat) (Option.some Jvm.ClassFile.FieldType.int)) ∈ lw_all := lw_g (lw_at lw_m6 171 rfl) rfl
theorem q1923 : (Jvm.Cond.castable "MoodFare$Has" "java/lang/Object") ∈ lw_tbl := lw_at lw_m8 178 rfl
theorem in_X20 : ∀ w ∈ wsX200, w ∈ lw_all := lw_in wsX200 [1353, 1355] (by decide +kernel) (by decide +kernel)

/-! MoodFare$Marked -/
set_option maxRecDepth 100000
def RX21 : String := "MoodFare$Marked"
abbrev cX21_size : ByteArray := prog_14_method_3_code
def yX21_size : MethodName := ⟨RX21, "size", "(LMoodFare$Trail;LMoodFare$Held;)I"⟩
def dkwX21_size_0 : List UInt8 := [43, 16, 10, 182, 0, 1, 42, 185, 0, 7, 1, 0, 172]
abbrev dktX21_size_0 : List UInt8 := dkwX21_size_0 ++ []
theorem dksX21_size_0 : cX21_size.data.toList.drop 0 = dktX21_size_0 := by decide +kernel
theorem dX21_size_0 : decode cX21_size 0 = .ok (.aload_n 1, 1) := dk_43 (dk_at dksX21_size_0 0 rfl rfl)
theorem dX21_size_1 : decode cX21_size 1 = .ok (.bipush 10, 2) := dk_16 10 (dk_at dksX21_size_0 1 rfl rfl)
theorem dX21_size_3 : decode cX21_size 3 = .ok (.invokevirtual 1, 3) := dk_182 0 1 (dk_at dksX21_size_0 3 rfl rfl)
theorem dX21_size_6 : decode cX21_size 6 = .ok (.aload_n 0, 1) := dk_42 (dk_at dksX21_size_0 6 rfl rfl)
theorem dX21_size_7 : decode cX21_size 7 = .ok (.invokeinterface 7 1, 5) := by decide +kernel
theorem dX21_size_12 : decode cX21_size 12 = .ok (.ireturn, 1) := dk_172 (dk_at dksX21_size_0 12 rfl rfl)
abbrev cX21_mark : ByteArray := prog_14_method_4_code
def yX21_mark : MethodName := ⟨RX21, "mark", "(LMoodFare$Trail;LMoodFare$Held;)I"⟩
def dkwX21_mark_0 : List UInt8 := [43, 16, 20, 182, 0, 1, 42, 185, 0, 13, 1, 0, 172]
abbrev dktX21_mark_0 : List UInt8 := dkwX21_mark_0 ++ []
theorem dksX21_mark_0 : cX21_mark.data.toList.drop 0 = dktX21_mark_0 := by decide +kernel
theorem dX21_mark_0 : decode cX21_mark 0 = .ok (.aload_n 1, 1) := dk_43 (dk_at dksX21_mark_0 0 rfl rfl)
theorem dX21_mark_1 : decode cX21_mark 1 = .ok (.bipush 20, 2) := dk_16 20 (dk_at dksX21_mark_0 1 rfl rfl)
theorem dX21_mark_3 : decode cX21_mark 3 = .ok (.invokevirtual 1, 3) := dk_182 0 1 (dk_at dksX21_mark_0 3 rfl rfl)
theorem dX21_mark_6 : decode cX21_mark 6 = .ok (.aload_n 0, 1) := dk_42 (dk_at dksX21_mark_0 6 rfl rfl)
theorem dX21_mark_7 : decode cX21_mark 7 = .ok (.invokeinterface 13 1, 5) := by decide +kernel
theorem dX21_mark_12 : decode cX21_mark 12 = .ok (.ireturn, 1) := dk_172 (dk_at dksX21_mark_0 12 rfl rfl)
theorem q1359 : (Jvm.Cond.declares ({ cls := "MoodFare$Marked", name := "size", desc := "(LMoodFare$Trail;LMoodFare$Held;)I" } : Jvm.MethodName)) ∈ lw_tbl := lw_at lw_m6 94 rfl
theorem q1367 : (Jvm.Cond.instanceMethod ({ cls := "MoodFare$Marked", name := "size", desc := "(LMoodFare$Trail;LMoodFare$Held;)I" } : Jvm.MethodName)) ∈ lw_all := lw_g (lw_at lw_m6 102 rfl) rfl
theorem q1368 : (Jvm.Cond.code ({ cls := "MoodFare$Marked", name := "size", desc := "(LMoodFare$Trail;LMoodFare$Held;)I" } : Jvm.MethodName) prog_14_method_3_code (3 : Nat) (Option.some Jvm.ClassFile.FieldType.int)) ∈ lw_all := lw_g (lw_at lw_m6 103 rfl) rfl
theorem q1369 : (Jvm.Cond.methodLink "MoodFare$Marked" (1 : Nat) ({ cls := "MoodFare$Trail", name := "begins", desc := "(I)V" } : Jvm.MethodName)) ∈ lw_all := lw_g (lw_at lw_m6 104 rfl) rfl
theorem q1370 : (Jvm.Cond.interfaceEntry "MoodFare$Marked" (7 : Nat)) ∈ lw_tbl := lw_at lw_m6 105 rfl
theorem q1371 : (Jvm.Cond.methodLink "MoodFare$Marked" (7 : Nat) ({ cls := "MoodFare$Marked", name := "fee", desc := "()I" } : Jvm.MethodName)) ∈ lw_all := lw_g (lw_at lw_m6 106 rfl) rfl
theorem q1372 : (Jvm.Cond.interfaceMethod "MoodFare$Marked" "MoodFare$Marked" "fee" "()I") ∈ lw_tbl := lw_at lw_m6 107 rfl
theorem q1373 : (Jvm.Cond.declares ({ cls := "MoodFare$Marked", name := "fee", desc := "()I" } : Jvm.MethodName)) ∈ lw_tbl := lw_at lw_m6 108 rfl
theorem q1409 : (Jvm.Cond.declares ({ cls := "MoodFare$Marked", name := "mark", desc := "(LMoodFare$Trail;LMoodFare$Held;)I" } : Jvm.MethodName)) ∈ lw_tbl := lw_at lw_m6 144 rfl
theorem q1410 : (Jvm.Cond.instanceMethod ({ cls := "MoodFare$Marked", name := "mark", desc := "(LMoodFare$Trail;LMoodFare$Held;)I" } : Jvm.MethodName)) ∈ lw_all := lw_g (lw_at lw_m6 145 rfl) rfl
theorem q1411 : (Jvm.Cond.code ({ cls := "MoodFare$Marked", name := "mark", desc := "(LMoodFare$Trail;LMoodFare$Held;)I" } : Jvm.MethodName) prog_14_method_4_code (3 : Nat) (Option.some Jvm.ClassFile.FieldType.int)) ∈ lw_all := lw_g (lw_at lw_m6 146 rfl) rfl
theorem q1412 : (Jvm.Cond.interfaceEntry "MoodFare$Marked" (13 : Nat)) ∈ lw_tbl := lw_at lw_m6 147 rfl
theorem q1413 : (Jvm.Cond.methodLink "MoodFare$Marked" (13 : Nat) ({ cls := "MoodFare$Marked", name := "number", desc := "()I" } : Jvm.MethodName)) ∈ lw_all := lw_g (lw_at lw_m6 148 rfl) rfl
theorem q1414 : (Jvm.Cond.interfaceMethod "MoodFare$Marked" "MoodFare$Marked" "number" "()I") ∈ lw_tbl := lw_at lw_m6 149 rfl
theorem q1415 : (Jvm.Cond.declares ({ cls := "MoodFare$Marked", name := "number", desc := "()I" } : Jvm.MethodName)) ∈ lw_tbl := lw_at lw_m6 150 rfl
