/-! java/util/AbstractCollection -/
set_option maxRecDepth 100000
def RJ0 : String := "java/util/AbstractCollection"
abbrev cJ0_init : ByteArray := prog_49_method_1_code
def yJ0_init : MethodName := ⟨RJ0, "<init>", "()V"⟩
theorem dJ0_init_0 : decode cJ0_init 0 = .ok (.aload_n 0, 1) := by decide +kernel
theorem dJ0_init_1 : decode cJ0_init 1 = .ok (.invokespecial 1, 3) := by decide +kernel
theorem dJ0_init_4 : decode cJ0_init 4 = .ok (.return_, 1) := by decide +kernel
theorem q69 : (Jvm.Cond.initialized "java/util/AbstractCollection") ∈ lw_all := lw_g (lw_at lw_m1 4 rfl) rfl
theorem q147 : (Jvm.Cond.instanceMethod ({ cls := "java/util/AbstractCollection", name := "<init>", desc := "()V" } : Jvm.MethodName)) ∈ lw_all := lw_g (lw_at lw_m1 82 rfl) rfl
theorem q148 : (Jvm.Cond.code ({ cls := "java/util/AbstractCollection", name := "<init>", desc := "()V" } : Jvm.MethodName) prog_49_method_1_code (1 : Nat) (Option.none : Option Jvm.ClassFile.FieldType)) ∈ lw_all := lw_g (lw_at lw_m1 83 rfl) rfl
theorem q149 : (Jvm.Cond.methodLink "java/util/AbstractCollection" (1 : Nat) ({ cls := "java/lang/Object", name := "<init>", desc := "()V" } : Jvm.MethodName)) ∈ lw_all := lw_g (lw_at lw_m1 84 rfl) rfl

/-! java/util/AbstractList -/
set_option maxRecDepth 100000
def RJ1 : String := "java/util/AbstractList"
abbrev cJ1_init : ByteArray := prog_50_method_1_code
def yJ1_init : MethodName := ⟨RJ1, "<init>", "()V"⟩
def dkwJ1_init_0 : List UInt8 := [42, 183, 0, 1, 42, 3, 181, 0, 7, 177]
abbrev dktJ1_init_0 : List UInt8 := dkwJ1_init_0 ++ []
theorem dksJ1_init_0 : cJ1_init.data.toList.drop 0 = dktJ1_init_0 := by decide +kernel
theorem dJ1_init_0 : decode cJ1_init 0 = .ok (.aload_n 0, 1) := dk_42 (dk_at dksJ1_init_0 0 rfl rfl)
theorem dJ1_init_1 : decode cJ1_init 1 = .ok (.invokespecial 1, 3) := dk_183 0 1 (dk_at dksJ1_init_0 1 rfl rfl)
theorem dJ1_init_4 : decode cJ1_init 4 = .ok (.aload_n 0, 1) := dk_42 (dk_at dksJ1_init_0 4 rfl rfl)
theorem dJ1_init_5 : decode cJ1_init 5 = .ok (.iconst 0, 1) := dk_3 (dk_at dksJ1_init_0 5 rfl rfl)
theorem dJ1_init_6 : decode cJ1_init 6 = .ok (.putfield 7, 3) := dk_181 0 7 (dk_at dksJ1_init_0 6 rfl rfl)
theorem dJ1_init_9 : decode cJ1_init 9 = .ok (.return_, 1) := dk_177 (dk_at dksJ1_init_0 9 rfl rfl)
theorem q70 : (Jvm.Cond.initialized "java/util/AbstractList") ∈ lw_all := lw_g (lw_at lw_m1 5 rfl) rfl
theorem q144 : (Jvm.Cond.instanceMethod ({ cls := "java/util/AbstractList", name := "<init>", desc := "()V" } : Jvm.MethodName)) ∈ lw_all := lw_g (lw_at lw_m1 79 rfl) rfl
theorem q145 : (Jvm.Cond.code ({ cls := "java/util/AbstractList", name := "<init>", desc := "()V" } : Jvm.MethodName) prog_50_method_1_code (1 : Nat) (Option.none : Option Jvm.ClassFile.FieldType)) ∈ lw_all := lw_g (lw_at lw_m1 80 rfl) rfl
theorem q146 : (Jvm.Cond.methodLink "java/util/AbstractList" (1 : Nat) ({ cls := "java/util/AbstractCollection", name := "<init>", desc := "()V" } : Jvm.MethodName)) ∈ lw_all := lw_g (lw_at lw_m1 81 rfl) rfl
theorem q154 : (Jvm.Cond.fieldLink "java/util/AbstractList" (7 : Nat) "java/util/AbstractList" "modCount" "I") ∈ lw_all := lw_g (lw_at lw_m1 89 rfl) rfl
theorem q162 : (Jvm.Cond.soleField "java/util/AbstractList" "modCount") ∈ lw_all := lw_g (lw_at lw_m1 97 rfl) rfl

/-! java/util/ArrayList -/
set_option maxRecDepth 100000
def RJ2 : String := "java/util/ArrayList"
def TJ2 : u_T := fun k => match k with
  | 0 => ("java/util/AbstractList", "modCount", "I", false)
  | 1 => ("java/util/ArrayList", "elementData", "[Ljava/lang/Object;", false)
  | _ => ("java/util/ArrayList", "size", "I", false)
def tyJ2 : Nat → FieldType := fun k => match k with
  | 0 => .int
  | 1 => .array (.object "java/lang/Object")
  | _ => .int
abbrev wsJ20 : List Cond := u_ws RJ2 TJ2 3
theorem nmJ2 : ∀ a, a < 3 → ∀ b, b < 3 → a ≠ b → (TJ2 a).2.1 ≠ (TJ2 b).2.1 := by decide +kernel
theorem tyJ2_ok : ∀ k, k < 3 → parseFieldDescriptor (TJ2 k).2.2.1 = some (tyJ2 k) := by decide +kernel
abbrev cJ2_init : ByteArray := prog_51_method_2_code
def yJ2_init : MethodName := ⟨RJ2, "<init>", "()V"⟩
def dkwJ2_init_0 : List UInt8 := [42, 183, 0, 1, 42, 178, 0, 39, 181, 0, 9, 177]
abbrev dktJ2_init_0 : List UInt8 := dkwJ2_init_0 ++ []
theorem dksJ2_init_0 : cJ2_init.data.toList.drop 0 = dktJ2_init_0 := by decide +kernel
theorem dJ2_init_0 : decode cJ2_init 0 = .ok (.aload_n 0, 1) := dk_42 (dk_at dksJ2_init_0 0 rfl rfl)
theorem dJ2_init_1 : decode cJ2_init 1 = .ok (.invokespecial 1, 3) := dk_183 0 1 (dk_at dksJ2_init_0 1 rfl rfl)
theorem dJ2_init_4 : decode cJ2_init 4 = .ok (.aload_n 0, 1) := dk_42 (dk_at dksJ2_init_0 4 rfl rfl)
theorem dJ2_init_5 : decode cJ2_init 5 = .ok (.getstatic 39, 3) := dk_178 0 39 (dk_at dksJ2_init_0 5 rfl rfl)
theorem dJ2_init_8 : decode cJ2_init 8 = .ok (.putfield 9, 3) := dk_181 0 9 (dk_at dksJ2_init_0 8 rfl rfl)
theorem dJ2_init_11 : decode cJ2_init 11 = .ok (.return_, 1) := dk_177 (dk_at dksJ2_init_0 11 rfl rfl)
abbrev cJ2_size : ByteArray := prog_51_method_8_code
def yJ2_size : MethodName := ⟨RJ2, "size", "()I"⟩
theorem dJ2_size_0 : decode cJ2_size 0 = .ok (.aload_n 0, 1) := by decide +kernel
theorem dJ2_size_1 : decode cJ2_size 1 = .ok (.getfield 48, 3) := by decide +kernel
theorem dJ2_size_4 : decode cJ2_size 4 = .ok (.ireturn, 1) := by decide +kernel
abbrev cJ2_add : ByteArray := prog_51_method_25_code
def yJ2_add : MethodName := ⟨RJ2, "add", "(Ljava/lang/Object;)Z"⟩
def dkwJ2_add_1 : List UInt8 := [172]
abbrev dktJ2_add_1 : List UInt8 := dkwJ2_add_1 ++ []
def dkwJ2_add_0 : List UInt8 := [42, 89, 180, 0, 63, 4, 96, 181, 0, 63, 42, 43, 42, 180, 0, 9, 42, 180, 0, 48, 182, 0, 131, 4]
abbrev dktJ2_add_0 : List UInt8 := dkwJ2_add_0 ++ dktJ2_add_1
theorem dksJ2_add_0 : cJ2_add.data.toList.drop 0 = dktJ2_add_0 := by decide +kernel
theorem dksJ2_add_1 : cJ2_add.data.toList.drop 24 = dktJ2_add_1 := dk_seg dksJ2_add_0 24 rfl rfl
theorem dJ2_add_0 : decode cJ2_add 0 = .ok (.aload_n 0, 1) := dk_42 (dk_at dksJ2_add_0 0 rfl rfl)
theorem dJ2_add_1 : decode cJ2_add 1 = .ok (.dup, 1) := dk_89 (dk_at dksJ2_add_0 1 rfl rfl)
theorem dJ2_add_2 : decode cJ2_add 2 = .ok (.getfield 63, 3) := dk_180 0 63 (dk_at dksJ2_add_0 2 rfl rfl)
theorem dJ2_add_5 : decode cJ2_add 5 = .ok (.iconst 1, 1) := dk_4 (dk_at dksJ2_add_0 5 rfl rfl)
theorem dJ2_add_6 : decode cJ2_add 6 = .ok (.iadd, 1) := dk_96 (dk_at dksJ2_add_0 6 rfl rfl)
theorem dJ2_add_7 : decode cJ2_add 7 = .ok (.putfield 63, 3) := dk_181 0 63 (dk_at dksJ2_add_0 7 rfl rfl)
theorem dJ2_add_10 : decode cJ2_add 10 = .ok (.aload_n 0, 1) := dk_42 (dk_at dksJ2_add_0 10 rfl rfl)
theorem dJ2_add_11 : decode cJ2_add 11 = .ok (.aload_n 1, 1) := dk_43 (dk_at dksJ2_add_0 11 rfl rfl)
theorem dJ2_add_12 : decode cJ2_add 12 = .ok (.aload_n 0, 1) := dk_42 (dk_at dksJ2_add_0 12 rfl rfl)
theorem dJ2_add_13 : decode cJ2_add 13 = .ok (.getfield 9, 3) := dk_180 0 9 (dk_at dksJ2_add_0 13 rfl rfl)
theorem dJ2_add_16 : decode cJ2_add 16 = .ok (.aload_n 0, 1) := dk_42 (dk_at dksJ2_add_0 16 rfl rfl)
theorem dJ2_add_17 : decode cJ2_add 17 = .ok (.getfield 48, 3) := dk_180 0 48 (dk_at dksJ2_add_0 17 rfl rfl)
theorem dJ2_add_20 : decode cJ2_add 20 = .ok (.invokevirtual 131, 3) := dk_182 0 131 (dk_at dksJ2_add_0 20 rfl rfl)
theorem dJ2_add_23 : decode cJ2_add 23 = .ok (.iconst 1, 1) := dk_4 (dk_at dksJ2_add_0 23 rfl rfl)
theorem dJ2_add_24 : decode cJ2_add 24 = .ok (.ireturn, 1) := dk_172 (dk_at dksJ2_add_1 0 rfl rfl)
abbrev cJ2_add_2 : ByteArray := prog_51_method_24_code
def yJ2_add_2 : MethodName := ⟨RJ2, "add", "(Ljava/lang/Object;[Ljava/lang/Object;I)V"⟩
def dkwJ2_add_2_0 : List UInt8 := [29, 44, 190, 160, 0, 8, 42, 182, 0, 129, 77, 44, 29, 43, 83, 42, 29, 4, 96, 181, 0, 48, 177]
abbrev dktJ2_add_2_0 : List UInt8 := dkwJ2_add_2_0 ++ []
theorem dksJ2_add_2_0 : cJ2_add_2.data.toList.drop 0 = dktJ2_add_2_0 := by decide +kernel
theorem dJ2_add_2_0 : decode cJ2_add_2 0 = .ok (.iload_n 3, 1) := dk_29 (dk_at dksJ2_add_2_0 0 rfl rfl)
theorem dJ2_add_2_1 : decode cJ2_add_2 1 = .ok (.aload_n 2, 1) := dk_44 (dk_at dksJ2_add_2_0 1 rfl rfl)
theorem dJ2_add_2_2 : decode cJ2_add_2 2 = .ok (.arraylength, 1) := dk_190 (dk_at dksJ2_add_2_0 2 rfl rfl)
theorem dJ2_add_2_3 : decode cJ2_add_2 3 = .ok (.if_icmp .ne 8, 3) := dk_160 0 8 (dk_at dksJ2_add_2_0 3 rfl rfl)
theorem dJ2_add_2_6 : decode cJ2_add_2 6 = .ok (.aload_n 0, 1) := dk_42 (dk_at dksJ2_add_2_0 6 rfl rfl)
theorem dJ2_add_2_7 : decode cJ2_add_2 7 = .ok (.invokevirtual 129, 3) := dk_182 0 129 (dk_at dksJ2_add_2_0 7 rfl rfl)
theorem dJ2_add_2_10 : decode cJ2_add_2 10 = .ok (.astore_n 2, 1) := dk_77 (dk_at dksJ2_add_2_0 10 rfl rfl)
theorem dJ2_add_2_11 : decode cJ2_add_2 11 = .ok (.aload_n 2, 1) := dk_44 (dk_at dksJ2_add_2_0 11 rfl rfl)
theorem dJ2_add_2_12 : decode cJ2_add_2 12 = .ok (.iload_n 3, 1) := dk_29 (dk_at dksJ2_add_2_0 12 rfl rfl)
theorem dJ2_add_2_13 : decode cJ2_add_2 13 = .ok (.aload_n 1, 1) := dk_43 (dk_at dksJ2_add_2_0 13 rfl rfl)
theorem dJ2_add_2_14 : decode cJ2_add_2 14 = .ok (.aastore, 1) := dk_83 (dk_at dksJ2_add_2_0 14 rfl rfl)
theorem dJ2_add_2_15 : decode cJ2_add_2 15 = .ok (.aload_n 0, 1) := dk_42 (dk_at dksJ2_add_2_0 15 rfl rfl)
theorem dJ2_add_2_16 : decode cJ2_add_2 16 = .ok (.iload_n 3, 1) := dk_29 (dk_at dksJ2_add_2_0 16 rfl rfl)
theorem dJ2_add_2_17 : decode cJ2_add_2 17 = .ok (.iconst 1, 1) := dk_4 (dk_at dksJ2_add_2_0 17 rfl rfl)
theorem dJ2_add_2_18 : decode cJ2_add_2 18 = .ok (.iadd, 1) := dk_96 (dk_at dksJ2_add_2_0 18 rfl rfl)
theorem dJ2_add_2_19 : decode cJ2_add_2 19 = .ok (.putfield 48, 3) := dk_181 0 48 (dk_at dksJ2_add_2_0 19 rfl rfl)
theorem dJ2_add_2_22 : decode cJ2_add_2 22 = .ok (.return_, 1) := dk_177 (dk_at dksJ2_add_2_0 22 rfl rfl)
abbrev cJ2_grow : ByteArray := prog_51_method_7_code
def yJ2_grow : MethodName := ⟨RJ2, "grow", "()[Ljava/lang/Object;"⟩
def dkwJ2_grow_0 : List UInt8 := [42, 42, 180, 0, 48, 4, 96, 182, 0, 69, 176]
abbrev dktJ2_grow_0 : List UInt8 := dkwJ2_grow_0 ++ []
theorem dksJ2_grow_0 : cJ2_grow.data.toList.drop 0 = dktJ2_grow_0 := by decide +kernel
theorem dJ2_grow_0 : decode cJ2_grow 0 = .ok (.aload_n 0, 1) := dk_42 (dk_at dksJ2_grow_0 0 rfl rfl)
theorem dJ2_grow_1 : decode cJ2_grow 1 = .ok (.aload_n 0, 1) := dk_42 (dk_at dksJ2_grow_0 1 rfl rfl)
theorem dJ2_grow_2 : decode cJ2_grow 2 = .ok (.getfield 48, 3) := dk_180 0 48 (dk_at dksJ2_grow_0 2 rfl rfl)
theorem dJ2_grow_5 : decode cJ2_grow 5 = .ok (.iconst 1, 1) := dk_4 (dk_at dksJ2_grow_0 5 rfl rfl)
theorem dJ2_grow_6 : decode cJ2_grow 6 = .ok (.iadd, 1) := dk_96 (dk_at dksJ2_grow_0 6 rfl rfl)
theorem dJ2_grow_7 : decode cJ2_grow 7 = .ok (.invokevirtual 69, 3) := dk_182 0 69 (dk_at dksJ2_grow_0 7 rfl rfl)
theorem dJ2_grow_10 : decode cJ2_grow 10 = .ok (.areturn, 1) := dk_176 (dk_at dksJ2_grow_0 10 rfl rfl)
abbrev cJ2_grow_2 : ByteArray := prog_51_method_6_code
def yJ2_grow_2 : MethodName := ⟨RJ2, "grow", "(I)[Ljava/lang/Object;"⟩
def dkwJ2_grow_2_2 : List UInt8 := [27, 184, 0, 79, 189, 0, 7, 90, 181, 0, 9, 176]
abbrev dktJ2_grow_2_2 : List UInt8 := dkwJ2_grow_2_2 ++ []
def dkwJ2_grow_2_1 : List UInt8 := [28, 4, 122, 184, 0, 73, 62, 42, 42, 180, 0, 9, 29, 184, 0, 66, 90, 181, 0, 9, 176, 42, 16, 10]
abbrev dktJ2_grow_2_1 : List UInt8 := dkwJ2_grow_2_1 ++ dktJ2_grow_2_2
def dkwJ2_grow_2_0 : List UInt8 := [42, 180, 0, 9, 190, 61, 28, 157, 0, 13, 42, 180, 0, 9, 178, 0, 39, 165, 0, 28, 28, 27, 28, 100]
abbrev dktJ2_grow_2_0 : List UInt8 := dkwJ2_grow_2_0 ++ dktJ2_grow_2_1
theorem dksJ2_grow_2_0 : cJ2_grow_2.data.toList.drop 0 = dktJ2_grow_2_0 := by decide +kernel
theorem dksJ2_grow_2_1 : cJ2_grow_2.data.toList.drop 24 = dktJ2_grow_2_1 := dk_seg dksJ2_grow_2_0 24 rfl rfl
theorem dksJ2_grow_2_2 : cJ2_grow_2.data.toList.drop 48 = dktJ2_grow_2_2 := dk_seg dksJ2_grow_2_1 24 rfl rfl
theorem dJ2_grow_2_0 : decode cJ2_grow_2 0 = .ok (.aload_n 0, 1) := dk_42 (dk_at dksJ2_grow_2_0 0 rfl rfl)
theorem dJ2_grow_2_1 : decode cJ2_grow_2 1 = .ok (.getfield 9, 3) := dk_180 0 9 (dk_at dksJ2_grow_2_0 1 rfl rfl)
theorem dJ2_grow_2_4 : decode cJ2_grow_2 4 = .ok (.arraylength, 1) := dk_190 (dk_at dksJ2_grow_2_0 4 rfl rfl)
theorem dJ2_grow_2_5 : decode cJ2_grow_2 5 = .ok (.istore_n 2, 1) := dk_61 (dk_at dksJ2_grow_2_0 5 rfl rfl)
theorem dJ2_grow_2_6 : decode cJ2_grow_2 6 = .ok (.iload_n 2, 1) := dk_28 (dk_at dksJ2_grow_2_0 6 rfl rfl)
theorem dJ2_grow_2_7 : decode cJ2_grow_2 7 = .ok (.ifCond .gt 13, 3) := dk_157 0 13 (dk_at dksJ2_grow_2_0 7 rfl rfl)
theorem dJ2_grow_2_10 : decode cJ2_grow_2 10 = .ok (.aload_n 0, 1) := dk_42 (dk_at dksJ2_grow_2_0 10 rfl rfl)
theorem dJ2_grow_2_11 : decode cJ2_grow_2 11 = .ok (.getfield 9, 3) := dk_180 0 9 (dk_at dksJ2_grow_2_0 11 rfl rfl)
theorem dJ2_grow_2_14 : decode cJ2_grow_2 14 = .ok (.getstatic 39, 3) := dk_178 0 39 (dk_at dksJ2_grow_2_0 14 rfl rfl)
theorem dJ2_grow_2_17 : decode cJ2_grow_2 17 = .ok (.if_acmp .eq 28, 3) := dk_165 0 28 (dk_at dksJ2_grow_2_0 17 rfl rfl)
theorem dJ2_grow_2_20 : decode cJ2_grow_2 20 = .ok (.iload_n 2, 1) := dk_28 (dk_at dksJ2_grow_2_0 20 rfl rfl)
theorem dJ2_grow_2_21 : decode cJ2_grow_2 21 = .ok (.iload_n 1, 1) := dk_27 (dk_at dksJ2_grow_2_0 21 rfl rfl)
theorem dJ2_grow_2_22 : decode cJ2_grow_2 22 = .ok (.iload_n 2, 1) := dk_28 (dk_at dksJ2_grow_2_0 22 rfl rfl)
theorem dJ2_grow_2_23 : decode cJ2_grow_2 23 = .ok (.isub, 1) := dk_100 (dk_at dksJ2_grow_2_0 23 rfl rfl)
theorem dJ2_grow_2_24 : decode cJ2_grow_2 24 = .ok (.iload_n 2, 1) := dk_28 (dk_at dksJ2_grow_2_1 0 rfl rfl)
theorem dJ2_grow_2_25 : decode cJ2_grow_2 25 = .ok (.iconst 1, 1) := dk_4 (dk_at dksJ2_grow_2_1 1 rfl rfl)
theorem dJ2_grow_2_26 : decode cJ2_grow_2 26 = .ok (.ishr, 1) := dk_122 (dk_at dksJ2_grow_2_1 2 rfl rfl)
theorem dJ2_grow_2_27 : decode cJ2_grow_2 27 = .ok (.invokestatic 73, 3) := dk_184 0 73 (dk_at dksJ2_grow_2_1 3 rfl rfl)
theorem dJ2_grow_2_30 : decode cJ2_grow_2 30 = .ok (.istore_n 3, 1) := dk_62 (dk_at dksJ2_grow_2_1 6 rfl rfl)
theorem dJ2_grow_2_31 : decode cJ2_grow_2 31 = .ok (.aload_n 0, 1) := dk_42 (dk_at dksJ2_grow_2_1 7 rfl rfl)
theorem dJ2_grow_2_32 : decode cJ2_grow_2 32 = .ok (.aload_n 0, 1) := dk_42 (dk_at dksJ2_grow_2_1 8 rfl rfl)
theorem dJ2_grow_2_33 : decode cJ2_grow_2 33 = .ok (.getfield 9, 3) := dk_180 0 9 (dk_at dksJ2_grow_2_1 9 rfl rfl)
theorem dJ2_grow_2_36 : decode cJ2_grow_2 36 = .ok (.iload_n 3, 1) := dk_29 (dk_at dksJ2_grow_2_1 12 rfl rfl)
theorem dJ2_grow_2_37 : decode cJ2_grow_2 37 = .ok (.invokestatic 66, 3) := dk_184 0 66 (dk_at dksJ2_grow_2_1 13 rfl rfl)
theorem dJ2_grow_2_40 : decode cJ2_grow_2 40 = .ok (.dup_x1, 1) := dk_90 (dk_at dksJ2_grow_2_1 16 rfl rfl)
theorem dJ2_grow_2_41 : decode cJ2_grow_2 41 = .ok (.putfield 9, 3) := dk_181 0 9 (dk_at dksJ2_grow_2_1 17 rfl rfl)
theorem dJ2_grow_2_44 : decode cJ2_grow_2 44 = .ok (.areturn, 1) := dk_176 (dk_at dksJ2_grow_2_1 20 rfl rfl)
theorem dJ2_grow_2_45 : decode cJ2_grow_2 45 = .ok (.aload_n 0, 1) := dk_42 (dk_at dksJ2_grow_2_1 21 rfl rfl)
theorem dJ2_grow_2_46 : decode cJ2_grow_2 46 = .ok (.bipush 10, 2) := dk_16 10 (dk_at dksJ2_grow_2_1 22 rfl rfl)
theorem dJ2_grow_2_48 : decode cJ2_grow_2 48 = .ok (.iload_n 1, 1) := dk_27 (dk_at dksJ2_grow_2_2 0 rfl rfl)
theorem dJ2_grow_2_49 : decode cJ2_grow_2 49 = .ok (.invokestatic 79, 3) := dk_184 0 79 (dk_at dksJ2_grow_2_2 1 rfl rfl)
theorem dJ2_grow_2_52 : decode cJ2_grow_2 52 = .ok (.anewarray 7, 3) := dk_189 0 7 (dk_at dksJ2_grow_2_2 4 rfl rfl)
theorem dJ2_grow_2_55 : decode cJ2_grow_2 55 = .ok (.dup_x1, 1) := dk_90 (dk_at dksJ2_grow_2_2 7 rfl rfl)
theorem dJ2_grow_2_56 : decode cJ2_grow_2 56 = .ok (.putfield 9, 3) := dk_181 0 9 (dk_at dksJ2_grow_2_2 8 rfl rfl)
theorem dJ2_grow_2_59 : decode cJ2_grow_2 59 = .ok (.areturn, 1) := dk_176 (dk_at dksJ2_grow_2_2 11 rfl rfl)
abbrev cJ2_clear : ByteArray := prog_51_method_40_code
def yJ2_clear : MethodName := ⟨RJ2, "clear", "()V"⟩
def dkwJ2_clear_1 : List UInt8 := [181, 0, 48, 62, 29, 28, 162, 0, 13, 43, 29, 1, 83, 132, 3, 1, 167, 255, 244, 177]
abbrev dktJ2_clear_1 : List UInt8 := dkwJ2_clear_1 ++ []
def dkwJ2_clear_0 : List UInt8 := [42, 89, 180, 0, 63, 4, 96, 181, 0, 63, 42, 180, 0, 9, 76, 42, 180, 0, 48, 61, 42, 3, 90]
abbrev dktJ2_clear_0 : List UInt8 := dkwJ2_clear_0 ++ dktJ2_clear_1
theorem dksJ2_clear_0 : cJ2_clear.data.toList.drop 0 = dktJ2_clear_0 := by decide +kernel
theorem dksJ2_clear_1 : cJ2_clear.data.toList.drop 23 = dktJ2_clear_1 := dk_seg dksJ2_clear_0 23 rfl rfl
theorem dJ2_clear_0 : decode cJ2_clear 0 = .ok (.aload_n 0, 1) := dk_42 (dk_at dksJ2_clear_0 0 rfl rfl)
theorem dJ2_clear_1 : decode cJ2_clear 1 = .ok (.dup, 1) := dk_89 (dk_at dksJ2_clear_0 1 rfl rfl)
theorem dJ2_clear_2 : decode cJ2_clear 2 = .ok (.getfield 63, 3) := dk_180 0 63 (dk_at dksJ2_clear_0 2 rfl rfl)
theorem dJ2_clear_5 : decode cJ2_clear 5 = .ok (.iconst 1, 1) := dk_4 (dk_at dksJ2_clear_0 5 rfl rfl)
theorem dJ2_clear_6 : decode cJ2_clear 6 = .ok (.iadd, 1) := dk_96 (dk_at dksJ2_clear_0 6 rfl rfl)
theorem dJ2_clear_7 : decode cJ2_clear 7 = .ok (.putfield 63, 3) := dk_181 0 63 (dk_at dksJ2_clear_0 7 rfl rfl)
theorem dJ2_clear_10 : decode cJ2_clear 10 = .ok (.aload_n 0, 1) := dk_42 (dk_at dksJ2_clear_0 10 rfl rfl)
theorem dJ2_clear_11 : decode cJ2_clear 11 = .ok (.getfield 9, 3) := dk_180 0 9 (dk_at dksJ2_clear_0 11 rfl rfl)
theorem dJ2_clear_14 : decode cJ2_clear 14 = .ok (.astore_n 1, 1) := dk_76 (dk_at dksJ2_clear_0 14 rfl rfl)
theorem dJ2_clear_15 : decode cJ2_clear 15 = .ok (.aload_n 0, 1) := dk_42 (dk_at dksJ2_clear_0 15 rfl rfl)
theorem dJ2_clear_16 : decode cJ2_clear 16 = .ok (.getfield 48, 3) := dk_180 0 48 (dk_at dksJ2_clear_0 16 rfl rfl)
theorem dJ2_clear_19 : decode cJ2_clear 19 = .ok (.istore_n 2, 1) := dk_61 (dk_at dksJ2_clear_0 19 rfl rfl)
theorem dJ2_clear_20 : decode cJ2_clear 20 = .ok (.aload_n 0, 1) := dk_42 (dk_at dksJ2_clear_0 20 rfl rfl)
theorem dJ2_clear_21 : decode cJ2_clear 21 = .ok (.iconst 0, 1) := dk_3 (dk_at dksJ2_clear_0 21 rfl rfl)
theorem dJ2_clear_22 : decode cJ2_clear 22 = .ok (.dup_x1, 1) := dk_90 (dk_at dksJ2_clear_0 22 rfl rfl)
theorem dJ2_clear_23 : decode cJ2_clear 23 = .ok (.putfield 48, 3) := dk_181 0 48 (dk_at dksJ2_clear_1 0 rfl rfl)
theorem dJ2_clear_26 : decode cJ2_clear 26 = .ok (.istore_n 3, 1) := dk_62 (dk_at dksJ2_clear_1 3 rfl rfl)
theorem dJ2_clear_27 : decode cJ2_clear 27 = .ok (.iload_n 3, 1) := dk_29 (dk_at dksJ2_clear_1 4 rfl rfl)
theorem dJ2_clear_28 : decode cJ2_clear 28 = .ok (.iload_n 2, 1) := dk_28 (dk_at dksJ2_clear_1 5 rfl rfl)
theorem dJ2_clear_29 : decode cJ2_clear 29 = .ok (.if_icmp .ge 13, 3) := dk_162 0 13 (dk_at dksJ2_clear_1 6 rfl rfl)
theorem dJ2_clear_32 : decode cJ2_clear 32 = .ok (.aload_n 1, 1) := dk_43 (dk_at dksJ2_clear_1 9 rfl rfl)
theorem dJ2_clear_33 : decode cJ2_clear 33 = .ok (.iload_n 3, 1) := dk_29 (dk_at dksJ2_clear_1 10 rfl rfl)
theorem dJ2_clear_34 : decode cJ2_clear 34 = .ok (.aconst_null, 1) := dk_1 (dk_at dksJ2_clear_1 11 rfl rfl)
theorem dJ2_clear_35 : decode cJ2_clear 35 = .ok (.aastore, 1) := dk_83 (dk_at dksJ2_clear_1 12 rfl rfl)
theorem dJ2_clear_36 : decode cJ2_clear 36 = .ok (.iinc 3 1, 3) := dk_132 3 1 (dk_at dksJ2_clear_1 13 rfl rfl)
theorem dJ2_clear_39 : decode cJ2_clear 39 = .ok (.goto (-12), 3) := dk_167 255 244 (dk_at dksJ2_clear_1 16 rfl rfl)
theorem dJ2_clear_42 : decode cJ2_clear 42 = .ok (.return_, 1) := dk_177 (dk_at dksJ2_clear_1 19 rfl rfl)
abbrev cJ2_get : ByteArray := prog_51_method_20_code
def yJ2_get : MethodName := ⟨RJ2, "get", "(I)Ljava/lang/Object;"⟩
def dkwJ2_get_0 : List UInt8 := [27, 42, 180, 0, 48, 184, 0, 118, 87, 42, 27, 182, 0, 123, 176]
abbrev dktJ2_get_0 : List UInt8 := dkwJ2_get_0 ++ []
theorem dksJ2_get_0 : cJ2_get.data.toList.drop 0 = dktJ2_get_0 := by decide +kernel
theorem dJ2_get_0 : decode cJ2_get 0 = .ok (.iload_n 1, 1) := dk_27 (dk_at dksJ2_get_0 0 rfl rfl)
theorem dJ2_get_1 : decode cJ2_get 1 = .ok (.aload_n 0, 1) := dk_42 (dk_at dksJ2_get_0 1 rfl rfl)
theorem dJ2_get_2 : decode cJ2_get 2 = .ok (.getfield 48, 3) := dk_180 0 48 (dk_at dksJ2_get_0 2 rfl rfl)
theorem dJ2_get_5 : decode cJ2_get 5 = .ok (.invokestatic 118, 3) := dk_184 0 118 (dk_at dksJ2_get_0 5 rfl rfl)
theorem dJ2_get_8 : decode cJ2_get 8 = .ok (.pop, 1) := dk_87 (dk_at dksJ2_get_0 8 rfl rfl)
theorem dJ2_get_9 : decode cJ2_get 9 = .ok (.aload_n 0, 1) := dk_42 (dk_at dksJ2_get_0 9 rfl rfl)
theorem dJ2_get_10 : decode cJ2_get 10 = .ok (.iload_n 1, 1) := dk_27 (dk_at dksJ2_get_0 10 rfl rfl)
theorem dJ2_get_11 : decode cJ2_get 11 = .ok (.invokevirtual 123, 3) := dk_182 0 123 (dk_at dksJ2_get_0 11 rfl rfl)
theorem dJ2_get_14 : decode cJ2_get 14 = .ok (.areturn, 1) := dk_176 (dk_at dksJ2_get_0 14 rfl rfl)
abbrev cJ2_elementData : ByteArray := prog_51_method_18_code
def yJ2_elementData : MethodName := ⟨RJ2, "elementData", "(I)Ljava/lang/Object;"⟩
def dkwJ2_elementData_0 : List UInt8 := [42, 180, 0, 9, 27, 50, 176]
abbrev dktJ2_elementData_0 : List UInt8 := dkwJ2_elementData_0 ++ []
theorem dksJ2_elementData_0 : cJ2_elementData.data.toList.drop 0 = dktJ2_elementData_0 := by decide +kernel
theorem dJ2_elementData_0 : decode cJ2_elementData 0 = .ok (.aload_n 0, 1) := dk_42 (dk_at dksJ2_elementData_0 0 rfl rfl)
theorem dJ2_elementData_1 : decode cJ2_elementData 1 = .ok (.getfield 9, 3) := dk_180 0 9 (dk_at dksJ2_elementData_0 1 rfl rfl)
theorem dJ2_elementData_4 : decode cJ2_elementData 4 = .ok (.iload_n 1, 1) := dk_27 (dk_at dksJ2_elementData_0 4 rfl rfl)
theorem dJ2_elementData_5 : decode cJ2_elementData 5 = .ok (.aaload, 1) := dk_50 (dk_at dksJ2_elementData_0 5 rfl rfl)
theorem dJ2_elementData_6 : decode cJ2_elementData 6 = .ok (.areturn, 1) := dk_176 (dk_at dksJ2_elementData_0 6 rfl rfl)
abbrev cJ2_set : ByteArray := prog_51_method_23_code
def yJ2_set : MethodName := ⟨RJ2, "set", "(ILjava/lang/Object;)Ljava/lang/Object;"⟩
def dkwJ2_set_0 : List UInt8 := [27, 42, 180, 0, 48, 184, 0, 118, 87, 42, 27, 182, 0, 123, 78, 42, 180, 0, 9, 27, 44, 83, 45, 176]
abbrev dktJ2_set_0 : List UInt8 := dkwJ2_set_0 ++ []
theorem dksJ2_set_0 : cJ2_set.data.toList.drop 0 = dktJ2_set_0 := by decide +kernel
theorem dJ2_set_0 : decode cJ2_set 0 = .ok (.iload_n 1, 1) := dk_27 (dk_at dksJ2_set_0 0 rfl rfl)
theorem dJ2_set_1 : decode cJ2_set 1 = .ok (.aload_n 0, 1) := dk_42 (dk_at dksJ2_set_0 1 rfl rfl)
theorem dJ2_set_2 : decode cJ2_set 2 = .ok (.getfield 48, 3) := dk_180 0 48 (dk_at dksJ2_set_0 2 rfl rfl)
theorem dJ2_set_5 : decode cJ2_set 5 = .ok (.invokestatic 118, 3) := dk_184 0 118 (dk_at dksJ2_set_0 5 rfl rfl)
theorem dJ2_set_8 : decode cJ2_set 8 = .ok (.pop, 1) := dk_87 (dk_at dksJ2_set_0 8 rfl rfl)
theorem dJ2_set_9 : decode cJ2_set 9 = .ok (.aload_n 0, 1) := dk_42 (dk_at dksJ2_set_0 9 rfl rfl)
theorem dJ2_set_10 : decode cJ2_set 10 = .ok (.iload_n 1, 1) := dk_27 (dk_at dksJ2_set_0 10 rfl rfl)
theorem dJ2_set_11 : decode cJ2_set 11 = .ok (.invokevirtual 123, 3) := dk_182 0 123 (dk_at dksJ2_set_0 11 rfl rfl)
theorem dJ2_set_14 : decode cJ2_set 14 = .ok (.astore_n 3, 1) := dk_78 (dk_at dksJ2_set_0 14 rfl rfl)
theorem dJ2_set_15 : decode cJ2_set 15 = .ok (.aload_n 0, 1) := dk_42 (dk_at dksJ2_set_0 15 rfl rfl)
theorem dJ2_set_16 : decode cJ2_set 16 = .ok (.getfield 9, 3) := dk_180 0 9 (dk_at dksJ2_set_0 16 rfl rfl)
theorem dJ2_set_19 : decode cJ2_set 19 = .ok (.iload_n 1, 1) := dk_27 (dk_at dksJ2_set_0 19 rfl rfl)
theorem dJ2_set_20 : decode cJ2_set 20 = .ok (.aload_n 2, 1) := dk_44 (dk_at dksJ2_set_0 20 rfl rfl)
theorem dJ2_set_21 : decode cJ2_set 21 = .ok (.aastore, 1) := dk_83 (dk_at dksJ2_set_0 21 rfl rfl)
theorem dJ2_set_22 : decode cJ2_set 22 = .ok (.aload_n 3, 1) := dk_45 (dk_at dksJ2_set_0 22 rfl rfl)
theorem dJ2_set_23 : decode cJ2_set 23 = .ok (.areturn, 1) := dk_176 (dk_at dksJ2_set_0 23 rfl rfl)
theorem q71 : (Jvm.Cond.initialized "java/util/ArrayList") ∈ lw_all := lw_g (lw_at lw_m1 6 rfl) rfl
theorem q139 : (Jvm.Cond.instantiable "java/util/ArrayList" (3 : Nat)) ∈ lw_all := lw_g (lw_at lw_m1 74 rfl) rfl
theorem q141 : (Jvm.Cond.instanceMethod ({ cls := "java/util/ArrayList", name := "<init>", desc := "()V" } : Jvm.MethodName)) ∈ lw_all := lw_g (lw_at lw_m1 76 rfl) rfl
theorem q142 : (Jvm.Cond.code ({ cls := "java/util/ArrayList", name := "<init>", desc := "()V" } : Jvm.MethodName) prog_51_method_2_code (1 : Nat) (Option.none : Option Jvm.ClassFile.FieldType)) ∈ lw_all := lw_g (lw_at lw_m1 77 rfl) rfl
theorem q143 : (Jvm.Cond.methodLink "java/util/ArrayList" (1 : Nat) ({ cls := "java/util/AbstractList", name := "<init>", desc := "()V" } : Jvm.MethodName)) ∈ lw_all := lw_g (lw_at lw_m1 78 rfl) rfl
theorem q150 : (Jvm.Cond.fieldLink "java/util/ArrayList" (39 : Nat) "java/util/ArrayList" "DEFAULTCAPACITY_EMPTY_ELEMENTDATA" "[Ljava/lang/Object;") ∈ lw_all := lw_g (lw_at lw_m1 85 rfl) rfl
theorem q151 : (Jvm.Cond.laysStatic "java/util/ArrayList" "DEFAULTCAPACITY_EMPTY_ELEMENTDATA" "[Ljava/lang/Object;") ∈ lw_tbl := lw_at lw_m1 86 rfl
theorem q152 : (Jvm.Cond.fieldLink "java/util/ArrayList" (9 : Nat) "java/util/ArrayList" "elementData" "[Ljava/lang/Object;") ∈ lw_all := lw_g (lw_at lw_m1 87 rfl) rfl
theorem q153 : (Jvm.Cond.fieldLink "java/util/ArrayList" (48 : Nat) "java/util/ArrayList" "size" "I") ∈ lw_all := lw_g (lw_at lw_m1 88 rfl) rfl
theorem q155 : (Jvm.Cond.fieldLink "java/util/ArrayList" (63 : Nat) "java/util/ArrayList" "modCount" "I") ∈ lw_all := lw_g (lw_at lw_m1 90 rfl) rfl
theorem q156 : (Jvm.Cond.sameField "java/util/ArrayList" "java/util/AbstractList" "modCount" "I") ∈ lw_all := lw_g (lw_at lw_m1 91 rfl) rfl
theorem q157 : (Jvm.Cond.lays "java/util/ArrayList" "java/util/ArrayList" "elementData" "[Ljava/lang/Object;") ∈ lw_all := lw_g (lw_at lw_m1 92 rfl) rfl
theorem q158 : (Jvm.Cond.soleField "java/util/ArrayList" "elementData") ∈ lw_all := lw_g (lw_at lw_m1 93 rfl) rfl
theorem q159 : (Jvm.Cond.lays "java/util/ArrayList" "java/util/ArrayList" "size" "I") ∈ lw_all := lw_g (lw_at lw_m1 94 rfl) rfl
theorem q160 : (Jvm.Cond.soleField "java/util/ArrayList" "size") ∈ lw_all := lw_g (lw_at lw_m1 95 rfl) rfl
theorem q161 : (Jvm.Cond.lays "java/util/ArrayList" "java/util/AbstractList" "modCount" "I") ∈ lw_all := lw_g (lw_at lw_m1 96 rfl) rfl
theorem q163 : (Jvm.Cond.superclass "java/util/ArrayList" "java/util/AbstractList") ∈ lw_all := lw_g (lw_at lw_m1 98 rfl) rfl
theorem q697 : (Jvm.Cond.castable "java/util/ArrayList" "java/util/List") ∈ lw_tbl := lw_at lw_m3 152 rfl
theorem q698 : (Jvm.Cond.selects "java/util/ArrayList" ({ cls := "java/util/List", name := "size", desc := "()I" } : Jvm.MethodName) ({ cls := "java/util/ArrayList", name := "size", desc := "()I" } : Jvm.MethodName)) ∈ lw_all := lw_g (lw_at lw_m3 153 rfl) rfl
theorem q699 : (Jvm.Cond.unhidden "java/util/ArrayList" "size" "()I") ∈ lw_tbl := lw_at lw_m3 154 rfl
theorem q700 : (Jvm.Cond.instanceMethod ({ cls := "java/util/ArrayList", name := "size", desc := "()I" } : Jvm.MethodName)) ∈ lw_all := lw_g (lw_at lw_m3 155 rfl) rfl
theorem q701 : (Jvm.Cond.publicMethod ({ cls := "java/util/ArrayList", name := "size", desc := "()I" } : Jvm.MethodName)) ∈ lw_tbl := lw_at lw_m3 156 rfl
theorem q702 : (Jvm.Cond.code ({ cls := "java/util/ArrayList", name := "size", desc := "()I" } : Jvm.MethodName) prog_51_method_8_code (1 : Nat) (Option.some Jvm.ClassFile.FieldType.int)) ∈ lw_all := lw_g (lw_at lw_m3 157 rfl) rfl
theorem q762 : (Jvm.Cond.selects "java/util/ArrayList" ({ cls := "java/util/List", name := "add", desc := "(Ljava/lang/Object;)Z" } : Jvm.MethodName) ({ cls := "java/util/ArrayList", name := "add", desc := "(Ljava/lang/Object;)Z" } : Jvm.MethodName)) ∈ lw_all := lw_g (lw_at lw_m3 217 rfl) rfl
theorem q763 : (Jvm.Cond.unhidden "java/util/ArrayList" "add" "(Ljava/lang/Object;)Z") ∈ lw_tbl := lw_at lw_m3 218 rfl
theorem q764 : (Jvm.Cond.instanceMethod ({ cls := "java/util/ArrayList", name := "add", desc := "(Ljava/lang/Object;)Z" } : Jvm.MethodName)) ∈ lw_all := lw_g (lw_at lw_m3 219 rfl) rfl
theorem q765 : (Jvm.Cond.publicMethod ({ cls := "java/util/ArrayList", name := "add", desc := "(Ljava/lang/Object;)Z" } : Jvm.MethodName)) ∈ lw_tbl := lw_at lw_m3 220 rfl
theorem q766 : (Jvm.Cond.code ({ cls := "java/util/ArrayList", name := "add", desc := "(Ljava/lang/Object;)Z" } : Jvm.MethodName) prog_51_method_25_code (2 : Nat) (Option.some Jvm.ClassFile.FieldType.boolean)) ∈ lw_all := lw_g (lw_at lw_m3 221 rfl) rfl
theorem q767 : (Jvm.Cond.methodLink "java/util/ArrayList" (131 : Nat) ({ cls := "java/util/ArrayList", name := "add", desc := "(Ljava/lang/Object;[Ljava/lang/Object;I)V" } : Jvm.MethodName)) ∈ lw_all := lw_g (lw_at lw_m3 222 rfl) rfl
theorem q768 : (Jvm.Cond.privateMethod ({ cls := "java/util/ArrayList", name := "add", desc := "(Ljava/lang/Object;[Ljava/lang/Object;I)V" } : Jvm.MethodName)) ∈ lw_tbl := lw_at lw_m3 223 rfl
theorem q769 : (Jvm.Cond.instanceMethod ({ cls := "java/util/ArrayList", name := "add", desc := "(Ljava/lang/Object;[Ljava/lang/Object;I)V" } : Jvm.MethodName)) ∈ lw_all := lw_g (lw_at lw_m3 224 rfl) rfl
theorem q770 : (Jvm.Cond.code ({ cls := "java/util/ArrayList", name := "add", desc := "(Ljava/lang/Object;[Ljava/lang/Object;I)V" } : Jvm.MethodName) prog_51_method_24_code (4 : Nat) (Option.none : Option Jvm.ClassFile.FieldType)) ∈ lw_all := lw_g (lw_at lw_m3 225 rfl) rfl
theorem q771 : (Jvm.Cond.methodLink "java/util/ArrayList" (129 : Nat) ({ cls := "java/util/ArrayList", name := "grow", desc := "()[Ljava/lang/Object;" } : Jvm.MethodName)) ∈ lw_all := lw_g (lw_at lw_m3 226 rfl) rfl
theorem q772 : (Jvm.Cond.privateMethod ({ cls := "java/util/ArrayList", name := "grow", desc := "()[Ljava/lang/Object;" } : Jvm.MethodName)) ∈ lw_tbl := lw_at lw_m3 227 rfl
theorem q773 : (Jvm.Cond.instanceMethod ({ cls := "java/util/ArrayList", name := "grow", desc := "()[Ljava/lang/Object;" } : Jvm.MethodName)) ∈ lw_all := lw_g (lw_at lw_m3 228 rfl) rfl
theorem q774 : (Jvm.Cond.code ({ cls := "java/util/ArrayList", name := "grow", desc := "()[Ljava/lang/Object;" } : Jvm.MethodName) prog_51_method_7_code (1 : Nat) (Option.some (Jvm.ClassFile.FieldType.array (Jvm.ClassFile.FieldType.object "java/lang/Object")))) ∈ lw_all := lw_g (lw_at lw_m3 229 rfl) rfl
theorem q775 : (Jvm.Cond.methodLink "java/util/ArrayList" (69 : Nat) ({ cls := "java/util/ArrayList", name := "grow", desc := "(I)[Ljava/lang/Object;" } : Jvm.MethodName)) ∈ lw_all := lw_g (lw_at lw_m3 230 rfl) rfl
theorem q776 : (Jvm.Cond.privateMethod ({ cls := "java/util/ArrayList", name := "grow", desc := "(I)[Ljava/lang/Object;" } : Jvm.MethodName)) ∈ lw_tbl := lw_at lw_m3 231 rfl
theorem q777 : (Jvm.Cond.instanceMethod ({ cls := "java/util/ArrayList", name := "grow", desc := "(I)[Ljava/lang/Object;" } : Jvm.MethodName)) ∈ lw_all := lw_g (lw_at lw_m3 232 rfl) rfl
theorem q778 : (Jvm.Cond.code ({ cls := "java/util/ArrayList", name := "grow", desc := "(I)[Ljava/lang/Object;" } : Jvm.MethodName) prog_51_method_6_code (4 : Nat) (Option.some (Jvm.ClassFile.FieldType.array (Jvm.ClassFile.FieldType.object "java/lang/Object")))) ∈ lw_all := lw_g (lw_at lw_m3 233 rfl) rfl
theorem q779 : (Jvm.Cond.methodLink "java/util/ArrayList" (73 : Nat) ({ cls := "jdk/internal/util/ArraysSupport", name := "newLength", desc := "(III)I" } : Jvm.MethodName)) ∈ lw_all := lw_g (lw_at lw_m3 234 rfl) rfl
theorem q787 : (Jvm.Cond.methodLink "java/util/ArrayList" (66 : Nat) ({ cls := "java/util/Arrays", name := "copyOf", desc := "([Ljava/lang/Object;I)[Ljava/lang/Object;" } : Jvm.MethodName)) ∈ lw_all := lw_g (lw_at lw_m4 2 rfl) rfl
theorem q818 : (Jvm.Cond.selects "java/util/ArrayList" ({ cls := "java/lang/Object", name := "getClass", desc := "()Ljava/lang/Class;" } : Jvm.MethodName) ({ cls := "java/lang/Object", name := "getClass", desc := "()Ljava/lang/Class;" } : Jvm.MethodName)) ∈ lw_all := lw_g (lw_at lw_m4 33 rfl) rfl
theorem q828 : (Jvm.Cond.methodLink "java/util/ArrayList" (79 : Nat) ({ cls := "java/lang/Math", name := "max", desc := "(II)I" } : Jvm.MethodName)) ∈ lw_all := lw_g (lw_at lw_m4 43 rfl) rfl
theorem q829 : (Jvm.Cond.classLink "java/util/ArrayList" (7 : Nat) "java/lang/Object") ∈ lw_all := lw_g (lw_at lw_m4 44 rfl) rfl
theorem q848 : (Jvm.Cond.selects "java/util/ArrayList" ({ cls := "java/util/List", name := "clear", desc := "()V" } : Jvm.MethodName) ({ cls := "java/util/ArrayList", name := "clear", desc := "()V" } : Jvm.MethodName)) ∈ lw_all := lw_g (lw_at lw_m4 63 rfl) rfl
theorem q849 : (Jvm.Cond.unhidden "java/util/ArrayList" "clear" "()V") ∈ lw_tbl := lw_at lw_m4 64 rfl
theorem q850 : (Jvm.Cond.instanceMethod ({ cls := "java/util/ArrayList", name := "clear", desc := "()V" } : Jvm.MethodName)) ∈ lw_all := lw_g (lw_at lw_m4 65 rfl) rfl
theorem q851 : (Jvm.Cond.publicMethod ({ cls := "java/util/ArrayList", name := "clear", desc := "()V" } : Jvm.MethodName)) ∈ lw_tbl := lw_at lw_m4 66 rfl
theorem q852 : (Jvm.Cond.code ({ cls := "java/util/ArrayList", name := "clear", desc := "()V" } : Jvm.MethodName) prog_51_method_40_code (4 : Nat) (Option.none : Option Jvm.ClassFile.FieldType)) ∈ lw_all := lw_g (lw_at lw_m4 67 rfl) rfl
theorem q857 : (Jvm.Cond.selects "java/util/ArrayList" ({ cls := "java/util/List", name := "get", desc := "(I)Ljava/lang/Object;" } : Jvm.MethodName) ({ cls := "java/util/ArrayList", name := "get", desc := "(I)Ljava/lang/Object;" } : Jvm.MethodName)) ∈ lw_all := lw_g (lw_at lw_m4 72 rfl) rfl
theorem q858 : (Jvm.Cond.unhidden "java/util/ArrayList" "get" "(I)Ljava/lang/Object;") ∈ lw_tbl := lw_at lw_m4 73 rfl
theorem q859 : (Jvm.Cond.instanceMethod ({ cls := "java/util/ArrayList", name := "get", desc := "(I)Ljava/lang/Object;" } : Jvm.MethodName)) ∈ lw_all := lw_g (lw_at lw_m4 74 rfl) rfl
theorem q860 : (Jvm.Cond.publicMethod ({ cls := "java/util/ArrayList", name := "get", desc := "(I)Ljava/lang/Object;" } : Jvm.MethodName)) ∈ lw_tbl := lw_at lw_m4 75 rfl
theorem q861 : (Jvm.Cond.code ({ cls := "java/util/ArrayList", name := "get", desc := "(I)Ljava/lang/Object;" } : Jvm.MethodName) prog_51_method_20_code (2 : Nat) (Option.some (Jvm.ClassFile.FieldType.object "java/lang/Object"))) ∈ lw_all := lw_g (lw_at lw_m4 76 rfl) rfl
theorem q862 : (Jvm.Cond.methodLink "java/util/ArrayList" (118 : Nat) ({ cls := "java/util/Objects", name := "checkIndex", desc := "(II)I" } : Jvm.MethodName)) ∈ lw_all := lw_g (lw_at lw_m4 77 rfl) rfl
theorem q868 : (Jvm.Cond.methodLink "java/util/ArrayList" (123 : Nat) ({ cls := "java/util/ArrayList", name := "elementData", desc := "(I)Ljava/lang/Object;" } : Jvm.MethodName)) ∈ lw_all := lw_g (lw_at lw_m4 83 rfl) rfl
theorem q869 : (Jvm.Cond.instanceMethod ({ cls := "java/util/ArrayList", name := "elementData", desc := "(I)Ljava/lang/Object;" } : Jvm.MethodName)) ∈ lw_all := lw_g (lw_at lw_m4 84 rfl) rfl
theorem q870 : (Jvm.Cond.selects "java/util/ArrayList" ({ cls := "java/util/ArrayList", name := "elementData", desc := "(I)Ljava/lang/Object;" } : Jvm.MethodName) ({ cls := "java/util/ArrayList", name := "elementData", desc := "(I)Ljava/lang/Object;" } : Jvm.MethodName)) ∈ lw_all := lw_g (lw_at lw_m4 85 rfl) rfl
theorem q871 : (Jvm.Cond.code ({ cls := "java/util/ArrayList", name := "elementData", desc := "(I)Ljava/lang/Object;" } : Jvm.MethodName) prog_51_method_18_code (2 : Nat) (Option.some (Jvm.ClassFile.FieldType.object "java/lang/Object"))) ∈ lw_all := lw_g (lw_at lw_m4 86 rfl) rfl
theorem q1210 : (Jvm.Cond.selects "java/util/ArrayList" ({ cls := "java/util/List", name := "set", desc := "(ILjava/lang/Object;)Ljava/lang/Object;" } : Jvm.MethodName) ({ cls := "java/util/ArrayList", name := "set", desc := "(ILjava/lang/Object;)Ljava/lang/Object;" } : Jvm.MethodName)) ∈ lw_all := lw_g (lw_at lw_m5 185 rfl) rfl
theorem q1211 : (Jvm.Cond.unhidden "java/util/ArrayList" "set" "(ILjava/lang/Object;)Ljava/lang/Object;") ∈ lw_tbl := lw_at lw_m5 186 rfl
theorem q1212 : (Jvm.Cond.instanceMethod ({ cls := "java/util/ArrayList", name := "set", desc := "(ILjava/lang/Object;)Ljava/lang/Object;" } : Jvm.MethodName)) ∈ lw_all := lw_g (lw_at lw_m5 187 rfl) rfl
theorem q1213 : (Jvm.Cond.publicMethod ({ cls := "java/util/ArrayList", name := "set", desc := "(ILjava/lang/Object;)Ljava/lang/Object;" } : Jvm.MethodName)) ∈ lw_tbl := lw_at lw_m5 188 rfl
theorem q1214 : (Jvm.Cond.code ({ cls := "java/util/ArrayList", name := "set", desc := "(ILjava/lang/Object;)Ljava/lang/Object;" } : Jvm.MethodName) prog_51_method_23_code (4 : Nat) (Option.some (Jvm.ClassFile.FieldType.object "java/lang/Object"))) ∈ lw_all := lw_g (lw_at lw_m5 189 rfl) rfl
theorem q1901 : (Jvm.Cond.castable "java/util/ArrayList" "java/lang/Object") ∈ lw_tbl := lw_at lw_m8 156 rfl
theorem in_J2 : ∀ w ∈ wsJ20, w ∈ lw_all := lw_in wsJ20 [161, 157, 159] (by decide +kernel) (by decide +kernel)

/-! java/lang/Throwable -/
set_option maxRecDepth 100000
def RJ3 : String := "java/lang/Throwable"
def TJ3 : u_T := fun k => match k with
  | 0 => ("java/lang/Throwable", "cause", "Ljava/lang/Throwable;", false)
  | 1 => ("java/lang/Throwable", "stackTrace", "[Ljava/lang/StackTraceElement;", false)
  | 2 => ("java/lang/Throwable", "suppressedExceptions", "Ljava/util/List;", false)
  | 3 => ("java/lang/Throwable", "detailMessage", "Ljava/lang/String;", false)
  | _ => ("java/lang/Throwable", "backtrace", "Ljava/lang/Object;", false)
def tyJ3 : Nat → FieldType := fun k => match k with
  | 0 => .object "java/lang/Throwable"
  | 1 => .array (.object "java/lang/StackTraceElement")
  | 2 => .object "java/util/List"
  | 3 => .object "java/lang/String"
  | _ => .object "java/lang/Object"
abbrev wsJ30 : List Cond := u_ws RJ3 TJ3 5
theorem nmJ3 : ∀ a, a < 5 → ∀ b, b < 5 → a ≠ b → (TJ3 a).2.1 ≠ (TJ3 b).2.1 := by decide +kernel
theorem tyJ3_ok : ∀ k, k < 5 → parseFieldDescriptor (TJ3 k).2.2.1 = some (tyJ3 k) := by decide +kernel
abbrev cJ3_init : ByteArray := prog_46_method_2_code
def yJ3_init : MethodName := ⟨RJ3, "<init>", "(Ljava/lang/String;)V"⟩
def dkwJ3_init_1 : List UInt8 := [182, 0, 27, 87, 42, 43, 181, 0, 31, 177]
abbrev dktJ3_init_1 : List UInt8 := dkwJ3_init_1 ++ []
def dkwJ3_init_0 : List UInt8 := [42, 183, 0, 1, 42, 42, 181, 0, 7, 42, 178, 0, 13, 181, 0, 17, 42, 178, 0, 20, 181, 0, 24, 42]
abbrev dktJ3_init_0 : List UInt8 := dkwJ3_init_0 ++ dktJ3_init_1
theorem dksJ3_init_0 : cJ3_init.data.toList.drop 0 = dktJ3_init_0 := by decide +kernel
theorem dksJ3_init_1 : cJ3_init.data.toList.drop 24 = dktJ3_init_1 := dk_seg dksJ3_init_0 24 rfl rfl
theorem dJ3_init_0 : decode cJ3_init 0 = .ok (.aload_n 0, 1) := dk_42 (dk_at dksJ3_init_0 0 rfl rfl)
theorem dJ3_init_1 : decode cJ3_init 1 = .ok (.invokespecial 1, 3) := dk_183 0 1 (dk_at dksJ3_init_0 1 rfl rfl)
theorem dJ3_init_4 : decode cJ3_init 4 = .ok (.aload_n 0, 1) := dk_42 (dk_at dksJ3_init_0 4 rfl rfl)
theorem dJ3_init_5 : decode cJ3_init 5 = .ok (.aload_n 0, 1) := dk_42 (dk_at dksJ3_init_0 5 rfl rfl)
theorem dJ3_init_6 : decode cJ3_init 6 = .ok (.putfield 7, 3) := dk_181 0 7 (dk_at dksJ3_init_0 6 rfl rfl)
theorem dJ3_init_9 : decode cJ3_init 9 = .ok (.aload_n 0, 1) := dk_42 (dk_at dksJ3_init_0 9 rfl rfl)
theorem dJ3_init_10 : decode cJ3_init 10 = .ok (.getstatic 13, 3) := dk_178 0 13 (dk_at dksJ3_init_0 10 rfl rfl)
theorem dJ3_init_13 : decode cJ3_init 13 = .ok (.putfield 17, 3) := dk_181 0 17 (dk_at dksJ3_init_0 13 rfl rfl)
theorem dJ3_init_16 : decode cJ3_init 16 = .ok (.aload_n 0, 1) := dk_42 (dk_at dksJ3_init_0 16 rfl rfl)
theorem dJ3_init_17 : decode cJ3_init 17 = .ok (.getstatic 20, 3) := dk_178 0 20 (dk_at dksJ3_init_0 17 rfl rfl)
theorem dJ3_init_20 : decode cJ3_init 20 = .ok (.putfield 24, 3) := dk_181 0 24 (dk_at dksJ3_init_0 20 rfl rfl)
theorem dJ3_init_23 : decode cJ3_init 23 = .ok (.aload_n 0, 1) := dk_42 (dk_at dksJ3_init_0 23 rfl rfl)
theorem dJ3_init_24 : decode cJ3_init 24 = .ok (.invokevirtual 27, 3) := dk_182 0 27 (dk_at dksJ3_init_1 0 rfl rfl)
theorem dJ3_init_27 : decode cJ3_init 27 = .ok (.pop, 1) := dk_87 (dk_at dksJ3_init_1 3 rfl rfl)
theorem dJ3_init_28 : decode cJ3_init 28 = .ok (.aload_n 0, 1) := dk_42 (dk_at dksJ3_init_1 4 rfl rfl)
theorem dJ3_init_29 : decode cJ3_init 29 = .ok (.aload_n 1, 1) := dk_43 (dk_at dksJ3_init_1 5 rfl rfl)
theorem dJ3_init_30 : decode cJ3_init 30 = .ok (.putfield 31, 3) := dk_181 0 31 (dk_at dksJ3_init_1 6 rfl rfl)
theorem dJ3_init_33 : decode cJ3_init 33 = .ok (.return_, 1) := dk_177 (dk_at dksJ3_init_1 9 rfl rfl)
abbrev cJ3_init_2 : ByteArray := prog_46_method_1_code
def yJ3_init_2 : MethodName := ⟨RJ3, "<init>", "()V"⟩
def dkwJ3_init_2_1 : List UInt8 := [182, 0, 27, 87, 177]
abbrev dktJ3_init_2_1 : List UInt8 := dkwJ3_init_2_1 ++ []
def dkwJ3_init_2_0 : List UInt8 := [42, 183, 0, 1, 42, 42, 181, 0, 7, 42, 178, 0, 13, 181, 0, 17, 42, 178, 0, 20, 181, 0, 24, 42]
abbrev dktJ3_init_2_0 : List UInt8 := dkwJ3_init_2_0 ++ dktJ3_init_2_1
theorem dksJ3_init_2_0 : cJ3_init_2.data.toList.drop 0 = dktJ3_init_2_0 := by decide +kernel
theorem dksJ3_init_2_1 : cJ3_init_2.data.toList.drop 24 = dktJ3_init_2_1 := dk_seg dksJ3_init_2_0 24 rfl rfl
theorem dJ3_init_2_0 : decode cJ3_init_2 0 = .ok (.aload_n 0, 1) := dk_42 (dk_at dksJ3_init_2_0 0 rfl rfl)
theorem dJ3_init_2_1 : decode cJ3_init_2 1 = .ok (.invokespecial 1, 3) := dk_183 0 1 (dk_at dksJ3_init_2_0 1 rfl rfl)
theorem dJ3_init_2_4 : decode cJ3_init_2 4 = .ok (.aload_n 0, 1) := dk_42 (dk_at dksJ3_init_2_0 4 rfl rfl)
theorem dJ3_init_2_5 : decode cJ3_init_2 5 = .ok (.aload_n 0, 1) := dk_42 (dk_at dksJ3_init_2_0 5 rfl rfl)
theorem dJ3_init_2_6 : decode cJ3_init_2 6 = .ok (.putfield 7, 3) := dk_181 0 7 (dk_at dksJ3_init_2_0 6 rfl rfl)
theorem dJ3_init_2_9 : decode cJ3_init_2 9 = .ok (.aload_n 0, 1) := dk_42 (dk_at dksJ3_init_2_0 9 rfl rfl)
theorem dJ3_init_2_10 : decode cJ3_init_2 10 = .ok (.getstatic 13, 3) := dk_178 0 13 (dk_at dksJ3_init_2_0 10 rfl rfl)
theorem dJ3_init_2_13 : decode cJ3_init_2 13 = .ok (.putfield 17, 3) := dk_181 0 17 (dk_at dksJ3_init_2_0 13 rfl rfl)
theorem dJ3_init_2_16 : decode cJ3_init_2 16 = .ok (.aload_n 0, 1) := dk_42 (dk_at dksJ3_init_2_0 16 rfl rfl)
theorem dJ3_init_2_17 : decode cJ3_init_2 17 = .ok (.getstatic 20, 3) := dk_178 0 20 (dk_at dksJ3_init_2_0 17 rfl rfl)
theorem dJ3_init_2_20 : decode cJ3_init_2 20 = .ok (.putfield 24, 3) := dk_181 0 24 (dk_at dksJ3_init_2_0 20 rfl rfl)
theorem dJ3_init_2_23 : decode cJ3_init_2 23 = .ok (.aload_n 0, 1) := dk_42 (dk_at dksJ3_init_2_0 23 rfl rfl)
theorem dJ3_init_2_24 : decode cJ3_init_2 24 = .ok (.invokevirtual 27, 3) := dk_182 0 27 (dk_at dksJ3_init_2_1 0 rfl rfl)
theorem dJ3_init_2_27 : decode cJ3_init_2 27 = .ok (.pop, 1) := dk_87 (dk_at dksJ3_init_2_1 3 rfl rfl)
theorem dJ3_init_2_28 : decode cJ3_init_2 28 = .ok (.return_, 1) := dk_177 (dk_at dksJ3_init_2_1 4 rfl rfl)
abbrev cJ3_init_3 : ByteArray := prog_46_method_5_code
def yJ3_init_3 : MethodName := ⟨RJ3, "<init>", "(Ljava/lang/String;Ljava/lang/Throwable;ZZ)V"⟩
def dkwJ3_init_3_2 : List UInt8 := [44, 181, 0, 7, 29, 154, 0, 8, 42, 1, 181, 0, 24, 177]
abbrev dktJ3_init_3_2 : List UInt8 := dkwJ3_init_3_2 ++ []
def dkwJ3_init_3_1 : List UInt8 := [21, 4, 153, 0, 11, 42, 182, 0, 27, 87, 167, 0, 8, 42, 1, 181, 0, 17, 42, 43, 181, 0, 31, 42]
abbrev dktJ3_init_3_1 : List UInt8 := dkwJ3_init_3_1 ++ dktJ3_init_3_2
def dkwJ3_init_3_0 : List UInt8 := [42, 183, 0, 1, 42, 42, 181, 0, 7, 42, 178, 0, 13, 181, 0, 17, 42, 178, 0, 20, 181, 0, 24]
abbrev dktJ3_init_3_0 : List UInt8 := dkwJ3_init_3_0 ++ dktJ3_init_3_1
theorem dksJ3_init_3_0 : cJ3_init_3.data.toList.drop 0 = dktJ3_init_3_0 := by decide +kernel
theorem dksJ3_init_3_1 : cJ3_init_3.data.toList.drop 23 = dktJ3_init_3_1 := dk_seg dksJ3_init_3_0 23 rfl rfl
theorem dksJ3_init_3_2 : cJ3_init_3.data.toList.drop 47 = dktJ3_init_3_2 := dk_seg dksJ3_init_3_1 24 rfl rfl
theorem dJ3_init_3_0 : decode cJ3_init_3 0 = .ok (.aload_n 0, 1) := dk_42 (dk_at dksJ3_init_3_0 0 rfl rfl)
theorem dJ3_init_3_1 : decode cJ3_init_3 1 = .ok (.invokespecial 1, 3) := dk_183 0 1 (dk_at dksJ3_init_3_0 1 rfl rfl)
theorem dJ3_init_3_4 : decode cJ3_init_3 4 = .ok (.aload_n 0, 1) := dk_42 (dk_at dksJ3_init_3_0 4 rfl rfl)
theorem dJ3_init_3_5 : decode cJ3_init_3 5 = .ok (.aload_n 0, 1) := dk_42 (dk_at dksJ3_init_3_0 5 rfl rfl)
theorem dJ3_init_3_6 : decode cJ3_init_3 6 = .ok (.putfield 7, 3) := dk_181 0 7 (dk_at dksJ3_init_3_0 6 rfl rfl)
theorem dJ3_init_3_9 : decode cJ3_init_3 9 = .ok (.aload_n 0, 1) := dk_42 (dk_at dksJ3_init_3_0 9 rfl rfl)
theorem dJ3_init_3_10 : decode cJ3_init_3 10 = .ok (.getstatic 13, 3) := dk_178 0 13 (dk_at dksJ3_init_3_0 10 rfl rfl)
theorem dJ3_init_3_13 : decode cJ3_init_3 13 = .ok (.putfield 17, 3) := dk_181 0 17 (dk_at dksJ3_init_3_0 13 rfl rfl)
theorem dJ3_init_3_16 : decode cJ3_init_3 16 = .ok (.aload_n 0, 1) := dk_42 (dk_at dksJ3_init_3_0 16 rfl rfl)
theorem dJ3_init_3_17 : decode cJ3_init_3 17 = .ok (.getstatic 20, 3) := dk_178 0 20 (dk_at dksJ3_init_3_0 17 rfl rfl)
theorem dJ3_init_3_20 : decode cJ3_init_3 20 = .ok (.putfield 24, 3) := dk_181 0 24 (dk_at dksJ3_init_3_0 20 rfl rfl)
theorem dJ3_init_3_23 : decode cJ3_init_3 23 = .ok (.iload 4, 2) := dk_21 4 (dk_at dksJ3_init_3_1 0 rfl rfl)
theorem dJ3_init_3_25 : decode cJ3_init_3 25 = .ok (.ifCond .eq 11, 3) := dk_153 0 11 (dk_at dksJ3_init_3_1 2 rfl rfl)
theorem dJ3_init_3_28 : decode cJ3_init_3 28 = .ok (.aload_n 0, 1) := dk_42 (dk_at dksJ3_init_3_1 5 rfl rfl)
theorem dJ3_init_3_29 : decode cJ3_init_3 29 = .ok (.invokevirtual 27, 3) := dk_182 0 27 (dk_at dksJ3_init_3_1 6 rfl rfl)
theorem dJ3_init_3_32 : decode cJ3_init_3 32 = .ok (.pop, 1) := dk_87 (dk_at dksJ3_init_3_1 9 rfl rfl)
theorem dJ3_init_3_33 : decode cJ3_init_3 33 = .ok (.goto 8, 3) := dk_167 0 8 (dk_at dksJ3_init_3_1 10 rfl rfl)
theorem dJ3_init_3_36 : decode cJ3_init_3 36 = .ok (.aload_n 0, 1) := dk_42 (dk_at dksJ3_init_3_1 13 rfl rfl)
theorem dJ3_init_3_37 : decode cJ3_init_3 37 = .ok (.aconst_null, 1) := dk_1 (dk_at dksJ3_init_3_1 14 rfl rfl)
theorem dJ3_init_3_38 : decode cJ3_init_3 38 = .ok (.putfield 17, 3) := dk_181 0 17 (dk_at dksJ3_init_3_1 15 rfl rfl)
theorem dJ3_init_3_41 : decode cJ3_init_3 41 = .ok (.aload_n 0, 1) := dk_42 (dk_at dksJ3_init_3_1 18 rfl rfl)
theorem dJ3_init_3_42 : decode cJ3_init_3 42 = .ok (.aload_n 1, 1) := dk_43 (dk_at dksJ3_init_3_1 19 rfl rfl)
theorem dJ3_init_3_43 : decode cJ3_init_3 43 = .ok (.putfield 31, 3) := dk_181 0 31 (dk_at dksJ3_init_3_1 20 rfl rfl)
theorem dJ3_init_3_46 : decode cJ3_init_3 46 = .ok (.aload_n 0, 1) := dk_42 (dk_at dksJ3_init_3_1 23 rfl rfl)
theorem dJ3_init_3_47 : decode cJ3_init_3 47 = .ok (.aload_n 2, 1) := dk_44 (dk_at dksJ3_init_3_2 0 rfl rfl)
theorem dJ3_init_3_48 : decode cJ3_init_3 48 = .ok (.putfield 7, 3) := dk_181 0 7 (dk_at dksJ3_init_3_2 1 rfl rfl)
theorem dJ3_init_3_51 : decode cJ3_init_3 51 = .ok (.iload_n 3, 1) := dk_29 (dk_at dksJ3_init_3_2 4 rfl rfl)
theorem dJ3_init_3_52 : decode cJ3_init_3 52 = .ok (.ifCond .ne 8, 3) := dk_154 0 8 (dk_at dksJ3_init_3_2 5 rfl rfl)
theorem dJ3_init_3_55 : decode cJ3_init_3 55 = .ok (.aload_n 0, 1) := dk_42 (dk_at dksJ3_init_3_2 8 rfl rfl)
theorem dJ3_init_3_56 : decode cJ3_init_3 56 = .ok (.aconst_null, 1) := dk_1 (dk_at dksJ3_init_3_2 9 rfl rfl)
theorem dJ3_init_3_57 : decode cJ3_init_3 57 = .ok (.putfield 24, 3) := dk_181 0 24 (dk_at dksJ3_init_3_2 10 rfl rfl)
theorem dJ3_init_3_60 : decode cJ3_init_3 60 = .ok (.return_, 1) := dk_177 (dk_at dksJ3_init_3_2 13 rfl rfl)
theorem q74 : (Jvm.Cond.initialized "java/lang/Throwable") ∈ lw_all := lw_g (lw_at lw_m1 9 rfl) rfl
theorem q308 : (Jvm.Cond.instanceMethod ({ cls := "java/lang/Throwable", name := "<init>", desc := "(Ljava/lang/String;)V" } : Jvm.MethodName)) ∈ lw_all := lw_g (lw_at lw_m2 3 rfl) rfl
theorem q309 : (Jvm.Cond.code ({ cls := "java/lang/Throwable", name := "<init>", desc := "(Ljava/lang/String;)V" } : Jvm.MethodName) prog_46_method_2_code (2 : Nat) (Option.none : Option Jvm.ClassFile.FieldType)) ∈ lw_all := lw_g (lw_at lw_m2 4 rfl) rfl
theorem q310 : (Jvm.Cond.methodLink "java/lang/Throwable" (1 : Nat) ({ cls := "java/lang/Object", name := "<init>", desc := "()V" } : Jvm.MethodName)) ∈ lw_all := lw_g (lw_at lw_m2 5 rfl) rfl
theorem q311 : (Jvm.Cond.fieldLink "java/lang/Throwable" (13 : Nat) "java/lang/Throwable" "UNASSIGNED_STACK" "[Ljava/lang/StackTraceElement;") ∈ lw_all := lw_g (lw_at lw_m2 6 rfl) rfl
theorem q312 : (Jvm.Cond.laysStatic "java/lang/Throwable" "UNASSIGNED_STACK" "[Ljava/lang/StackTraceElement;") ∈ lw_tbl := lw_at lw_m2 7 rfl
theorem q313 : (Jvm.Cond.fieldLink "java/lang/Throwable" (20 : Nat) "java/lang/Throwable" "SUPPRESSED_SENTINEL" "Ljava/util/List;") ∈ lw_all := lw_g (lw_at lw_m2 8 rfl) rfl
theorem q314 : (Jvm.Cond.laysStatic "java/lang/Throwable" "SUPPRESSED_SENTINEL" "Ljava/util/List;") ∈ lw_tbl := lw_at lw_m2 9 rfl
theorem q315 : (Jvm.Cond.methodLink "java/lang/Throwable" (27 : Nat) ({ cls := "java/lang/Throwable", name := "fillInStackTrace", desc := "()Ljava/lang/Throwable;" } : Jvm.MethodName)) ∈ lw_all := lw_g (lw_at lw_m2 10 rfl) rfl
theorem q316 : (Jvm.Cond.instanceMethod ({ cls := "java/lang/Throwable", name := "fillInStackTrace", desc := "()Ljava/lang/Throwable;" } : Jvm.MethodName)) ∈ lw_all := lw_g (lw_at lw_m2 11 rfl) rfl
theorem q317 : (Jvm.Cond.sameMethod "java/lang/Throwable" "java/lang/Throwable" "fillInStackTrace" "()Ljava/lang/Throwable;") ∈ lw_all := lw_g (lw_at lw_m2 12 rfl) rfl
theorem q333 : (Jvm.Cond.declares ({ cls := "java/lang/Throwable", name := "fillInStackTrace", desc := "()Ljava/lang/Throwable;" } : Jvm.MethodName)) ∈ lw_tbl := lw_at lw_m2 28 rfl
theorem q337 : (Jvm.Cond.codeSync ({ cls := "java/lang/Throwable", name := "fillInStackTrace", desc := "()Ljava/lang/Throwable;" } : Jvm.MethodName) prog_46_method_18_code (1 : Nat) (Option.some (Jvm.ClassFile.FieldType.object "java/lang/Throwable"))) ∈ lw_all := lw_g (lw_at lw_m2 32 rfl) rfl
theorem q338 : (Jvm.Cond.methodLink "java/lang/Throwable" (202 : Nat) ({ cls := "java/lang/Throwable", name := "fillInStackTrace", desc := "(I)Ljava/lang/Throwable;" } : Jvm.MethodName)) ∈ lw_all := lw_g (lw_at lw_m2 33 rfl) rfl
theorem q339 : (Jvm.Cond.privateMethod ({ cls := "java/lang/Throwable", name := "fillInStackTrace", desc := "(I)Ljava/lang/Throwable;" } : Jvm.MethodName)) ∈ lw_tbl := lw_at lw_m2 34 rfl
theorem q340 : (Jvm.Cond.instanceMethod ({ cls := "java/lang/Throwable", name := "fillInStackTrace", desc := "(I)Ljava/lang/Throwable;" } : Jvm.MethodName)) ∈ lw_all := lw_g (lw_at lw_m2 35 rfl) rfl
theorem q341 : (Jvm.Cond.instantiable "java/lang/Throwable" (6 : Nat)) ∈ lw_all := lw_g (lw_at lw_m2 36 rfl) rfl
theorem q342 : (Jvm.Cond.native ({ cls := "java/lang/Throwable", name := "fillInStackTrace", desc := "(I)Ljava/lang/Throwable;" } : Jvm.MethodName)) ∈ lw_all := lw_g (lw_at lw_m2 37 rfl) rfl
theorem q343 : (Jvm.Cond.fieldLink "java/lang/Throwable" (198 : Nat) "java/lang/Throwable" "backtrace" "Ljava/lang/Object;") ∈ lw_all := lw_g (lw_at lw_m2 38 rfl) rfl
theorem q344 : (Jvm.Cond.fieldLink "java/lang/Throwable" (31 : Nat) "java/lang/Throwable" "detailMessage" "Ljava/lang/String;") ∈ lw_all := lw_g (lw_at lw_m2 39 rfl) rfl
theorem q345 : (Jvm.Cond.fieldLink "java/lang/Throwable" (7 : Nat) "java/lang/Throwable" "cause" "Ljava/lang/Throwable;") ∈ lw_all := lw_g (lw_at lw_m2 40 rfl) rfl
theorem q346 : (Jvm.Cond.fieldLink "java/lang/Throwable" (17 : Nat) "java/lang/Throwable" "stackTrace" "[Ljava/lang/StackTraceElement;") ∈ lw_all := lw_g (lw_at lw_m2 41 rfl) rfl
theorem q347 : (Jvm.Cond.fieldLink "java/lang/Throwable" (24 : Nat) "java/lang/Throwable" "suppressedExceptions" "Ljava/util/List;") ∈ lw_all := lw_g (lw_at lw_m2 42 rfl) rfl
theorem q349 : (Jvm.Cond.soleField "java/lang/Throwable" "backtrace") ∈ lw_all := lw_g (lw_at lw_m2 44 rfl) rfl
theorem q351 : (Jvm.Cond.soleField "java/lang/Throwable" "detailMessage") ∈ lw_all := lw_g (lw_at lw_m2 46 rfl) rfl
theorem q353 : (Jvm.Cond.soleField "java/lang/Throwable" "cause") ∈ lw_all := lw_g (lw_at lw_m2 48 rfl) rfl
theorem q355 : (Jvm.Cond.soleField "java/lang/Throwable" "stackTrace") ∈ lw_all := lw_g (lw_at lw_m2 50 rfl) rfl
theorem q357 : (Jvm.Cond.soleField "java/lang/Throwable" "depth") ∈ lw_all := lw_g (lw_at lw_m2 52 rfl) rfl
theorem q359 : (Jvm.Cond.soleField "java/lang/Throwable" "suppressedExceptions") ∈ lw_all := lw_g (lw_at lw_m2 54 rfl) rfl
theorem q366 : (Jvm.Cond.declares ({ cls := "java/lang/Throwable", name := "<init>", desc := "()V" } : Jvm.MethodName)) ∈ lw_tbl := lw_at lw_m2 61 rfl
theorem q367 : (Jvm.Cond.declares ({ cls := "java/lang/Throwable", name := "<init>", desc := "(Ljava/lang/String;)V" } : Jvm.MethodName)) ∈ lw_tbl := lw_at lw_m2 62 rfl
theorem q369 : (Jvm.Cond.lays "java/lang/Throwable" "java/lang/Throwable" "cause" "Ljava/lang/Throwable;") ∈ lw_all := lw_g (lw_at lw_m2 64 rfl) rfl
theorem q370 : (Jvm.Cond.lays "java/lang/Throwable" "java/lang/Throwable" "stackTrace" "[Ljava/lang/StackTraceElement;") ∈ lw_all := lw_g (lw_at lw_m2 65 rfl) rfl
theorem q371 : (Jvm.Cond.lays "java/lang/Throwable" "java/lang/Throwable" "suppressedExceptions" "Ljava/util/List;") ∈ lw_all := lw_g (lw_at lw_m2 66 rfl) rfl
theorem q372 : (Jvm.Cond.lays "java/lang/Throwable" "java/lang/Throwable" "detailMessage" "Ljava/lang/String;") ∈ lw_all := lw_g (lw_at lw_m2 67 rfl) rfl
theorem q373 : (Jvm.Cond.lays "java/lang/Throwable" "java/lang/Throwable" "backtrace" "Ljava/lang/Object;") ∈ lw_all := lw_g (lw_at lw_m2 68 rfl) rfl
theorem q374 : (Jvm.Cond.fieldLink "java/lang/Throwable" (198 : Nat) "java/lang/Throwable" "backtrace" "Ljava/lang/Object;") ∈ lw_all := lw_g (lw_at lw_m2 69 rfl) rfl
theorem q375 : (Jvm.Cond.superclass "java/lang/Throwable" "java/lang/Object") ∈ lw_all := lw_g (lw_at lw_m2 70 rfl) rfl
theorem q376 : (Jvm.Cond.instanceMethod ({ cls := "java/lang/Throwable", name := "<init>", desc := "()V" } : Jvm.MethodName)) ∈ lw_all := lw_g (lw_at lw_m2 71 rfl) rfl
theorem q377 : (Jvm.Cond.code ({ cls := "java/lang/Throwable", name := "<init>", desc := "()V" } : Jvm.MethodName) prog_46_method_1_code (1 : Nat) (Option.none : Option Jvm.ClassFile.FieldType)) ∈ lw_all := lw_g (lw_at lw_m2 72 rfl) rfl
theorem q578 : (Jvm.Cond.instanceMethod ({ cls := "java/lang/Throwable", name := "<init>", desc := "(Ljava/lang/String;Ljava/lang/Throwable;ZZ)V" } : Jvm.MethodName)) ∈ lw_all := lw_g (lw_at lw_m3 33 rfl) rfl
theorem q579 : (Jvm.Cond.code ({ cls := "java/lang/Throwable", name := "<init>", desc := "(Ljava/lang/String;Ljava/lang/Throwable;ZZ)V" } : Jvm.MethodName) prog_46_method_5_code (5 : Nat) (Option.none : Option Jvm.ClassFile.FieldType)) ∈ lw_all := lw_g (lw_at lw_m3 34 rfl) rfl
theorem q1882 : (Jvm.Cond.sameMethod "java/lang/Throwable" "java/lang/Throwable" "fillInStackTrace" "(I)Ljava/lang/Throwable;") ∈ lw_all := lw_g (lw_at lw_m8 137 rfl) rfl
theorem q1924 : (Jvm.Cond.castable "java/lang/Throwable" "java/lang/Object") ∈ lw_tbl := lw_at lw_m8 179 rfl
theorem in_J3 : ∀ w ∈ wsJ30, w ∈ lw_all := lw_in wsJ30 [369, 370, 371, 372, 373] (by decide +kernel) (by decide +kernel)

/-! java/lang/Exception -/
set_option maxRecDepth 100000
def RJ4 : String := "java/lang/Exception"
abbrev cJ4_init : ByteArray := prog_35_method_2_code
def yJ4_init : MethodName := ⟨RJ4, "<init>", "(Ljava/lang/String;)V"⟩
def dkwJ4_init_0 : List UInt8 := [42, 43, 183, 0, 7, 177]
abbrev dktJ4_init_0 : List UInt8 := dkwJ4_init_0 ++ []
theorem dksJ4_init_0 : cJ4_init.data.toList.drop 0 = dktJ4_init_0 := by decide +kernel
theorem dJ4_init_0 : decode cJ4_init 0 = .ok (.aload_n 0, 1) := dk_42 (dk_at dksJ4_init_0 0 rfl rfl)
theorem dJ4_init_1 : decode cJ4_init 1 = .ok (.aload_n 1, 1) := dk_43 (dk_at dksJ4_init_0 1 rfl rfl)
theorem dJ4_init_2 : decode cJ4_init 2 = .ok (.invokespecial 7, 3) := dk_183 0 7 (dk_at dksJ4_init_0 2 rfl rfl)
theorem dJ4_init_5 : decode cJ4_init 5 = .ok (.return_, 1) := dk_177 (dk_at dksJ4_init_0 5 rfl rfl)
abbrev cJ4_init_2 : ByteArray := prog_35_method_1_code
def yJ4_init_2 : MethodName := ⟨RJ4, "<init>", "()V"⟩
theorem dJ4_init_2_0 : decode cJ4_init_2 0 = .ok (.aload_n 0, 1) := by decide +kernel
theorem dJ4_init_2_1 : decode cJ4_init_2 1 = .ok (.invokespecial 1, 3) := by decide +kernel
theorem dJ4_init_2_4 : decode cJ4_init_2 4 = .ok (.return_, 1) := by decide +kernel
abbrev cJ4_init_3 : ByteArray := prog_35_method_5_code
def yJ4_init_3 : MethodName := ⟨RJ4, "<init>", "(Ljava/lang/String;Ljava/lang/Throwable;ZZ)V"⟩
def dkwJ4_init_3_0 : List UInt8 := [42, 43, 44, 29, 21, 4, 183, 0, 16, 177]
abbrev dktJ4_init_3_0 : List UInt8 := dkwJ4_init_3_0 ++ []
theorem dksJ4_init_3_0 : cJ4_init_3.data.toList.drop 0 = dktJ4_init_3_0 := by decide +kernel
theorem dJ4_init_3_0 : decode cJ4_init_3 0 = .ok (.aload_n 0, 1) := dk_42 (dk_at dksJ4_init_3_0 0 rfl rfl)
theorem dJ4_init_3_1 : decode cJ4_init_3 1 = .ok (.aload_n 1, 1) := dk_43 (dk_at dksJ4_init_3_0 1 rfl rfl)
theorem dJ4_init_3_2 : decode cJ4_init_3 2 = .ok (.aload_n 2, 1) := dk_44 (dk_at dksJ4_init_3_0 2 rfl rfl)
theorem dJ4_init_3_3 : decode cJ4_init_3 3 = .ok (.iload_n 3, 1) := dk_29 (dk_at dksJ4_init_3_0 3 rfl rfl)
theorem dJ4_init_3_4 : decode cJ4_init_3 4 = .ok (.iload 4, 2) := dk_21 4 (dk_at dksJ4_init_3_0 4 rfl rfl)
theorem dJ4_init_3_6 : decode cJ4_init_3 6 = .ok (.invokespecial 16, 3) := dk_183 0 16 (dk_at dksJ4_init_3_0 6 rfl rfl)
theorem dJ4_init_3_9 : decode cJ4_init_3 9 = .ok (.return_, 1) := dk_177 (dk_at dksJ4_init_3_0 9 rfl rfl)
theorem q75 : (Jvm.Cond.initialized "java/lang/Exception") ∈ lw_all := lw_g (lw_at lw_m1 10 rfl) rfl
theorem q305 : (Jvm.Cond.instanceMethod ({ cls := "java/lang/Exception", name := "<init>", desc := "(Ljava/lang/String;)V" } : Jvm.MethodName)) ∈ lw_all := lw_g (lw_at lw_m2 0 rfl) rfl
theorem q306 : (Jvm.Cond.code ({ cls := "java/lang/Exception", name := "<init>", desc := "(Ljava/lang/String;)V" } : Jvm.MethodName) prog_35_method_2_code (2 : Nat) (Option.none : Option Jvm.ClassFile.FieldType)) ∈ lw_all := lw_g (lw_at lw_m2 1 rfl) rfl
theorem q307 : (Jvm.Cond.methodLink "java/lang/Exception" (7 : Nat) ({ cls := "java/lang/Throwable", name := "<init>", desc := "(Ljava/lang/String;)V" } : Jvm.MethodName)) ∈ lw_all := lw_g (lw_at lw_m2 2 rfl) rfl
theorem q336 : (Jvm.Cond.superclass "java/lang/Exception" "java/lang/Throwable") ∈ lw_all := lw_g (lw_at lw_m2 31 rfl) rfl
theorem q364 : (Jvm.Cond.declares ({ cls := "java/lang/Exception", name := "<init>", desc := "()V" } : Jvm.MethodName)) ∈ lw_tbl := lw_at lw_m2 59 rfl
theorem q365 : (Jvm.Cond.declares ({ cls := "java/lang/Exception", name := "<init>", desc := "(Ljava/lang/String;)V" } : Jvm.MethodName)) ∈ lw_tbl := lw_at lw_m2 60 rfl
theorem q416 : (Jvm.Cond.instanceMethod ({ cls := "java/lang/Exception", name := "<init>", desc := "()V" } : Jvm.MethodName)) ∈ lw_all := lw_g (lw_at lw_m2 111 rfl) rfl
theorem q417 : (Jvm.Cond.code ({ cls := "java/lang/Exception", name := "<init>", desc := "()V" } : Jvm.MethodName) prog_35_method_1_code (1 : Nat) (Option.none : Option Jvm.ClassFile.FieldType)) ∈ lw_all := lw_g (lw_at lw_m2 112 rfl) rfl
theorem q418 : (Jvm.Cond.methodLink "java/lang/Exception" (1 : Nat) ({ cls := "java/lang/Throwable", name := "<init>", desc := "()V" } : Jvm.MethodName)) ∈ lw_all := lw_g (lw_at lw_m2 113 rfl) rfl
theorem q575 : (Jvm.Cond.instanceMethod ({ cls := "java/lang/Exception", name := "<init>", desc := "(Ljava/lang/String;Ljava/lang/Throwable;ZZ)V" } : Jvm.MethodName)) ∈ lw_all := lw_g (lw_at lw_m3 30 rfl) rfl
theorem q576 : (Jvm.Cond.code ({ cls := "java/lang/Exception", name := "<init>", desc := "(Ljava/lang/String;Ljava/lang/Throwable;ZZ)V" } : Jvm.MethodName) prog_35_method_5_code (5 : Nat) (Option.none : Option Jvm.ClassFile.FieldType)) ∈ lw_all := lw_g (lw_at lw_m3 31 rfl) rfl
theorem q577 : (Jvm.Cond.methodLink "java/lang/Exception" (16 : Nat) ({ cls := "java/lang/Throwable", name := "<init>", desc := "(Ljava/lang/String;Ljava/lang/Throwable;ZZ)V" } : Jvm.MethodName)) ∈ lw_all := lw_g (lw_at lw_m3 32 rfl) rfl

/-! java/lang/RuntimeException -/
set_option maxRecDepth 100000
def RJ5 : String := "java/lang/RuntimeException"
abbrev cJ5_init : ByteArray := prog_41_method_2_code
def yJ5_init : MethodName := ⟨RJ5, "<init>", "(Ljava/lang/String;)V"⟩
def dkwJ5_init_0 : List UInt8 := [42, 43, 183, 0, 7, 177]
abbrev dktJ5_init_0 : List UInt8 := dkwJ5_init_0 ++ []
theorem dksJ5_init_0 : cJ5_init.data.toList.drop 0 = dktJ5_init_0 := by decide +kernel
theorem dJ5_init_0 : decode cJ5_init 0 = .ok (.aload_n 0, 1) := dk_42 (dk_at dksJ5_init_0 0 rfl rfl)
theorem dJ5_init_1 : decode cJ5_init 1 = .ok (.aload_n 1, 1) := dk_43 (dk_at dksJ5_init_0 1 rfl rfl)
theorem dJ5_init_2 : decode cJ5_init 2 = .ok (.invokespecial 7, 3) := dk_183 0 7 (dk_at dksJ5_init_0 2 rfl rfl)
theorem dJ5_init_5 : decode cJ5_init 5 = .ok (.return_, 1) := dk_177 (dk_at dksJ5_init_0 5 rfl rfl)
abbrev cJ5_init_2 : ByteArray := prog_41_method_1_code
def yJ5_init_2 : MethodName := ⟨RJ5, "<init>", "()V"⟩
theorem dJ5_init_2_0 : decode cJ5_init_2 0 = .ok (.aload_n 0, 1) := by decide +kernel
theorem dJ5_init_2_1 : decode cJ5_init_2 1 = .ok (.invokespecial 1, 3) := by decide +kernel
theorem dJ5_init_2_4 : decode cJ5_init_2 4 = .ok (.return_, 1) := by decide +kernel
theorem q76 : (Jvm.Cond.initialized "java/lang/RuntimeException") ∈ lw_all := lw_g (lw_at lw_m1 11 rfl) rfl
theorem q302 : (Jvm.Cond.instanceMethod ({ cls := "java/lang/RuntimeException", name := "<init>", desc := "(Ljava/lang/String;)V" } : Jvm.MethodName)) ∈ lw_all := lw_g (lw_at lw_m1 237 rfl) rfl
theorem q303 : (Jvm.Cond.code ({ cls := "java/lang/RuntimeException", name := "<init>", desc := "(Ljava/lang/String;)V" } : Jvm.MethodName) prog_41_method_2_code (2 : Nat) (Option.none : Option Jvm.ClassFile.FieldType)) ∈ lw_all := lw_g (lw_at lw_m1 238 rfl) rfl
theorem q304 : (Jvm.Cond.methodLink "java/lang/RuntimeException" (7 : Nat) ({ cls := "java/lang/Exception", name := "<init>", desc := "(Ljava/lang/String;)V" } : Jvm.MethodName)) ∈ lw_all := lw_g (lw_at lw_m1 239 rfl) rfl
theorem q332 : (Jvm.Cond.sameMethod "java/lang/RuntimeException" "java/lang/Throwable" "fillInStackTrace" "()Ljava/lang/Throwable;") ∈ lw_all := lw_g (lw_at lw_m2 27 rfl) rfl
theorem q335 : (Jvm.Cond.superclass "java/lang/RuntimeException" "java/lang/Exception") ∈ lw_all := lw_g (lw_at lw_m2 30 rfl) rfl
theorem q362 : (Jvm.Cond.declares ({ cls := "java/lang/RuntimeException", name := "<init>", desc := "()V" } : Jvm.MethodName)) ∈ lw_tbl := lw_at lw_m2 57 rfl
theorem q363 : (Jvm.Cond.declares ({ cls := "java/lang/RuntimeException", name := "<init>", desc := "(Ljava/lang/String;)V" } : Jvm.MethodName)) ∈ lw_tbl := lw_at lw_m2 58 rfl
theorem q413 : (Jvm.Cond.instanceMethod ({ cls := "java/lang/RuntimeException", name := "<init>", desc := "()V" } : Jvm.MethodName)) ∈ lw_all := lw_g (lw_at lw_m2 108 rfl) rfl
theorem q414 : (Jvm.Cond.code ({ cls := "java/lang/RuntimeException", name := "<init>", desc := "()V" } : Jvm.MethodName) prog_41_method_1_code (1 : Nat) (Option.none : Option Jvm.ClassFile.FieldType)) ∈ lw_all := lw_g (lw_at lw_m2 109 rfl) rfl
theorem q415 : (Jvm.Cond.methodLink "java/lang/RuntimeException" (1 : Nat) ({ cls := "java/lang/Exception", name := "<init>", desc := "()V" } : Jvm.MethodName)) ∈ lw_all := lw_g (lw_at lw_m2 110 rfl) rfl
theorem q433 : (Jvm.Cond.castable "java/lang/RuntimeException" "java/lang/Throwable") ∈ lw_tbl := lw_at lw_m2 128 rfl

/-! java/lang/NegativeArraySizeException -/
set_option maxRecDepth 100000
def RJ6 : String := "java/lang/NegativeArraySizeException"
def TJ6 : u_T := fun k => match k with
  | 0 => ("java/lang/Throwable", "backtrace", "Ljava/lang/Object;", false)
  | 1 => ("java/lang/Throwable", "detailMessage", "Ljava/lang/String;", false)
  | 2 => ("java/lang/Throwable", "cause", "Ljava/lang/Throwable;", false)
  | 3 => ("java/lang/Throwable", "stackTrace", "[Ljava/lang/StackTraceElement;", false)
  | 4 => ("java/lang/Throwable", "depth", "I", false)
  | _ => ("java/lang/Throwable", "suppressedExceptions", "Ljava/util/List;", false)
def tyJ6 : Nat → FieldType := fun k => match k with
  | 0 => .object "java/lang/Object"
  | 1 => .object "java/lang/String"
  | 2 => .object "java/lang/Throwable"
  | 3 => .array (.object "java/lang/StackTraceElement")
  | 4 => .int
  | _ => .object "java/util/List"
abbrev wsJ60 : List Cond := u_ws RJ6 TJ6 6
theorem nmJ6 : ∀ a, a < 6 → ∀ b, b < 6 → a ≠ b → (TJ6 a).2.1 ≠ (TJ6 b).2.1 := by decide +kernel
theorem tyJ6_ok : ∀ k, k < 6 → parseFieldDescriptor (TJ6 k).2.2.1 = some (tyJ6 k) := by decide +kernel
abbrev cJ6_init : ByteArray := prog_39_method_2_code
def yJ6_init : MethodName := ⟨RJ6, "<init>", "(Ljava/lang/String;)V"⟩
def dkwJ6_init_0 : List UInt8 := [42, 43, 183, 0, 7, 177]
abbrev dktJ6_init_0 : List UInt8 := dkwJ6_init_0 ++ []
theorem dksJ6_init_0 : cJ6_init.data.toList.drop 0 = dktJ6_init_0 := by decide +kernel
theorem dJ6_init_0 : decode cJ6_init 0 = .ok (.aload_n 0, 1) := dk_42 (dk_at dksJ6_init_0 0 rfl rfl)
theorem dJ6_init_1 : decode cJ6_init 1 = .ok (.aload_n 1, 1) := dk_43 (dk_at dksJ6_init_0 1 rfl rfl)
theorem dJ6_init_2 : decode cJ6_init 2 = .ok (.invokespecial 7, 3) := dk_183 0 7 (dk_at dksJ6_init_0 2 rfl rfl)
theorem dJ6_init_5 : decode cJ6_init 5 = .ok (.return_, 1) := dk_177 (dk_at dksJ6_init_0 5 rfl rfl)
theorem q77 : (Jvm.Cond.initialized "java/lang/NegativeArraySizeException") ∈ lw_all := lw_g (lw_at lw_m1 12 rfl) rfl
theorem q298 : (Jvm.Cond.instantiable "java/lang/NegativeArraySizeException" (6 : Nat)) ∈ lw_all := lw_g (lw_at lw_m1 233 rfl) rfl
theorem q299 : (Jvm.Cond.instanceMethod ({ cls := "java/lang/NegativeArraySizeException", name := "<init>", desc := "(Ljava/lang/String;)V" } : Jvm.MethodName)) ∈ lw_all := lw_g (lw_at lw_m1 234 rfl) rfl
theorem q300 : (Jvm.Cond.code ({ cls := "java/lang/NegativeArraySizeException", name := "<init>", desc := "(Ljava/lang/String;)V" } : Jvm.MethodName) prog_39_method_2_code (2 : Nat) (Option.none : Option Jvm.ClassFile.FieldType)) ∈ lw_all := lw_g (lw_at lw_m1 235 rfl) rfl
theorem q301 : (Jvm.Cond.methodLink "java/lang/NegativeArraySizeException" (7 : Nat) ({ cls := "java/lang/RuntimeException", name := "<init>", desc := "(Ljava/lang/String;)V" } : Jvm.MethodName)) ∈ lw_all := lw_g (lw_at lw_m1 236 rfl) rfl
theorem q322 : (Jvm.Cond.selects "java/lang/NegativeArraySizeException" ({ cls := "java/lang/Throwable", name := "fillInStackTrace", desc := "()Ljava/lang/Throwable;" } : Jvm.MethodName) ({ cls := "java/lang/Throwable", name := "fillInStackTrace", desc := "()Ljava/lang/Throwable;" } : Jvm.MethodName)) ∈ lw_all := lw_g (lw_at lw_m2 17 rfl) rfl
theorem q348 : (Jvm.Cond.lays "java/lang/NegativeArraySizeException" "java/lang/Throwable" "backtrace" "Ljava/lang/Object;") ∈ lw_all := lw_g (lw_at lw_m2 43 rfl) rfl
theorem q350 : (Jvm.Cond.lays "java/lang/NegativeArraySizeException" "java/lang/Throwable" "detailMessage" "Ljava/lang/String;") ∈ lw_all := lw_g (lw_at lw_m2 45 rfl) rfl
theorem q352 : (Jvm.Cond.lays "java/lang/NegativeArraySizeException" "java/lang/Throwable" "cause" "Ljava/lang/Throwable;") ∈ lw_all := lw_g (lw_at lw_m2 47 rfl) rfl
theorem q354 : (Jvm.Cond.lays "java/lang/NegativeArraySizeException" "java/lang/Throwable" "stackTrace" "[Ljava/lang/StackTraceElement;") ∈ lw_all := lw_g (lw_at lw_m2 49 rfl) rfl
theorem q356 : (Jvm.Cond.lays "java/lang/NegativeArraySizeException" "java/lang/Throwable" "depth" "I") ∈ lw_all := lw_g (lw_at lw_m2 51 rfl) rfl
theorem q358 : (Jvm.Cond.lays "java/lang/NegativeArraySizeException" "java/lang/Throwable" "suppressedExceptions" "Ljava/util/List;") ∈ lw_all := lw_g (lw_at lw_m2 53 rfl) rfl
theorem q360 : (Jvm.Cond.superclass "java/lang/NegativeArraySizeException" "java/lang/RuntimeException") ∈ lw_all := lw_g (lw_at lw_m2 55 rfl) rfl
theorem q361 : (Jvm.Cond.castable "java/lang/NegativeArraySizeException" "java/lang/NegativeArraySizeException") ∈ lw_tbl := lw_at lw_m2 56 rfl
theorem q368 : (Jvm.Cond.selects "java/lang/NegativeArraySizeException" ({ cls := "java/lang/Throwable", name := "fillInStackTrace", desc := "(I)Ljava/lang/Throwable;" } : Jvm.MethodName) ({ cls := "java/lang/Throwable", name := "fillInStackTrace", desc := "(I)Ljava/lang/Throwable;" } : Jvm.MethodName)) ∈ lw_all := lw_g (lw_at lw_m2 63 rfl) rfl
theorem q816 : (Jvm.Cond.selects "java/lang/NegativeArraySizeException" ({ cls := "java/lang/Object", name := "getClass", desc := "()Ljava/lang/Class;" } : Jvm.MethodName) ({ cls := "java/lang/Object", name := "getClass", desc := "()Ljava/lang/Class;" } : Jvm.MethodName)) ∈ lw_all := lw_g (lw_at lw_m4 31 rfl) rfl
theorem q1904 : (Jvm.Cond.castable "java/lang/NegativeArraySizeException" "java/lang/Object") ∈ lw_tbl := lw_at lw_m8 159 rfl
theorem in_J6 : ∀ w ∈ wsJ60, w ∈ lw_all := lw_in wsJ60 [348, 350, 352, 354, 356, 358] (by decide +kernel) (by decide +kernel)

/-! java/lang/String -/
set_option maxRecDepth 100000
def RJ7 : String := "java/lang/String"
def TJ7 : u_T := fun k => match k with
  | 0 => ("java/lang/String", "value", "[B", true)
  | _ => ("java/lang/String", "coder", "B", true)
def tyJ7 : Nat → FieldType := fun k => match k with
  | 0 => .array .byte
  | _ => .byte
abbrev wsJ70 : List Cond := u_ws RJ7 TJ7 2
theorem nmJ7 : ∀ a, a < 2 → ∀ b, b < 2 → a ≠ b → (TJ7 a).2.1 ≠ (TJ7 b).2.1 := by decide +kernel
theorem tyJ7_ok : ∀ k, k < 2 → parseFieldDescriptor (TJ7 k).2.2.1 = some (tyJ7 k) := by decide +kernel
abbrev cJ7_indexOf : ByteArray := prog_42_method_79_code
def yJ7_indexOf : MethodName := ⟨RJ7, "indexOf", "(I)I"⟩
def dkwJ7_indexOf_0 : List UInt8 := [42, 27, 3, 182, 2, 121, 172]
abbrev dktJ7_indexOf_0 : List UInt8 := dkwJ7_indexOf_0 ++ []
theorem dksJ7_indexOf_0 : cJ7_indexOf.data.toList.drop 0 = dktJ7_indexOf_0 := by decide +kernel
theorem dJ7_indexOf_0 : decode cJ7_indexOf 0 = .ok (.aload_n 0, 1) := dk_42 (dk_at dksJ7_indexOf_0 0 rfl rfl)
theorem dJ7_indexOf_1 : decode cJ7_indexOf 1 = .ok (.iload_n 1, 1) := dk_27 (dk_at dksJ7_indexOf_0 1 rfl rfl)
theorem dJ7_indexOf_2 : decode cJ7_indexOf 2 = .ok (.iconst 0, 1) := dk_3 (dk_at dksJ7_indexOf_0 2 rfl rfl)
theorem dJ7_indexOf_3 : decode cJ7_indexOf 3 = .ok (.invokevirtual 633, 3) := dk_182 2 121 (dk_at dksJ7_indexOf_0 3 rfl rfl)
theorem dJ7_indexOf_6 : decode cJ7_indexOf 6 = .ok (.ireturn, 1) := dk_172 (dk_at dksJ7_indexOf_0 6 rfl rfl)
abbrev cJ7_indexOf_2 : ByteArray := prog_42_method_80_code
def yJ7_indexOf_2 : MethodName := ⟨RJ7, "indexOf", "(II)I"⟩
def dkwJ7_indexOf_2_1 : List UInt8 := [180, 0, 9, 27, 28, 42, 182, 1, 249, 184, 2, 128, 172]
abbrev dktJ7_indexOf_2_1 : List UInt8 := dkwJ7_indexOf_2_1 ++ []
def dkwJ7_indexOf_2_0 : List UInt8 := [42, 182, 1, 236, 153, 0, 19, 42, 180, 0, 9, 27, 28, 42, 182, 1, 249, 184, 2, 125, 167, 0, 16, 42]
abbrev dktJ7_indexOf_2_0 : List UInt8 := dkwJ7_indexOf_2_0 ++ dktJ7_indexOf_2_1
theorem dksJ7_indexOf_2_0 : cJ7_indexOf_2.data.toList.drop 0 = dktJ7_indexOf_2_0 := by decide +kernel
theorem dksJ7_indexOf_2_1 : cJ7_indexOf_2.data.toList.drop 24 = dktJ7_indexOf_2_1 := dk_seg dksJ7_indexOf_2_0 24 rfl rfl
theorem dJ7_indexOf_2_0 : decode cJ7_indexOf_2 0 = .ok (.aload_n 0, 1) := dk_42 (dk_at dksJ7_indexOf_2_0 0 rfl rfl)
theorem dJ7_indexOf_2_1 : decode cJ7_indexOf_2 1 = .ok (.invokevirtual 492, 3) := dk_182 1 236 (dk_at dksJ7_indexOf_2_0 1 rfl rfl)
theorem dJ7_indexOf_2_4 : decode cJ7_indexOf_2 4 = .ok (.ifCond .eq 19, 3) := dk_153 0 19 (dk_at dksJ7_indexOf_2_0 4 rfl rfl)
theorem dJ7_indexOf_2_7 : decode cJ7_indexOf_2 7 = .ok (.aload_n 0, 1) := dk_42 (dk_at dksJ7_indexOf_2_0 7 rfl rfl)
theorem dJ7_indexOf_2_8 : decode cJ7_indexOf_2 8 = .ok (.getfield 9, 3) := dk_180 0 9 (dk_at dksJ7_indexOf_2_0 8 rfl rfl)
theorem dJ7_indexOf_2_11 : decode cJ7_indexOf_2 11 = .ok (.iload_n 1, 1) := dk_27 (dk_at dksJ7_indexOf_2_0 11 rfl rfl)
theorem dJ7_indexOf_2_12 : decode cJ7_indexOf_2 12 = .ok (.iload_n 2, 1) := dk_28 (dk_at dksJ7_indexOf_2_0 12 rfl rfl)
theorem dJ7_indexOf_2_13 : decode cJ7_indexOf_2 13 = .ok (.aload_n 0, 1) := dk_42 (dk_at dksJ7_indexOf_2_0 13 rfl rfl)
theorem dJ7_indexOf_2_14 : decode cJ7_indexOf_2 14 = .ok (.invokevirtual 505, 3) := dk_182 1 249 (dk_at dksJ7_indexOf_2_0 14 rfl rfl)
theorem dJ7_indexOf_2_17 : decode cJ7_indexOf_2 17 = .ok (.invokestatic 637, 3) := dk_184 2 125 (dk_at dksJ7_indexOf_2_0 17 rfl rfl)
theorem dJ7_indexOf_2_20 : decode cJ7_indexOf_2 20 = .ok (.goto 16, 3) := dk_167 0 16 (dk_at dksJ7_indexOf_2_0 20 rfl rfl)
theorem dJ7_indexOf_2_23 : decode cJ7_indexOf_2 23 = .ok (.aload_n 0, 1) := dk_42 (dk_at dksJ7_indexOf_2_0 23 rfl rfl)
theorem dJ7_indexOf_2_24 : decode cJ7_indexOf_2 24 = .ok (.getfield 9, 3) := dk_180 0 9 (dk_at dksJ7_indexOf_2_1 0 rfl rfl)
theorem dJ7_indexOf_2_27 : decode cJ7_indexOf_2 27 = .ok (.iload_n 1, 1) := dk_27 (dk_at dksJ7_indexOf_2_1 3 rfl rfl)
theorem dJ7_indexOf_2_28 : decode cJ7_indexOf_2 28 = .ok (.iload_n 2, 1) := dk_28 (dk_at dksJ7_indexOf_2_1 4 rfl rfl)
theorem dJ7_indexOf_2_29 : decode cJ7_indexOf_2 29 = .ok (.aload_n 0, 1) := dk_42 (dk_at dksJ7_indexOf_2_1 5 rfl rfl)
theorem dJ7_indexOf_2_30 : decode cJ7_indexOf_2 30 = .ok (.invokevirtual 505, 3) := dk_182 1 249 (dk_at dksJ7_indexOf_2_1 6 rfl rfl)
theorem dJ7_indexOf_2_33 : decode cJ7_indexOf_2 33 = .ok (.invokestatic 640, 3) := dk_184 2 128 (dk_at dksJ7_indexOf_2_1 9 rfl rfl)
theorem dJ7_indexOf_2_36 : decode cJ7_indexOf_2 36 = .ok (.ireturn, 1) := dk_172 (dk_at dksJ7_indexOf_2_1 12 rfl rfl)
abbrev cJ7_isLatin1 : ByteArray := prog_42_method_154_code
def yJ7_isLatin1 : MethodName := ⟨RJ7, "isLatin1", "()Z"⟩
def dkwJ7_isLatin1_0 : List UInt8 := [178, 0, 38, 153, 0, 14, 42, 180, 0, 15, 154, 0, 7, 4, 167, 0, 4, 3, 172]
abbrev dktJ7_isLatin1_0 : List UInt8 := dkwJ7_isLatin1_0 ++ []
theorem dksJ7_isLatin1_0 : cJ7_isLatin1.data.toList.drop 0 = dktJ7_isLatin1_0 := by decide +kernel
theorem dJ7_isLatin1_0 : decode cJ7_isLatin1 0 = .ok (.getstatic 38, 3) := dk_178 0 38 (dk_at dksJ7_isLatin1_0 0 rfl rfl)
theorem dJ7_isLatin1_3 : decode cJ7_isLatin1 3 = .ok (.ifCond .eq 14, 3) := dk_153 0 14 (dk_at dksJ7_isLatin1_0 3 rfl rfl)
theorem dJ7_isLatin1_6 : decode cJ7_isLatin1 6 = .ok (.aload_n 0, 1) := dk_42 (dk_at dksJ7_isLatin1_0 6 rfl rfl)
theorem dJ7_isLatin1_7 : decode cJ7_isLatin1 7 = .ok (.getfield 15, 3) := dk_180 0 15 (dk_at dksJ7_isLatin1_0 7 rfl rfl)
theorem dJ7_isLatin1_10 : decode cJ7_isLatin1 10 = .ok (.ifCond .ne 7, 3) := dk_154 0 7 (dk_at dksJ7_isLatin1_0 10 rfl rfl)
theorem dJ7_isLatin1_13 : decode cJ7_isLatin1 13 = .ok (.iconst 1, 1) := dk_4 (dk_at dksJ7_isLatin1_0 13 rfl rfl)
theorem dJ7_isLatin1_14 : decode cJ7_isLatin1 14 = .ok (.goto 4, 3) := dk_167 0 4 (dk_at dksJ7_isLatin1_0 14 rfl rfl)
theorem dJ7_isLatin1_17 : decode cJ7_isLatin1 17 = .ok (.iconst 0, 1) := dk_3 (dk_at dksJ7_isLatin1_0 17 rfl rfl)
theorem dJ7_isLatin1_18 : decode cJ7_isLatin1 18 = .ok (.ireturn, 1) := dk_172 (dk_at dksJ7_isLatin1_0 18 rfl rfl)
abbrev cJ7_length : ByteArray := prog_42_method_54_code
def yJ7_length : MethodName := ⟨RJ7, "length", "()I"⟩
def dkwJ7_length_0 : List UInt8 := [42, 180, 0, 9, 190, 42, 182, 1, 79, 122, 172]
abbrev dktJ7_length_0 : List UInt8 := dkwJ7_length_0 ++ []
theorem dksJ7_length_0 : cJ7_length.data.toList.drop 0 = dktJ7_length_0 := by decide +kernel
theorem dJ7_length_0 : decode cJ7_length 0 = .ok (.aload_n 0, 1) := dk_42 (dk_at dksJ7_length_0 0 rfl rfl)
theorem dJ7_length_1 : decode cJ7_length 1 = .ok (.getfield 9, 3) := dk_180 0 9 (dk_at dksJ7_length_0 1 rfl rfl)
theorem dJ7_length_4 : decode cJ7_length 4 = .ok (.arraylength, 1) := dk_190 (dk_at dksJ7_length_0 4 rfl rfl)
theorem dJ7_length_5 : decode cJ7_length 5 = .ok (.aload_n 0, 1) := dk_42 (dk_at dksJ7_length_0 5 rfl rfl)
theorem dJ7_length_6 : decode cJ7_length 6 = .ok (.invokevirtual 335, 3) := dk_182 1 79 (dk_at dksJ7_length_0 6 rfl rfl)
theorem dJ7_length_9 : decode cJ7_length 9 = .ok (.ishr, 1) := dk_122 (dk_at dksJ7_length_0 9 rfl rfl)
theorem dJ7_length_10 : decode cJ7_length 10 = .ok (.ireturn, 1) := dk_172 (dk_at dksJ7_length_0 10 rfl rfl)
abbrev cJ7_coder : ByteArray := prog_42_method_152_code
def yJ7_coder : MethodName := ⟨RJ7, "coder", "()B"⟩
def dkwJ7_coder_0 : List UInt8 := [178, 0, 38, 153, 0, 10, 42, 180, 0, 15, 167, 0, 4, 4, 172]
abbrev dktJ7_coder_0 : List UInt8 := dkwJ7_coder_0 ++ []
theorem dksJ7_coder_0 : cJ7_coder.data.toList.drop 0 = dktJ7_coder_0 := by decide +kernel
theorem dJ7_coder_0 : decode cJ7_coder 0 = .ok (.getstatic 38, 3) := dk_178 0 38 (dk_at dksJ7_coder_0 0 rfl rfl)
theorem dJ7_coder_3 : decode cJ7_coder 3 = .ok (.ifCond .eq 10, 3) := dk_153 0 10 (dk_at dksJ7_coder_0 3 rfl rfl)
theorem dJ7_coder_6 : decode cJ7_coder 6 = .ok (.aload_n 0, 1) := dk_42 (dk_at dksJ7_coder_0 6 rfl rfl)
theorem dJ7_coder_7 : decode cJ7_coder 7 = .ok (.getfield 15, 3) := dk_180 0 15 (dk_at dksJ7_coder_0 7 rfl rfl)
theorem dJ7_coder_10 : decode cJ7_coder 10 = .ok (.goto 4, 3) := dk_167 0 4 (dk_at dksJ7_coder_0 10 rfl rfl)
theorem dJ7_coder_13 : decode cJ7_coder 13 = .ok (.iconst 1, 1) := dk_4 (dk_at dksJ7_coder_0 13 rfl rfl)
theorem dJ7_coder_14 : decode cJ7_coder 14 = .ok (.ireturn, 1) := dk_172 (dk_at dksJ7_coder_0 14 rfl rfl)
abbrev cJ7_checkBoundsBeginEnd : ByteArray := prog_42_method_158_code
def yJ7_checkBoundsBeginEnd : MethodName := ⟨RJ7, "checkBoundsBeginEnd", "(III)V"⟩
def dkwJ7_checkBoundsBeginEnd_0 : List UInt8 := [26, 27, 28, 178, 4, 29, 184, 4, 38, 87, 177]
abbrev dktJ7_checkBoundsBeginEnd_0 : List UInt8 := dkwJ7_checkBoundsBeginEnd_0 ++ []
theorem dksJ7_checkBoundsBeginEnd_0 : cJ7_checkBoundsBeginEnd.data.toList.drop 0 = dktJ7_checkBoundsBeginEnd_0 := by decide +kernel
theorem dJ7_checkBoundsBeginEnd_0 : decode cJ7_checkBoundsBeginEnd 0 = .ok (.iload_n 0, 1) := dk_26 (dk_at dksJ7_checkBoundsBeginEnd_0 0 rfl rfl)
theorem dJ7_checkBoundsBeginEnd_1 : decode cJ7_checkBoundsBeginEnd 1 = .ok (.iload_n 1, 1) := dk_27 (dk_at dksJ7_checkBoundsBeginEnd_0 1 rfl rfl)
theorem dJ7_checkBoundsBeginEnd_2 : decode cJ7_checkBoundsBeginEnd 2 = .ok (.iload_n 2, 1) := dk_28 (dk_at dksJ7_checkBoundsBeginEnd_0 2 rfl rfl)
theorem dJ7_checkBoundsBeginEnd_3 : decode cJ7_checkBoundsBeginEnd 3 = .ok (.getstatic 1053, 3) := dk_178 4 29 (dk_at dksJ7_checkBoundsBeginEnd_0 3 rfl rfl)
theorem dJ7_checkBoundsBeginEnd_6 : decode cJ7_checkBoundsBeginEnd 6 = .ok (.invokestatic 1062, 3) := dk_184 4 38 (dk_at dksJ7_checkBoundsBeginEnd_0 6 rfl rfl)
theorem dJ7_checkBoundsBeginEnd_9 : decode cJ7_checkBoundsBeginEnd 9 = .ok (.pop, 1) := dk_87 (dk_at dksJ7_checkBoundsBeginEnd_0 9 rfl rfl)
theorem dJ7_checkBoundsBeginEnd_10 : decode cJ7_checkBoundsBeginEnd 10 = .ok (.return_, 1) := dk_177 (dk_at dksJ7_checkBoundsBeginEnd_0 10 rfl rfl)
theorem q78 : (Jvm.Cond.initialized "java/lang/String") ∈ lw_all := lw_g (lw_at lw_m1 13 rfl) rfl
theorem q378 : (Jvm.Cond.instantiable "java/lang/String" (4 : Nat)) ∈ lw_all := lw_g (lw_at lw_m2 73 rfl) rfl
theorem q379 : (Jvm.Cond.laysFinal "java/lang/String" "java/lang/String" "value" "[B") ∈ lw_all := lw_g (lw_at lw_m2 74 rfl) rfl
theorem q380 : (Jvm.Cond.soleField "java/lang/String" "value") ∈ lw_all := lw_g (lw_at lw_m2 75 rfl) rfl
theorem q381 : (Jvm.Cond.laysFinal "java/lang/String" "java/lang/String" "coder" "B") ∈ lw_all := lw_g (lw_at lw_m2 76 rfl) rfl
theorem q382 : (Jvm.Cond.soleField "java/lang/String" "coder") ∈ lw_all := lw_g (lw_at lw_m2 77 rfl) rfl
theorem q600 : (Jvm.Cond.instanceMethod ({ cls := "java/lang/String", name := "indexOf", desc := "(I)I" } : Jvm.MethodName)) ∈ lw_all := lw_g (lw_at lw_m3 55 rfl) rfl
theorem q601 : (Jvm.Cond.selects "java/lang/String" ({ cls := "java/lang/String", name := "indexOf", desc := "(I)I" } : Jvm.MethodName) ({ cls := "java/lang/String", name := "indexOf", desc := "(I)I" } : Jvm.MethodName)) ∈ lw_all := lw_g (lw_at lw_m3 56 rfl) rfl
theorem q602 : (Jvm.Cond.code ({ cls := "java/lang/String", name := "indexOf", desc := "(I)I" } : Jvm.MethodName) prog_42_method_79_code (2 : Nat) (Option.some Jvm.ClassFile.FieldType.int)) ∈ lw_all := lw_g (lw_at lw_m3 57 rfl) rfl
theorem q603 : (Jvm.Cond.methodLink "java/lang/String" (633 : Nat) ({ cls := "java/lang/String", name := "indexOf", desc := "(II)I" } : Jvm.MethodName)) ∈ lw_all := lw_g (lw_at lw_m3 58 rfl) rfl
theorem q604 : (Jvm.Cond.instanceMethod ({ cls := "java/lang/String", name := "indexOf", desc := "(II)I" } : Jvm.MethodName)) ∈ lw_all := lw_g (lw_at lw_m3 59 rfl) rfl
theorem q605 : (Jvm.Cond.selects "java/lang/String" ({ cls := "java/lang/String", name := "indexOf", desc := "(II)I" } : Jvm.MethodName) ({ cls := "java/lang/String", name := "indexOf", desc := "(II)I" } : Jvm.MethodName)) ∈ lw_all := lw_g (lw_at lw_m3 60 rfl) rfl
theorem q606 : (Jvm.Cond.code ({ cls := "java/lang/String", name := "indexOf", desc := "(II)I" } : Jvm.MethodName) prog_42_method_80_code (3 : Nat) (Option.some Jvm.ClassFile.FieldType.int)) ∈ lw_all := lw_g (lw_at lw_m3 61 rfl) rfl
theorem q607 : (Jvm.Cond.methodLink "java/lang/String" (492 : Nat) ({ cls := "java/lang/String", name := "isLatin1", desc := "()Z" } : Jvm.MethodName)) ∈ lw_all := lw_g (lw_at lw_m3 62 rfl) rfl
theorem q608 : (Jvm.Cond.instanceMethod ({ cls := "java/lang/String", name := "isLatin1", desc := "()Z" } : Jvm.MethodName)) ∈ lw_all := lw_g (lw_at lw_m3 63 rfl) rfl
theorem q609 : (Jvm.Cond.selects "java/lang/String" ({ cls := "java/lang/String", name := "isLatin1", desc := "()Z" } : Jvm.MethodName) ({ cls := "java/lang/String", name := "isLatin1", desc := "()Z" } : Jvm.MethodName)) ∈ lw_all := lw_g (lw_at lw_m3 64 rfl) rfl
theorem q610 : (Jvm.Cond.code ({ cls := "java/lang/String", name := "isLatin1", desc := "()Z" } : Jvm.MethodName) prog_42_method_154_code (1 : Nat) (Option.some Jvm.ClassFile.FieldType.boolean)) ∈ lw_all := lw_g (lw_at lw_m3 65 rfl) rfl
theorem q611 : (Jvm.Cond.fieldLink "java/lang/String" (38 : Nat) "java/lang/String" "COMPACT_STRINGS" "Z") ∈ lw_all := lw_g (lw_at lw_m3 66 rfl) rfl
theorem q612 : (Jvm.Cond.laysStatic "java/lang/String" "COMPACT_STRINGS" "Z") ∈ lw_tbl := lw_at lw_m3 67 rfl
theorem q613 : (Jvm.Cond.methodLink "java/lang/String" (505 : Nat) ({ cls := "java/lang/String", name := "length", desc := "()I" } : Jvm.MethodName)) ∈ lw_all := lw_g (lw_at lw_m3 68 rfl) rfl
theorem q614 : (Jvm.Cond.instanceMethod ({ cls := "java/lang/String", name := "length", desc := "()I" } : Jvm.MethodName)) ∈ lw_all := lw_g (lw_at lw_m3 69 rfl) rfl
theorem q615 : (Jvm.Cond.selects "java/lang/String" ({ cls := "java/lang/String", name := "length", desc := "()I" } : Jvm.MethodName) ({ cls := "java/lang/String", name := "length", desc := "()I" } : Jvm.MethodName)) ∈ lw_all := lw_g (lw_at lw_m3 70 rfl) rfl
theorem q616 : (Jvm.Cond.code ({ cls := "java/lang/String", name := "length", desc := "()I" } : Jvm.MethodName) prog_42_method_54_code (1 : Nat) (Option.some Jvm.ClassFile.FieldType.int)) ∈ lw_all := lw_g (lw_at lw_m3 71 rfl) rfl
theorem q617 : (Jvm.Cond.methodLink "java/lang/String" (335 : Nat) ({ cls := "java/lang/String", name := "coder", desc := "()B" } : Jvm.MethodName)) ∈ lw_all := lw_g (lw_at lw_m3 72 rfl) rfl
theorem q618 : (Jvm.Cond.instanceMethod ({ cls := "java/lang/String", name := "coder", desc := "()B" } : Jvm.MethodName)) ∈ lw_all := lw_g (lw_at lw_m3 73 rfl) rfl
theorem q619 : (Jvm.Cond.selects "java/lang/String" ({ cls := "java/lang/String", name := "coder", desc := "()B" } : Jvm.MethodName) ({ cls := "java/lang/String", name := "coder", desc := "()B" } : Jvm.MethodName)) ∈ lw_all := lw_g (lw_at lw_m3 74 rfl) rfl
theorem q620 : (Jvm.Cond.code ({ cls := "java/lang/String", name := "coder", desc := "()B" } : Jvm.MethodName) prog_42_method_152_code (1 : Nat) (Option.some Jvm.ClassFile.FieldType.byte)) ∈ lw_all := lw_g (lw_at lw_m3 75 rfl) rfl
theorem q621 : (Jvm.Cond.methodLink "java/lang/String" (637 : Nat) ({ cls := "java/lang/StringLatin1", name := "indexOf", desc := "([BIII)I" } : Jvm.MethodName)) ∈ lw_all := lw_g (lw_at lw_m3 76 rfl) rfl
theorem q636 : (Jvm.Cond.methodLink "java/lang/String" (640 : Nat) ({ cls := "java/lang/StringUTF16", name := "indexOf", desc := "([BIII)I" } : Jvm.MethodName)) ∈ lw_all := lw_g (lw_at lw_m3 91 rfl) rfl
theorem q652 : (Jvm.Cond.static ({ cls := "java/lang/String", name := "checkBoundsBeginEnd", desc := "(III)V" } : Jvm.MethodName)) ∈ lw_all := lw_g (lw_at lw_m3 107 rfl) rfl
theorem q653 : (Jvm.Cond.code ({ cls := "java/lang/String", name := "checkBoundsBeginEnd", desc := "(III)V" } : Jvm.MethodName) prog_42_method_158_code (3 : Nat) (Option.none : Option Jvm.ClassFile.FieldType)) ∈ lw_all := lw_g (lw_at lw_m3 108 rfl) rfl
theorem q654 : (Jvm.Cond.fieldLink "java/lang/String" (1053 : Nat) "jdk/internal/util/Preconditions" "SIOOBE_FORMATTER" "Ljava/util/function/BiFunction;") ∈ lw_all := lw_g (lw_at lw_m3 109 rfl) rfl
theorem q656 : (Jvm.Cond.methodLink "java/lang/String" (1062 : Nat) ({ cls := "jdk/internal/util/Preconditions", name := "checkFromToIndex", desc := "(IIILjava/util/function/BiFunction;)I" } : Jvm.MethodName)) ∈ lw_all := lw_g (lw_at lw_m3 111 rfl) rfl
theorem q1925 : (Jvm.Cond.castable "java/lang/String" "java/lang/Object") ∈ lw_tbl := lw_at lw_m8 180 rfl
theorem q1936 : (Jvm.Cond.fieldLink "java/lang/String" (15 : Nat) "java/lang/String" "coder" "B") ∈ lw_all := lw_g (lw_at lw_m8 191 rfl) rfl
theorem q1937 : (Jvm.Cond.fieldLink "java/lang/String" (9 : Nat) "java/lang/String" "value" "[B") ∈ lw_all := lw_g (lw_at lw_m8 192 rfl) rfl
theorem in_J7 : ∀ w ∈ wsJ70, w ∈ lw_all := lw_in wsJ70 [379, 381] (by decide +kernel) (by decide +kernel)

/-! java/lang/NullPointerException -/
set_option maxRecDepth 100000
def RJ8 : String := "java/lang/NullPointerException"
def TJ8 : u_T := fun k => match k with
  | 0 => ("java/lang/Throwable", "backtrace", "Ljava/lang/Object;", false)
  | 1 => ("java/lang/Throwable", "detailMessage", "Ljava/lang/String;", false)
  | 2 => ("java/lang/Throwable", "cause", "Ljava/lang/Throwable;", false)
  | 3 => ("java/lang/Throwable", "stackTrace", "[Ljava/lang/StackTraceElement;", false)
  | 4 => ("java/lang/Throwable", "depth", "I", false)
  | 5 => ("java/lang/Throwable", "suppressedExceptions", "Ljava/util/List;", false)
  | 6 => ("java/lang/NullPointerException", "extendedMessageState", "I", false)
  | _ => ("java/lang/NullPointerException", "extendedMessage", "Ljava/lang/String;", false)
def tyJ8 : Nat → FieldType := fun k => match k with
  | 0 => .object "java/lang/Object"
  | 1 => .object "java/lang/String"
  | 2 => .object "java/lang/Throwable"
  | 3 => .array (.object "java/lang/StackTraceElement")
  | 4 => .int
  | 5 => .object "java/util/List"
  | 6 => .int
  | _ => .object "java/lang/String"
abbrev wsJ80 : List Cond := u_ws RJ8 TJ8 8
theorem nmJ8 : ∀ a, a < 8 → ∀ b, b < 8 → a ≠ b → (TJ8 a).2.1 ≠ (TJ8 b).2.1 := by decide +kernel
theorem tyJ8_ok : ∀ k, k < 8 → parseFieldDescriptor (TJ8 k).2.2.1 = some (tyJ8 k) := by decide +kernel
abbrev cJ8_init : ByteArray := prog_40_method_1_code
def yJ8_init : MethodName := ⟨RJ8, "<init>", "()V"⟩
theorem dJ8_init_0 : decode cJ8_init 0 = .ok (.aload_n 0, 1) := by decide +kernel
theorem dJ8_init_1 : decode cJ8_init 1 = .ok (.invokespecial 1, 3) := by decide +kernel
theorem dJ8_init_4 : decode cJ8_init 4 = .ok (.return_, 1) := by decide +kernel
theorem q79 : (Jvm.Cond.initialized "java/lang/NullPointerException") ∈ lw_all := lw_g (lw_at lw_m1 14 rfl) rfl
theorem q323 : (Jvm.Cond.selects "java/lang/NullPointerException" ({ cls := "java/lang/Throwable", name := "fillInStackTrace", desc := "()Ljava/lang/Throwable;" } : Jvm.MethodName) ({ cls := "java/lang/NullPointerException", name := "fillInStackTrace", desc := "()Ljava/lang/Throwable;" } : Jvm.MethodName)) ∈ lw_all := lw_g (lw_at lw_m2 18 rfl) rfl
theorem q324 : (Jvm.Cond.instanceMethod ({ cls := "java/lang/NullPointerException", name := "fillInStackTrace", desc := "()Ljava/lang/Throwable;" } : Jvm.MethodName)) ∈ lw_all := lw_g (lw_at lw_m2 19 rfl) rfl
theorem q325 : (Jvm.Cond.codeSync ({ cls := "java/lang/NullPointerException", name := "fillInStackTrace", desc := "()Ljava/lang/Throwable;" } : Jvm.MethodName) prog_40_method_3_code (1 : Nat) (Option.some (Jvm.ClassFile.FieldType.object "java/lang/Throwable"))) ∈ lw_all := lw_g (lw_at lw_m2 20 rfl) rfl
theorem q326 : (Jvm.Cond.methodLink "java/lang/NullPointerException" (16 : Nat) ({ cls := "java/lang/NullPointerException", name := "getExtendedNPEMessage", desc := "()Ljava/lang/String;" } : Jvm.MethodName)) ∈ lw_all := lw_g (lw_at lw_m2 21 rfl) rfl
theorem q327 : (Jvm.Cond.privateMethod ({ cls := "java/lang/NullPointerException", name := "getExtendedNPEMessage", desc := "()Ljava/lang/String;" } : Jvm.MethodName)) ∈ lw_tbl := lw_at lw_m2 22 rfl
theorem q328 : (Jvm.Cond.instanceMethod ({ cls := "java/lang/NullPointerException", name := "getExtendedNPEMessage", desc := "()Ljava/lang/String;" } : Jvm.MethodName)) ∈ lw_all := lw_g (lw_at lw_m2 23 rfl) rfl
theorem q329 : (Jvm.Cond.instantiable "java/lang/NullPointerException" (8 : Nat)) ∈ lw_all := lw_g (lw_at lw_m2 24 rfl) rfl
theorem q330 : (Jvm.Cond.native ({ cls := "java/lang/NullPointerException", name := "getExtendedNPEMessage", desc := "()Ljava/lang/String;" } : Jvm.MethodName)) ∈ lw_all := lw_g (lw_at lw_m2 25 rfl) rfl
theorem q331 : (Jvm.Cond.methodLink "java/lang/NullPointerException" (24 : Nat) ({ cls := "java/lang/RuntimeException", name := "fillInStackTrace", desc := "()Ljava/lang/Throwable;" } : Jvm.MethodName)) ∈ lw_all := lw_g (lw_at lw_m2 26 rfl) rfl
theorem q334 : (Jvm.Cond.superclass "java/lang/NullPointerException" "java/lang/RuntimeException") ∈ lw_all := lw_g (lw_at lw_m2 29 rfl) rfl
theorem q410 : (Jvm.Cond.instanceMethod ({ cls := "java/lang/NullPointerException", name := "<init>", desc := "()V" } : Jvm.MethodName)) ∈ lw_all := lw_g (lw_at lw_m2 105 rfl) rfl
theorem q411 : (Jvm.Cond.code ({ cls := "java/lang/NullPointerException", name := "<init>", desc := "()V" } : Jvm.MethodName) prog_40_method_1_code (1 : Nat) (Option.none : Option Jvm.ClassFile.FieldType)) ∈ lw_all := lw_g (lw_at lw_m2 106 rfl) rfl
theorem q412 : (Jvm.Cond.methodLink "java/lang/NullPointerException" (1 : Nat) ({ cls := "java/lang/RuntimeException", name := "<init>", desc := "()V" } : Jvm.MethodName)) ∈ lw_all := lw_g (lw_at lw_m2 107 rfl) rfl
theorem q419 : (Jvm.Cond.fieldLink "java/lang/NullPointerException" (10 : Nat) "java/lang/NullPointerException" "extendedMessageState" "I") ∈ lw_all := lw_g (lw_at lw_m2 114 rfl) rfl
theorem q420 : (Jvm.Cond.fieldLink "java/lang/NullPointerException" (20 : Nat) "java/lang/NullPointerException" "extendedMessage" "Ljava/lang/String;") ∈ lw_all := lw_g (lw_at lw_m2 115 rfl) rfl
theorem q421 : (Jvm.Cond.lays "java/lang/NullPointerException" "java/lang/NullPointerException" "extendedMessageState" "I") ∈ lw_all := lw_g (lw_at lw_m2 116 rfl) rfl
theorem q422 : (Jvm.Cond.soleField "java/lang/NullPointerException" "extendedMessageState") ∈ lw_all := lw_g (lw_at lw_m2 117 rfl) rfl
theorem q423 : (Jvm.Cond.lays "java/lang/NullPointerException" "java/lang/NullPointerException" "extendedMessage" "Ljava/lang/String;") ∈ lw_all := lw_g (lw_at lw_m2 118 rfl) rfl
theorem q424 : (Jvm.Cond.soleField "java/lang/NullPointerException" "extendedMessage") ∈ lw_all := lw_g (lw_at lw_m2 119 rfl) rfl
theorem q425 : (Jvm.Cond.lays "java/lang/NullPointerException" "java/lang/Throwable" "backtrace" "Ljava/lang/Object;") ∈ lw_all := lw_g (lw_at lw_m2 120 rfl) rfl
theorem q426 : (Jvm.Cond.lays "java/lang/NullPointerException" "java/lang/Throwable" "detailMessage" "Ljava/lang/String;") ∈ lw_all := lw_g (lw_at lw_m2 121 rfl) rfl
theorem q427 : (Jvm.Cond.lays "java/lang/NullPointerException" "java/lang/Throwable" "cause" "Ljava/lang/Throwable;") ∈ lw_all := lw_g (lw_at lw_m2 122 rfl) rfl
theorem q428 : (Jvm.Cond.lays "java/lang/NullPointerException" "java/lang/Throwable" "stackTrace" "[Ljava/lang/StackTraceElement;") ∈ lw_all := lw_g (lw_at lw_m2 123 rfl) rfl
theorem q429 : (Jvm.Cond.lays "java/lang/NullPointerException" "java/lang/Throwable" "depth" "I") ∈ lw_all := lw_g (lw_at lw_m2 124 rfl) rfl
theorem q430 : (Jvm.Cond.lays "java/lang/NullPointerException" "java/lang/Throwable" "suppressedExceptions" "Ljava/util/List;") ∈ lw_all := lw_g (lw_at lw_m2 125 rfl) rfl
theorem q431 : (Jvm.Cond.castable "java/lang/NullPointerException" "java/lang/NullPointerException") ∈ lw_tbl := lw_at lw_m2 126 rfl
theorem q432 : (Jvm.Cond.selects "java/lang/NullPointerException" ({ cls := "java/lang/Throwable", name := "fillInStackTrace", desc := "(I)Ljava/lang/Throwable;" } : Jvm.MethodName) ({ cls := "java/lang/Throwable", name := "fillInStackTrace", desc := "(I)Ljava/lang/Throwable;" } : Jvm.MethodName)) ∈ lw_all := lw_g (lw_at lw_m2 127 rfl) rfl
theorem q817 : (Jvm.Cond.selects "java/lang/NullPointerException" ({ cls := "java/lang/Object", name := "getClass", desc := "()Ljava/lang/Class;" } : Jvm.MethodName) ({ cls := "java/lang/Object", name := "getClass", desc := "()Ljava/lang/Class;" } : Jvm.MethodName)) ∈ lw_all := lw_g (lw_at lw_m4 32 rfl) rfl
theorem q1905 : (Jvm.Cond.castable "java/lang/NullPointerException" "java/lang/Object") ∈ lw_tbl := lw_at lw_m8 160 rfl
theorem in_J8 : ∀ w ∈ wsJ80, w ∈ lw_all := lw_in wsJ80 [425, 426, 427, 428, 429, 430, 421, 423] (by decide +kernel) (by decide +kernel)

/-! java/lang/IndexOutOfBoundsException -/
set_option maxRecDepth 100000
def RJ9 : String := "java/lang/IndexOutOfBoundsException"
abbrev cJ9_init : ByteArray := prog_36_method_2_code
def yJ9_init : MethodName := ⟨RJ9, "<init>", "(Ljava/lang/String;)V"⟩
def dkwJ9_init_0 : List UInt8 := [42, 43, 183, 0, 7, 177]
abbrev dktJ9_init_0 : List UInt8 := dkwJ9_init_0 ++ []
theorem dksJ9_init_0 : cJ9_init.data.toList.drop 0 = dktJ9_init_0 := by decide +kernel
theorem dJ9_init_0 : decode cJ9_init 0 = .ok (.aload_n 0, 1) := dk_42 (dk_at dksJ9_init_0 0 rfl rfl)
theorem dJ9_init_1 : decode cJ9_init 1 = .ok (.aload_n 1, 1) := dk_43 (dk_at dksJ9_init_0 1 rfl rfl)
theorem dJ9_init_2 : decode cJ9_init 2 = .ok (.invokespecial 7, 3) := dk_183 0 7 (dk_at dksJ9_init_0 2 rfl rfl)
theorem dJ9_init_5 : decode cJ9_init 5 = .ok (.return_, 1) := dk_177 (dk_at dksJ9_init_0 5 rfl rfl)
abbrev cJ9_init_2 : ByteArray := prog_36_method_1_code
def yJ9_init_2 : MethodName := ⟨RJ9, "<init>", "()V"⟩
theorem dJ9_init_2_0 : decode cJ9_init_2 0 = .ok (.aload_n 0, 1) := by decide +kernel
theorem dJ9_init_2_1 : decode cJ9_init_2 1 = .ok (.invokespecial 1, 3) := by decide +kernel
theorem dJ9_init_2_4 : decode cJ9_init_2 4 = .ok (.return_, 1) := by decide +kernel
theorem q80 : (Jvm.Cond.initialized "java/lang/IndexOutOfBoundsException") ∈ lw_all := lw_g (lw_at lw_m1 15 rfl) rfl
theorem q439 : (Jvm.Cond.instanceMethod ({ cls := "java/lang/IndexOutOfBoundsException", name := "<init>", desc := "(Ljava/lang/String;)V" } : Jvm.MethodName)) ∈ lw_all := lw_g (lw_at lw_m2 134 rfl) rfl
theorem q440 : (Jvm.Cond.code ({ cls := "java/lang/IndexOutOfBoundsException", name := "<init>", desc := "(Ljava/lang/String;)V" } : Jvm.MethodName) prog_36_method_2_code (2 : Nat) (Option.none : Option Jvm.ClassFile.FieldType)) ∈ lw_all := lw_g (lw_at lw_m2 135 rfl) rfl
theorem q441 : (Jvm.Cond.methodLink "java/lang/IndexOutOfBoundsException" (7 : Nat) ({ cls := "java/lang/RuntimeException", name := "<init>", desc := "(Ljava/lang/String;)V" } : Jvm.MethodName)) ∈ lw_all := lw_g (lw_at lw_m2 136 rfl) rfl
theorem q450 : (Jvm.Cond.declares ({ cls := "java/lang/IndexOutOfBoundsException", name := "<init>", desc := "()V" } : Jvm.MethodName)) ∈ lw_tbl := lw_at lw_m2 145 rfl
theorem q451 : (Jvm.Cond.declares ({ cls := "java/lang/IndexOutOfBoundsException", name := "<init>", desc := "(Ljava/lang/String;)V" } : Jvm.MethodName)) ∈ lw_tbl := lw_at lw_m2 146 rfl
theorem q1175 : (Jvm.Cond.instanceMethod ({ cls := "java/lang/IndexOutOfBoundsException", name := "<init>", desc := "()V" } : Jvm.MethodName)) ∈ lw_all := lw_g (lw_at lw_m5 150 rfl) rfl
theorem q1176 : (Jvm.Cond.code ({ cls := "java/lang/IndexOutOfBoundsException", name := "<init>", desc := "()V" } : Jvm.MethodName) prog_36_method_1_code (1 : Nat) (Option.none : Option Jvm.ClassFile.FieldType)) ∈ lw_all := lw_g (lw_at lw_m5 151 rfl) rfl
theorem q1177 : (Jvm.Cond.methodLink "java/lang/IndexOutOfBoundsException" (1 : Nat) ({ cls := "java/lang/RuntimeException", name := "<init>", desc := "()V" } : Jvm.MethodName)) ∈ lw_all := lw_g (lw_at lw_m5 152 rfl) rfl

/-! java/lang/ArrayIndexOutOfBoundsException -/
set_option maxRecDepth 100000
def RJ10 : String := "java/lang/ArrayIndexOutOfBoundsException"
def TJ10 : u_T := fun k => match k with
  | 0 => ("java/lang/Throwable", "backtrace", "Ljava/lang/Object;", false)
  | 1 => ("java/lang/Throwable", "detailMessage", "Ljava/lang/String;", false)
  | 2 => ("java/lang/Throwable", "cause", "Ljava/lang/Throwable;", false)
  | 3 => ("java/lang/Throwable", "stackTrace", "[Ljava/lang/StackTraceElement;", false)
  | 4 => ("java/lang/Throwable", "depth", "I", false)
  | _ => ("java/lang/Throwable", "suppressedExceptions", "Ljava/util/List;", false)
def tyJ10 : Nat → FieldType := fun k => match k with
  | 0 => .object "java/lang/Object"
  | 1 => .object "java/lang/String"
  | 2 => .object "java/lang/Throwable"
  | 3 => .array (.object "java/lang/StackTraceElement")
  | 4 => .int
  | _ => .object "java/util/List"
abbrev wsJ100 : List Cond := u_ws RJ10 TJ10 6
theorem nmJ10 : ∀ a, a < 6 → ∀ b, b < 6 → a ≠ b → (TJ10 a).2.1 ≠ (TJ10 b).2.1 := by decide +kernel
theorem tyJ10_ok : ∀ k, k < 6 → parseFieldDescriptor (TJ10 k).2.2.1 = some (tyJ10 k) := by decide +kernel
abbrev cJ10_init : ByteArray := prog_28_method_2_code
def yJ10_init : MethodName := ⟨RJ10, "<init>", "(Ljava/lang/String;)V"⟩
def dkwJ10_init_0 : List UInt8 := [42, 43, 183, 0, 7, 177]
abbrev dktJ10_init_0 : List UInt8 := dkwJ10_init_0 ++ []
theorem dksJ10_init_0 : cJ10_init.data.toList.drop 0 = dktJ10_init_0 := by decide +kernel
theorem dJ10_init_0 : decode cJ10_init 0 = .ok (.aload_n 0, 1) := dk_42 (dk_at dksJ10_init_0 0 rfl rfl)
theorem dJ10_init_1 : decode cJ10_init 1 = .ok (.aload_n 1, 1) := dk_43 (dk_at dksJ10_init_0 1 rfl rfl)
theorem dJ10_init_2 : decode cJ10_init 2 = .ok (.invokespecial 7, 3) := dk_183 0 7 (dk_at dksJ10_init_0 2 rfl rfl)
theorem dJ10_init_5 : decode cJ10_init 5 = .ok (.return_, 1) := dk_177 (dk_at dksJ10_init_0 5 rfl rfl)
abbrev cJ10_init_2 : ByteArray := prog_28_method_1_code
def yJ10_init_2 : MethodName := ⟨RJ10, "<init>", "()V"⟩
theorem dJ10_init_2_0 : decode cJ10_init_2 0 = .ok (.aload_n 0, 1) := by decide +kernel
theorem dJ10_init_2_1 : decode cJ10_init_2 1 = .ok (.invokespecial 1, 3) := by decide +kernel
theorem dJ10_init_2_4 : decode cJ10_init_2 4 = .ok (.return_, 1) := by decide +kernel
theorem q81 : (Jvm.Cond.initialized "java/lang/ArrayIndexOutOfBoundsException") ∈ lw_all := lw_g (lw_at lw_m1 16 rfl) rfl
theorem q319 : (Jvm.Cond.selects "java/lang/ArrayIndexOutOfBoundsException" ({ cls := "java/lang/Throwable", name := "fillInStackTrace", desc := "()Ljava/lang/Throwable;" } : Jvm.MethodName) ({ cls := "java/lang/Throwable", name := "fillInStackTrace", desc := "()Ljava/lang/Throwable;" } : Jvm.MethodName)) ∈ lw_all := lw_g (lw_at lw_m2 14 rfl) rfl
theorem q435 : (Jvm.Cond.instantiable "java/lang/ArrayIndexOutOfBoundsException" (6 : Nat)) ∈ lw_all := lw_g (lw_at lw_m2 130 rfl) rfl
theorem q436 : (Jvm.Cond.instanceMethod ({ cls := "java/lang/ArrayIndexOutOfBoundsException", name := "<init>", desc := "(Ljava/lang/String;)V" } : Jvm.MethodName)) ∈ lw_all := lw_g (lw_at lw_m2 131 rfl) rfl
theorem q437 : (Jvm.Cond.code ({ cls := "java/lang/ArrayIndexOutOfBoundsException", name := "<init>", desc := "(Ljava/lang/String;)V" } : Jvm.MethodName) prog_28_method_2_code (2 : Nat) (Option.none : Option Jvm.ClassFile.FieldType)) ∈ lw_all := lw_g (lw_at lw_m2 132 rfl) rfl
theorem q438 : (Jvm.Cond.methodLink "java/lang/ArrayIndexOutOfBoundsException" (7 : Nat) ({ cls := "java/lang/IndexOutOfBoundsException", name := "<init>", desc := "(Ljava/lang/String;)V" } : Jvm.MethodName)) ∈ lw_all := lw_g (lw_at lw_m2 133 rfl) rfl
theorem q442 : (Jvm.Cond.lays "java/lang/ArrayIndexOutOfBoundsException" "java/lang/Throwable" "backtrace" "Ljava/lang/Object;") ∈ lw_all := lw_g (lw_at lw_m2 137 rfl) rfl
theorem q443 : (Jvm.Cond.lays "java/lang/ArrayIndexOutOfBoundsException" "java/lang/Throwable" "detailMessage" "Ljava/lang/String;") ∈ lw_all := lw_g (lw_at lw_m2 138 rfl) rfl
theorem q444 : (Jvm.Cond.lays "java/lang/ArrayIndexOutOfBoundsException" "java/lang/Throwable" "cause" "Ljava/lang/Throwable;") ∈ lw_all := lw_g (lw_at lw_m2 139 rfl) rfl
theorem q445 : (Jvm.Cond.lays "java/lang/ArrayIndexOutOfBoundsException" "java/lang/Throwable" "stackTrace" "[Ljava/lang/StackTraceElement;") ∈ lw_all := lw_g (lw_at lw_m2 140 rfl) rfl
theorem q446 : (Jvm.Cond.lays "java/lang/ArrayIndexOutOfBoundsException" "java/lang/Throwable" "depth" "I") ∈ lw_all := lw_g (lw_at lw_m2 141 rfl) rfl
theorem q447 : (Jvm.Cond.lays "java/lang/ArrayIndexOutOfBoundsException" "java/lang/Throwable" "suppressedExceptions" "Ljava/util/List;") ∈ lw_all := lw_g (lw_at lw_m2 142 rfl) rfl
theorem q448 : (Jvm.Cond.superclass "java/lang/ArrayIndexOutOfBoundsException" "java/lang/IndexOutOfBoundsException") ∈ lw_all := lw_g (lw_at lw_m2 143 rfl) rfl
theorem q449 : (Jvm.Cond.castable "java/lang/ArrayIndexOutOfBoundsException" "java/lang/ArrayIndexOutOfBoundsException") ∈ lw_tbl := lw_at lw_m2 144 rfl
theorem q452 : (Jvm.Cond.selects "java/lang/ArrayIndexOutOfBoundsException" ({ cls := "java/lang/Throwable", name := "fillInStackTrace", desc := "(I)Ljava/lang/Throwable;" } : Jvm.MethodName) ({ cls := "java/lang/Throwable", name := "fillInStackTrace", desc := "(I)Ljava/lang/Throwable;" } : Jvm.MethodName)) ∈ lw_all := lw_g (lw_at lw_m2 147 rfl) rfl
theorem q813 : (Jvm.Cond.selects "java/lang/ArrayIndexOutOfBoundsException" ({ cls := "java/lang/Object", name := "getClass", desc := "()Ljava/lang/Class;" } : Jvm.MethodName) ({ cls := "java/lang/Object", name := "getClass", desc := "()Ljava/lang/Class;" } : Jvm.MethodName)) ∈ lw_all := lw_g (lw_at lw_m4 28 rfl) rfl
theorem q1172 : (Jvm.Cond.instanceMethod ({ cls := "java/lang/ArrayIndexOutOfBoundsException", name := "<init>", desc := "()V" } : Jvm.MethodName)) ∈ lw_all := lw_g (lw_at lw_m5 147 rfl) rfl
theorem q1173 : (Jvm.Cond.code ({ cls := "java/lang/ArrayIndexOutOfBoundsException", name := "<init>", desc := "()V" } : Jvm.MethodName) prog_28_method_1_code (1 : Nat) (Option.none : Option Jvm.ClassFile.FieldType)) ∈ lw_all := lw_g (lw_at lw_m5 148 rfl) rfl
theorem q1174 : (Jvm.Cond.methodLink "java/lang/ArrayIndexOutOfBoundsException" (1 : Nat) ({ cls := "java/lang/IndexOutOfBoundsException", name := "<init>", desc := "()V" } : Jvm.MethodName)) ∈ lw_all := lw_g (lw_at lw_m5 149 rfl) rfl
theorem q1889 : (Jvm.Cond.castable "java/lang/ArrayIndexOutOfBoundsException" "java/lang/IndexOutOfBoundsException") ∈ lw_tbl := lw_at lw_m8 144 rfl
theorem q1906 : (Jvm.Cond.castable "java/lang/ArrayIndexOutOfBoundsException" "java/lang/Object") ∈ lw_tbl := lw_at lw_m8 161 rfl
theorem in_J10 : ∀ w ∈ wsJ100, w ∈ lw_all := lw_in wsJ100 [442, 443, 444, 445, 446, 447] (by decide +kernel) (by decide +kernel)

/-! java/lang/ArrayStoreException -/
set_option maxRecDepth 100000
def RJ11 : String := "java/lang/ArrayStoreException"
def TJ11 : u_T := fun k => match k with
  | 0 => ("java/lang/Throwable", "backtrace", "Ljava/lang/Object;", false)
  | 1 => ("java/lang/Throwable", "detailMessage", "Ljava/lang/String;", false)
  | 2 => ("java/lang/Throwable", "cause", "Ljava/lang/Throwable;", false)
  | 3 => ("java/lang/Throwable", "stackTrace", "[Ljava/lang/StackTraceElement;", false)
  | 4 => ("java/lang/Throwable", "depth", "I", false)
  | _ => ("java/lang/Throwable", "suppressedExceptions", "Ljava/util/List;", false)
def tyJ11 : Nat → FieldType := fun k => match k with
  | 0 => .object "java/lang/Object"
  | 1 => .object "java/lang/String"
  | 2 => .object "java/lang/Throwable"
  | 3 => .array (.object "java/lang/StackTraceElement")
  | 4 => .int
  | _ => .object "java/util/List"
abbrev wsJ110 : List Cond := u_ws RJ11 TJ11 6
theorem nmJ11 : ∀ a, a < 6 → ∀ b, b < 6 → a ≠ b → (TJ11 a).2.1 ≠ (TJ11 b).2.1 := by decide +kernel
theorem tyJ11_ok : ∀ k, k < 6 → parseFieldDescriptor (TJ11 k).2.2.1 = some (tyJ11 k) := by decide +kernel
abbrev cJ11_init : ByteArray := prog_29_method_2_code
def yJ11_init : MethodName := ⟨RJ11, "<init>", "(Ljava/lang/String;)V"⟩
def dkwJ11_init_0 : List UInt8 := [42, 43, 183, 0, 7, 177]
abbrev dktJ11_init_0 : List UInt8 := dkwJ11_init_0 ++ []
theorem dksJ11_init_0 : cJ11_init.data.toList.drop 0 = dktJ11_init_0 := by decide +kernel
theorem dJ11_init_0 : decode cJ11_init 0 = .ok (.aload_n 0, 1) := dk_42 (dk_at dksJ11_init_0 0 rfl rfl)
theorem dJ11_init_1 : decode cJ11_init 1 = .ok (.aload_n 1, 1) := dk_43 (dk_at dksJ11_init_0 1 rfl rfl)
theorem dJ11_init_2 : decode cJ11_init 2 = .ok (.invokespecial 7, 3) := dk_183 0 7 (dk_at dksJ11_init_0 2 rfl rfl)
theorem dJ11_init_5 : decode cJ11_init 5 = .ok (.return_, 1) := dk_177 (dk_at dksJ11_init_0 5 rfl rfl)
theorem q82 : (Jvm.Cond.initialized "java/lang/ArrayStoreException") ∈ lw_all := lw_g (lw_at lw_m1 17 rfl) rfl
theorem q320 : (Jvm.Cond.selects "java/lang/ArrayStoreException" ({ cls := "java/lang/Throwable", name := "fillInStackTrace", desc := "()Ljava/lang/Throwable;" } : Jvm.MethodName) ({ cls := "java/lang/Throwable", name := "fillInStackTrace", desc := "()Ljava/lang/Throwable;" } : Jvm.MethodName)) ∈ lw_all := lw_g (lw_at lw_m2 15 rfl) rfl
theorem q469 : (Jvm.Cond.instantiable "java/lang/ArrayStoreException" (6 : Nat)) ∈ lw_all := lw_g (lw_at lw_m2 164 rfl) rfl
theorem q470 : (Jvm.Cond.instanceMethod ({ cls := "java/lang/ArrayStoreException", name := "<init>", desc := "(Ljava/lang/String;)V" } : Jvm.MethodName)) ∈ lw_all := lw_g (lw_at lw_m2 165 rfl) rfl
theorem q471 : (Jvm.Cond.code ({ cls := "java/lang/ArrayStoreException", name := "<init>", desc := "(Ljava/lang/String;)V" } : Jvm.MethodName) prog_29_method_2_code (2 : Nat) (Option.none : Option Jvm.ClassFile.FieldType)) ∈ lw_all := lw_g (lw_at lw_m2 166 rfl) rfl
theorem q472 : (Jvm.Cond.methodLink "java/lang/ArrayStoreException" (7 : Nat) ({ cls := "java/lang/RuntimeException", name := "<init>", desc := "(Ljava/lang/String;)V" } : Jvm.MethodName)) ∈ lw_all := lw_g (lw_at lw_m2 167 rfl) rfl
theorem q473 : (Jvm.Cond.lays "java/lang/ArrayStoreException" "java/lang/Throwable" "backtrace" "Ljava/lang/Object;") ∈ lw_all := lw_g (lw_at lw_m2 168 rfl) rfl
theorem q474 : (Jvm.Cond.lays "java/lang/ArrayStoreException" "java/lang/Throwable" "detailMessage" "Ljava/lang/String;") ∈ lw_all := lw_g (lw_at lw_m2 169 rfl) rfl
theorem q475 : (Jvm.Cond.lays "java/lang/ArrayStoreException" "java/lang/Throwable" "cause" "Ljava/lang/Throwable;") ∈ lw_all := lw_g (lw_at lw_m2 170 rfl) rfl
theorem q476 : (Jvm.Cond.lays "java/lang/ArrayStoreException" "java/lang/Throwable" "stackTrace" "[Ljava/lang/StackTraceElement;") ∈ lw_all := lw_g (lw_at lw_m2 171 rfl) rfl
theorem q477 : (Jvm.Cond.lays "java/lang/ArrayStoreException" "java/lang/Throwable" "depth" "I") ∈ lw_all := lw_g (lw_at lw_m2 172 rfl) rfl
theorem q478 : (Jvm.Cond.lays "java/lang/ArrayStoreException" "java/lang/Throwable" "suppressedExceptions" "Ljava/util/List;") ∈ lw_all := lw_g (lw_at lw_m2 173 rfl) rfl
theorem q479 : (Jvm.Cond.superclass "java/lang/ArrayStoreException" "java/lang/RuntimeException") ∈ lw_all := lw_g (lw_at lw_m2 174 rfl) rfl
theorem q480 : (Jvm.Cond.castable "java/lang/ArrayStoreException" "java/lang/ArrayStoreException") ∈ lw_tbl := lw_at lw_m2 175 rfl
theorem q481 : (Jvm.Cond.selects "java/lang/ArrayStoreException" ({ cls := "java/lang/Throwable", name := "fillInStackTrace", desc := "(I)Ljava/lang/Throwable;" } : Jvm.MethodName) ({ cls := "java/lang/Throwable", name := "fillInStackTrace", desc := "(I)Ljava/lang/Throwable;" } : Jvm.MethodName)) ∈ lw_all := lw_g (lw_at lw_m2 176 rfl) rfl
theorem q814 : (Jvm.Cond.selects "java/lang/ArrayStoreException" ({ cls := "java/lang/Object", name := "getClass", desc := "()Ljava/lang/Class;" } : Jvm.MethodName) ({ cls := "java/lang/Object", name := "getClass", desc := "()Ljava/lang/Class;" } : Jvm.MethodName)) ∈ lw_all := lw_g (lw_at lw_m4 29 rfl) rfl
theorem q1907 : (Jvm.Cond.castable "java/lang/ArrayStoreException" "java/lang/Object") ∈ lw_tbl := lw_at lw_m8 162 rfl
theorem in_J11 : ∀ w ∈ wsJ110, w ∈ lw_all := lw_in wsJ110 [473, 474, 475, 476, 477, 478] (by decide +kernel) (by decide +kernel)

/-! java/lang/StringLatin1 -/
set_option maxRecDepth 100000
def RJ12 : String := "java/lang/StringLatin1"
abbrev cJ12_indexOf : ByteArray := prog_43_method_22_code
def yJ12_indexOf : MethodName := ⟨RJ12, "indexOf", "([BIII)I"⟩
def dkwJ12_indexOf_1 : List UInt8 := [161, 0, 5, 2, 172, 42, 27, 28, 29, 184, 0, 95, 172]
abbrev dktJ12_indexOf_1 : List UInt8 := dkwJ12_indexOf_1 ++ []
def dkwJ12_indexOf_0 : List UInt8 := [27, 184, 0, 88, 154, 0, 5, 2, 172, 28, 3, 184, 0, 92, 61, 29, 42, 190, 184, 0, 38, 62, 28, 29]
abbrev dktJ12_indexOf_0 : List UInt8 := dkwJ12_indexOf_0 ++ dktJ12_indexOf_1
theorem dksJ12_indexOf_0 : cJ12_indexOf.data.toList.drop 0 = dktJ12_indexOf_0 := by decide +kernel
theorem dksJ12_indexOf_1 : cJ12_indexOf.data.toList.drop 24 = dktJ12_indexOf_1 := dk_seg dksJ12_indexOf_0 24 rfl rfl
theorem dJ12_indexOf_0 : decode cJ12_indexOf 0 = .ok (.iload_n 1, 1) := dk_27 (dk_at dksJ12_indexOf_0 0 rfl rfl)
theorem dJ12_indexOf_1 : decode cJ12_indexOf 1 = .ok (.invokestatic 88, 3) := dk_184 0 88 (dk_at dksJ12_indexOf_0 1 rfl rfl)
theorem dJ12_indexOf_4 : decode cJ12_indexOf 4 = .ok (.ifCond .ne 5, 3) := dk_154 0 5 (dk_at dksJ12_indexOf_0 4 rfl rfl)
theorem dJ12_indexOf_7 : decode cJ12_indexOf 7 = .ok (.iconst (-1), 1) := dk_2 (dk_at dksJ12_indexOf_0 7 rfl rfl)
theorem dJ12_indexOf_8 : decode cJ12_indexOf 8 = .ok (.ireturn, 1) := dk_172 (dk_at dksJ12_indexOf_0 8 rfl rfl)
theorem dJ12_indexOf_9 : decode cJ12_indexOf 9 = .ok (.iload_n 2, 1) := dk_28 (dk_at dksJ12_indexOf_0 9 rfl rfl)
theorem dJ12_indexOf_10 : decode cJ12_indexOf 10 = .ok (.iconst 0, 1) := dk_3 (dk_at dksJ12_indexOf_0 10 rfl rfl)
theorem dJ12_indexOf_11 : decode cJ12_indexOf 11 = .ok (.invokestatic 92, 3) := dk_184 0 92 (dk_at dksJ12_indexOf_0 11 rfl rfl)
theorem dJ12_indexOf_14 : decode cJ12_indexOf 14 = .ok (.istore_n 2, 1) := dk_61 (dk_at dksJ12_indexOf_0 14 rfl rfl)
theorem dJ12_indexOf_15 : decode cJ12_indexOf 15 = .ok (.iload_n 3, 1) := dk_29 (dk_at dksJ12_indexOf_0 15 rfl rfl)
theorem dJ12_indexOf_16 : decode cJ12_indexOf 16 = .ok (.aload_n 0, 1) := dk_42 (dk_at dksJ12_indexOf_0 16 rfl rfl)
theorem dJ12_indexOf_17 : decode cJ12_indexOf 17 = .ok (.arraylength, 1) := dk_190 (dk_at dksJ12_indexOf_0 17 rfl rfl)
theorem dJ12_indexOf_18 : decode cJ12_indexOf 18 = .ok (.invokestatic 38, 3) := dk_184 0 38 (dk_at dksJ12_indexOf_0 18 rfl rfl)
theorem dJ12_indexOf_21 : decode cJ12_indexOf 21 = .ok (.istore_n 3, 1) := dk_62 (dk_at dksJ12_indexOf_0 21 rfl rfl)
theorem dJ12_indexOf_22 : decode cJ12_indexOf 22 = .ok (.iload_n 2, 1) := dk_28 (dk_at dksJ12_indexOf_0 22 rfl rfl)
theorem dJ12_indexOf_23 : decode cJ12_indexOf 23 = .ok (.iload_n 3, 1) := dk_29 (dk_at dksJ12_indexOf_0 23 rfl rfl)
theorem dJ12_indexOf_24 : decode cJ12_indexOf 24 = .ok (.if_icmp .lt 5, 3) := dk_161 0 5 (dk_at dksJ12_indexOf_1 0 rfl rfl)
theorem dJ12_indexOf_27 : decode cJ12_indexOf 27 = .ok (.iconst (-1), 1) := dk_2 (dk_at dksJ12_indexOf_1 3 rfl rfl)
theorem dJ12_indexOf_28 : decode cJ12_indexOf 28 = .ok (.ireturn, 1) := dk_172 (dk_at dksJ12_indexOf_1 4 rfl rfl)
theorem dJ12_indexOf_29 : decode cJ12_indexOf 29 = .ok (.aload_n 0, 1) := dk_42 (dk_at dksJ12_indexOf_1 5 rfl rfl)
theorem dJ12_indexOf_30 : decode cJ12_indexOf 30 = .ok (.iload_n 1, 1) := dk_27 (dk_at dksJ12_indexOf_1 6 rfl rfl)
theorem dJ12_indexOf_31 : decode cJ12_indexOf 31 = .ok (.iload_n 2, 1) := dk_28 (dk_at dksJ12_indexOf_1 7 rfl rfl)
theorem dJ12_indexOf_32 : decode cJ12_indexOf 32 = .ok (.iload_n 3, 1) := dk_29 (dk_at dksJ12_indexOf_1 8 rfl rfl)
theorem dJ12_indexOf_33 : decode cJ12_indexOf 33 = .ok (.invokestatic 95, 3) := dk_184 0 95 (dk_at dksJ12_indexOf_1 9 rfl rfl)
theorem dJ12_indexOf_36 : decode cJ12_indexOf 36 = .ok (.ireturn, 1) := dk_172 (dk_at dksJ12_indexOf_1 12 rfl rfl)
abbrev cJ12_canEncode : ByteArray := prog_43_method_4_code
def yJ12_canEncode : MethodName := ⟨RJ12, "canEncode", "(I)Z"⟩
def dkwJ12_canEncode_0 : List UInt8 := [26, 155, 0, 14, 26, 17, 0, 255, 163, 0, 7, 4, 167, 0, 4, 3, 172]
abbrev dktJ12_canEncode_0 : List UInt8 := dkwJ12_canEncode_0 ++ []
theorem dksJ12_canEncode_0 : cJ12_canEncode.data.toList.drop 0 = dktJ12_canEncode_0 := by decide +kernel
theorem dJ12_canEncode_0 : decode cJ12_canEncode 0 = .ok (.iload_n 0, 1) := dk_26 (dk_at dksJ12_canEncode_0 0 rfl rfl)
theorem dJ12_canEncode_1 : decode cJ12_canEncode 1 = .ok (.ifCond .lt 14, 3) := dk_155 0 14 (dk_at dksJ12_canEncode_0 1 rfl rfl)
theorem dJ12_canEncode_4 : decode cJ12_canEncode 4 = .ok (.iload_n 0, 1) := dk_26 (dk_at dksJ12_canEncode_0 4 rfl rfl)
theorem dJ12_canEncode_5 : decode cJ12_canEncode 5 = .ok (.sipush 255, 3) := dk_17 0 255 (dk_at dksJ12_canEncode_0 5 rfl rfl)
theorem dJ12_canEncode_8 : decode cJ12_canEncode 8 = .ok (.if_icmp .gt 7, 3) := dk_163 0 7 (dk_at dksJ12_canEncode_0 8 rfl rfl)
theorem dJ12_canEncode_11 : decode cJ12_canEncode 11 = .ok (.iconst 1, 1) := dk_4 (dk_at dksJ12_canEncode_0 11 rfl rfl)
theorem dJ12_canEncode_12 : decode cJ12_canEncode 12 = .ok (.goto 4, 3) := dk_167 0 4 (dk_at dksJ12_canEncode_0 12 rfl rfl)
theorem dJ12_canEncode_15 : decode cJ12_canEncode 15 = .ok (.iconst 0, 1) := dk_3 (dk_at dksJ12_canEncode_0 15 rfl rfl)
theorem dJ12_canEncode_16 : decode cJ12_canEncode 16 = .ok (.ireturn, 1) := dk_172 (dk_at dksJ12_canEncode_0 16 rfl rfl)
abbrev cJ12_indexOfChar : ByteArray := prog_43_method_23_code
def yJ12_indexOfChar : MethodName := ⟨RJ12, "indexOfChar", "([BIII)I"⟩
def dkwJ12_indexOfChar_1 : List UInt8 := [172, 132, 5, 1, 167, 255, 235, 2, 172]
abbrev dktJ12_indexOfChar_1 : List UInt8 := dkwJ12_indexOfChar_1 ++ []
def dkwJ12_indexOfChar_0 : List UInt8 := [27, 145, 54, 4, 28, 54, 5, 21, 5, 29, 162, 0, 21, 42, 21, 5, 51, 21, 4, 160, 0, 6, 21, 5]
abbrev dktJ12_indexOfChar_0 : List UInt8 := dkwJ12_indexOfChar_0 ++ dktJ12_indexOfChar_1
theorem dksJ12_indexOfChar_0 : cJ12_indexOfChar.data.toList.drop 0 = dktJ12_indexOfChar_0 := by decide +kernel
theorem dksJ12_indexOfChar_1 : cJ12_indexOfChar.data.toList.drop 24 = dktJ12_indexOfChar_1 := dk_seg dksJ12_indexOfChar_0 24 rfl rfl
theorem dJ12_indexOfChar_0 : decode cJ12_indexOfChar 0 = .ok (.iload_n 1, 1) := dk_27 (dk_at dksJ12_indexOfChar_0 0 rfl rfl)
theorem dJ12_indexOfChar_1 : decode cJ12_indexOfChar 1 = .ok (.i2b, 1) := dk_145 (dk_at dksJ12_indexOfChar_0 1 rfl rfl)
theorem dJ12_indexOfChar_2 : decode cJ12_indexOfChar 2 = .ok (.istore 4, 2) := dk_54 4 (dk_at dksJ12_indexOfChar_0 2 rfl rfl)
theorem dJ12_indexOfChar_4 : decode cJ12_indexOfChar 4 = .ok (.iload_n 2, 1) := dk_28 (dk_at dksJ12_indexOfChar_0 4 rfl rfl)
theorem dJ12_indexOfChar_5 : decode cJ12_indexOfChar 5 = .ok (.istore 5, 2) := dk_54 5 (dk_at dksJ12_indexOfChar_0 5 rfl rfl)
theorem dJ12_indexOfChar_7 : decode cJ12_indexOfChar 7 = .ok (.iload 5, 2) := dk_21 5 (dk_at dksJ12_indexOfChar_0 7 rfl rfl)
theorem dJ12_indexOfChar_9 : decode cJ12_indexOfChar 9 = .ok (.iload_n 3, 1) := dk_29 (dk_at dksJ12_indexOfChar_0 9 rfl rfl)
theorem dJ12_indexOfChar_10 : decode cJ12_indexOfChar 10 = .ok (.if_icmp .ge 21, 3) := dk_162 0 21 (dk_at dksJ12_indexOfChar_0 10 rfl rfl)
theorem dJ12_indexOfChar_13 : decode cJ12_indexOfChar 13 = .ok (.aload_n 0, 1) := dk_42 (dk_at dksJ12_indexOfChar_0 13 rfl rfl)
theorem dJ12_indexOfChar_14 : decode cJ12_indexOfChar 14 = .ok (.iload 5, 2) := dk_21 5 (dk_at dksJ12_indexOfChar_0 14 rfl rfl)
theorem dJ12_indexOfChar_16 : decode cJ12_indexOfChar 16 = .ok (.baload, 1) := dk_51 (dk_at dksJ12_indexOfChar_0 16 rfl rfl)
theorem dJ12_indexOfChar_17 : decode cJ12_indexOfChar 17 = .ok (.iload 4, 2) := dk_21 4 (dk_at dksJ12_indexOfChar_0 17 rfl rfl)
theorem dJ12_indexOfChar_19 : decode cJ12_indexOfChar 19 = .ok (.if_icmp .ne 6, 3) := dk_160 0 6 (dk_at dksJ12_indexOfChar_0 19 rfl rfl)
theorem dJ12_indexOfChar_22 : decode cJ12_indexOfChar 22 = .ok (.iload 5, 2) := dk_21 5 (dk_at dksJ12_indexOfChar_0 22 rfl rfl)
theorem dJ12_indexOfChar_24 : decode cJ12_indexOfChar 24 = .ok (.ireturn, 1) := dk_172 (dk_at dksJ12_indexOfChar_1 0 rfl rfl)
theorem dJ12_indexOfChar_25 : decode cJ12_indexOfChar 25 = .ok (.iinc 5 1, 3) := dk_132 5 1 (dk_at dksJ12_indexOfChar_1 1 rfl rfl)
theorem dJ12_indexOfChar_28 : decode cJ12_indexOfChar 28 = .ok (.goto (-21), 3) := dk_167 255 235 (dk_at dksJ12_indexOfChar_1 4 rfl rfl)
theorem dJ12_indexOfChar_31 : decode cJ12_indexOfChar 31 = .ok (.iconst (-1), 1) := dk_2 (dk_at dksJ12_indexOfChar_1 7 rfl rfl)
theorem dJ12_indexOfChar_32 : decode cJ12_indexOfChar 32 = .ok (.ireturn, 1) := dk_172 (dk_at dksJ12_indexOfChar_1 8 rfl rfl)
theorem q86 : (Jvm.Cond.initialized "java/lang/StringLatin1") ∈ lw_all := lw_g (lw_at lw_m1 21 rfl) rfl
theorem q622 : (Jvm.Cond.static ({ cls := "java/lang/StringLatin1", name := "indexOf", desc := "([BIII)I" } : Jvm.MethodName)) ∈ lw_all := lw_g (lw_at lw_m3 77 rfl) rfl
theorem q623 : (Jvm.Cond.code ({ cls := "java/lang/StringLatin1", name := "indexOf", desc := "([BIII)I" } : Jvm.MethodName) prog_43_method_22_code (4 : Nat) (Option.some Jvm.ClassFile.FieldType.int)) ∈ lw_all := lw_g (lw_at lw_m3 78 rfl) rfl
theorem q624 : (Jvm.Cond.methodLink "java/lang/StringLatin1" (88 : Nat) ({ cls := "java/lang/StringLatin1", name := "canEncode", desc := "(I)Z" } : Jvm.MethodName)) ∈ lw_all := lw_g (lw_at lw_m3 79 rfl) rfl
theorem q625 : (Jvm.Cond.static ({ cls := "java/lang/StringLatin1", name := "canEncode", desc := "(I)Z" } : Jvm.MethodName)) ∈ lw_all := lw_g (lw_at lw_m3 80 rfl) rfl
theorem q626 : (Jvm.Cond.code ({ cls := "java/lang/StringLatin1", name := "canEncode", desc := "(I)Z" } : Jvm.MethodName) prog_43_method_4_code (1 : Nat) (Option.some Jvm.ClassFile.FieldType.boolean)) ∈ lw_all := lw_g (lw_at lw_m3 81 rfl) rfl
theorem q627 : (Jvm.Cond.methodLink "java/lang/StringLatin1" (92 : Nat) ({ cls := "java/lang/Math", name := "max", desc := "(II)I" } : Jvm.MethodName)) ∈ lw_all := lw_g (lw_at lw_m3 82 rfl) rfl
theorem q630 : (Jvm.Cond.methodLink "java/lang/StringLatin1" (38 : Nat) ({ cls := "java/lang/Math", name := "min", desc := "(II)I" } : Jvm.MethodName)) ∈ lw_all := lw_g (lw_at lw_m3 85 rfl) rfl
theorem q633 : (Jvm.Cond.methodLink "java/lang/StringLatin1" (95 : Nat) ({ cls := "java/lang/StringLatin1", name := "indexOfChar", desc := "([BIII)I" } : Jvm.MethodName)) ∈ lw_all := lw_g (lw_at lw_m3 88 rfl) rfl
theorem q634 : (Jvm.Cond.static ({ cls := "java/lang/StringLatin1", name := "indexOfChar", desc := "([BIII)I" } : Jvm.MethodName)) ∈ lw_all := lw_g (lw_at lw_m3 89 rfl) rfl
theorem q635 : (Jvm.Cond.code ({ cls := "java/lang/StringLatin1", name := "indexOfChar", desc := "([BIII)I" } : Jvm.MethodName) prog_43_method_23_code (6 : Nat) (Option.some Jvm.ClassFile.FieldType.int)) ∈ lw_all := lw_g (lw_at lw_m3 90 rfl) rfl

/-! java/lang/Math -/
set_option maxRecDepth 100000
def RJ13 : String := "java/lang/Math"
abbrev cJ13_max : ByteArray := prog_38_method_65_code
def yJ13_max : MethodName := ⟨RJ13, "max", "(II)I"⟩
def dkwJ13_max_0 : List UInt8 := [26, 27, 161, 0, 7, 26, 167, 0, 4, 27, 172]
abbrev dktJ13_max_0 : List UInt8 := dkwJ13_max_0 ++ []
theorem dksJ13_max_0 : cJ13_max.data.toList.drop 0 = dktJ13_max_0 := by decide +kernel
theorem dJ13_max_0 : decode cJ13_max 0 = .ok (.iload_n 0, 1) := dk_26 (dk_at dksJ13_max_0 0 rfl rfl)
theorem dJ13_max_1 : decode cJ13_max 1 = .ok (.iload_n 1, 1) := dk_27 (dk_at dksJ13_max_0 1 rfl rfl)
theorem dJ13_max_2 : decode cJ13_max 2 = .ok (.if_icmp .lt 7, 3) := dk_161 0 7 (dk_at dksJ13_max_0 2 rfl rfl)
theorem dJ13_max_5 : decode cJ13_max 5 = .ok (.iload_n 0, 1) := dk_26 (dk_at dksJ13_max_0 5 rfl rfl)
theorem dJ13_max_6 : decode cJ13_max 6 = .ok (.goto 4, 3) := dk_167 0 4 (dk_at dksJ13_max_0 6 rfl rfl)
theorem dJ13_max_9 : decode cJ13_max 9 = .ok (.iload_n 1, 1) := dk_27 (dk_at dksJ13_max_0 9 rfl rfl)
theorem dJ13_max_10 : decode cJ13_max 10 = .ok (.ireturn, 1) := dk_172 (dk_at dksJ13_max_0 10 rfl rfl)
abbrev cJ13_min : ByteArray := prog_38_method_69_code
def yJ13_min : MethodName := ⟨RJ13, "min", "(II)I"⟩
def dkwJ13_min_0 : List UInt8 := [26, 27, 163, 0, 7, 26, 167, 0, 4, 27, 172]
abbrev dktJ13_min_0 : List UInt8 := dkwJ13_min_0 ++ []
theorem dksJ13_min_0 : cJ13_min.data.toList.drop 0 = dktJ13_min_0 := by decide +kernel
theorem dJ13_min_0 : decode cJ13_min 0 = .ok (.iload_n 0, 1) := dk_26 (dk_at dksJ13_min_0 0 rfl rfl)
theorem dJ13_min_1 : decode cJ13_min 1 = .ok (.iload_n 1, 1) := dk_27 (dk_at dksJ13_min_0 1 rfl rfl)
theorem dJ13_min_2 : decode cJ13_min 2 = .ok (.if_icmp .gt 7, 3) := dk_163 0 7 (dk_at dksJ13_min_0 2 rfl rfl)
theorem dJ13_min_5 : decode cJ13_min 5 = .ok (.iload_n 0, 1) := dk_26 (dk_at dksJ13_min_0 5 rfl rfl)
theorem dJ13_min_6 : decode cJ13_min 6 = .ok (.goto 4, 3) := dk_167 0 4 (dk_at dksJ13_min_0 6 rfl rfl)
theorem dJ13_min_9 : decode cJ13_min 9 = .ok (.iload_n 1, 1) := dk_27 (dk_at dksJ13_min_0 9 rfl rfl)
theorem dJ13_min_10 : decode cJ13_min 10 = .ok (.ireturn, 1) := dk_172 (dk_at dksJ13_min_0 10 rfl rfl)
abbrev cJ13_abs : ByteArray := prog_38_method_59_code
def yJ13_abs : MethodName := ⟨RJ13, "abs", "(I)I"⟩
def dkwJ13_abs_0 : List UInt8 := [26, 156, 0, 8, 26, 116, 167, 0, 4, 26, 172]
abbrev dktJ13_abs_0 : List UInt8 := dkwJ13_abs_0 ++ []
theorem dksJ13_abs_0 : cJ13_abs.data.toList.drop 0 = dktJ13_abs_0 := by decide +kernel
theorem dJ13_abs_0 : decode cJ13_abs 0 = .ok (.iload_n 0, 1) := dk_26 (dk_at dksJ13_abs_0 0 rfl rfl)
theorem dJ13_abs_1 : decode cJ13_abs 1 = .ok (.ifCond .ge 8, 3) := dk_156 0 8 (dk_at dksJ13_abs_0 1 rfl rfl)
theorem dJ13_abs_4 : decode cJ13_abs 4 = .ok (.iload_n 0, 1) := dk_26 (dk_at dksJ13_abs_0 4 rfl rfl)
theorem dJ13_abs_5 : decode cJ13_abs 5 = .ok (.ineg, 1) := dk_116 (dk_at dksJ13_abs_0 5 rfl rfl)
theorem dJ13_abs_6 : decode cJ13_abs 6 = .ok (.goto 4, 3) := dk_167 0 4 (dk_at dksJ13_abs_0 6 rfl rfl)
theorem dJ13_abs_9 : decode cJ13_abs 9 = .ok (.iload_n 0, 1) := dk_26 (dk_at dksJ13_abs_0 9 rfl rfl)
theorem dJ13_abs_10 : decode cJ13_abs 10 = .ok (.ireturn, 1) := dk_172 (dk_at dksJ13_abs_0 10 rfl rfl)
theorem q87 : (Jvm.Cond.initialized "java/lang/Math") ∈ lw_all := lw_g (lw_at lw_m1 22 rfl) rfl
theorem q628 : (Jvm.Cond.static ({ cls := "java/lang/Math", name := "max", desc := "(II)I" } : Jvm.MethodName)) ∈ lw_all := lw_g (lw_at lw_m3 83 rfl) rfl
theorem q629 : (Jvm.Cond.code ({ cls := "java/lang/Math", name := "max", desc := "(II)I" } : Jvm.MethodName) prog_38_method_65_code (2 : Nat) (Option.some Jvm.ClassFile.FieldType.int)) ∈ lw_all := lw_g (lw_at lw_m3 84 rfl) rfl
theorem q631 : (Jvm.Cond.static ({ cls := "java/lang/Math", name := "min", desc := "(II)I" } : Jvm.MethodName)) ∈ lw_all := lw_g (lw_at lw_m3 86 rfl) rfl
theorem q632 : (Jvm.Cond.code ({ cls := "java/lang/Math", name := "min", desc := "(II)I" } : Jvm.MethodName) prog_38_method_69_code (2 : Nat) (Option.some Jvm.ClassFile.FieldType.int)) ∈ lw_all := lw_g (lw_at lw_m3 87 rfl) rfl
theorem q940 : (Jvm.Cond.static ({ cls := "java/lang/Math", name := "abs", desc := "(I)I" } : Jvm.MethodName)) ∈ lw_all := lw_g (lw_at lw_m4 155 rfl) rfl
theorem q941 : (Jvm.Cond.code ({ cls := "java/lang/Math", name := "abs", desc := "(I)I" } : Jvm.MethodName) prog_38_method_59_code (1 : Nat) (Option.some Jvm.ClassFile.FieldType.int)) ∈ lw_all := lw_g (lw_at lw_m4 156 rfl) rfl

/-! java/lang/StringUTF16 -/
set_option maxRecDepth 100000
def RJ14 : String := "java/lang/StringUTF16"
abbrev cJ14_indexOf : ByteArray := prog_44_method_40_code
def yJ14_indexOf : MethodName := ⟨RJ14, "indexOf", "([BIII)I"⟩
def dkwJ14_indexOf_1 : List UInt8 := [18, 227, 162, 0, 11, 42, 27, 28, 29, 184, 0, 228, 172, 42, 27, 28, 29, 184, 0, 232, 172]
abbrev dktJ14_indexOf_1 : List UInt8 := dkwJ14_indexOf_1 ++ []
def dkwJ14_indexOf_0 : List UInt8 := [28, 3, 184, 0, 224, 61, 29, 42, 190, 4, 122, 184, 0, 183, 62, 28, 29, 161, 0, 5, 2, 172, 27]
abbrev dktJ14_indexOf_0 : List UInt8 := dkwJ14_indexOf_0 ++ dktJ14_indexOf_1
theorem dksJ14_indexOf_0 : cJ14_indexOf.data.toList.drop 0 = dktJ14_indexOf_0 := by decide +kernel
theorem dksJ14_indexOf_1 : cJ14_indexOf.data.toList.drop 23 = dktJ14_indexOf_1 := dk_seg dksJ14_indexOf_0 23 rfl rfl
theorem dJ14_indexOf_0 : decode cJ14_indexOf 0 = .ok (.iload_n 2, 1) := dk_28 (dk_at dksJ14_indexOf_0 0 rfl rfl)
theorem dJ14_indexOf_1 : decode cJ14_indexOf 1 = .ok (.iconst 0, 1) := dk_3 (dk_at dksJ14_indexOf_0 1 rfl rfl)
theorem dJ14_indexOf_2 : decode cJ14_indexOf 2 = .ok (.invokestatic 224, 3) := dk_184 0 224 (dk_at dksJ14_indexOf_0 2 rfl rfl)
theorem dJ14_indexOf_5 : decode cJ14_indexOf 5 = .ok (.istore_n 2, 1) := dk_61 (dk_at dksJ14_indexOf_0 5 rfl rfl)
theorem dJ14_indexOf_6 : decode cJ14_indexOf 6 = .ok (.iload_n 3, 1) := dk_29 (dk_at dksJ14_indexOf_0 6 rfl rfl)
theorem dJ14_indexOf_7 : decode cJ14_indexOf 7 = .ok (.aload_n 0, 1) := dk_42 (dk_at dksJ14_indexOf_0 7 rfl rfl)
theorem dJ14_indexOf_8 : decode cJ14_indexOf 8 = .ok (.arraylength, 1) := dk_190 (dk_at dksJ14_indexOf_0 8 rfl rfl)
theorem dJ14_indexOf_9 : decode cJ14_indexOf 9 = .ok (.iconst 1, 1) := dk_4 (dk_at dksJ14_indexOf_0 9 rfl rfl)
theorem dJ14_indexOf_10 : decode cJ14_indexOf 10 = .ok (.ishr, 1) := dk_122 (dk_at dksJ14_indexOf_0 10 rfl rfl)
theorem dJ14_indexOf_11 : decode cJ14_indexOf 11 = .ok (.invokestatic 183, 3) := dk_184 0 183 (dk_at dksJ14_indexOf_0 11 rfl rfl)
theorem dJ14_indexOf_14 : decode cJ14_indexOf 14 = .ok (.istore_n 3, 1) := dk_62 (dk_at dksJ14_indexOf_0 14 rfl rfl)
theorem dJ14_indexOf_15 : decode cJ14_indexOf 15 = .ok (.iload_n 2, 1) := dk_28 (dk_at dksJ14_indexOf_0 15 rfl rfl)
theorem dJ14_indexOf_16 : decode cJ14_indexOf 16 = .ok (.iload_n 3, 1) := dk_29 (dk_at dksJ14_indexOf_0 16 rfl rfl)
theorem dJ14_indexOf_17 : decode cJ14_indexOf 17 = .ok (.if_icmp .lt 5, 3) := dk_161 0 5 (dk_at dksJ14_indexOf_0 17 rfl rfl)
theorem dJ14_indexOf_20 : decode cJ14_indexOf 20 = .ok (.iconst (-1), 1) := dk_2 (dk_at dksJ14_indexOf_0 20 rfl rfl)
theorem dJ14_indexOf_21 : decode cJ14_indexOf 21 = .ok (.ireturn, 1) := dk_172 (dk_at dksJ14_indexOf_0 21 rfl rfl)
theorem dJ14_indexOf_22 : decode cJ14_indexOf 22 = .ok (.iload_n 1, 1) := dk_27 (dk_at dksJ14_indexOf_0 22 rfl rfl)
theorem dJ14_indexOf_23 : decode cJ14_indexOf 23 = .ok (.ldc 227, 2) := dk_18 227 (dk_at dksJ14_indexOf_1 0 rfl rfl)
theorem dJ14_indexOf_25 : decode cJ14_indexOf 25 = .ok (.if_icmp .ge 11, 3) := dk_162 0 11 (dk_at dksJ14_indexOf_1 2 rfl rfl)
theorem dJ14_indexOf_28 : decode cJ14_indexOf 28 = .ok (.aload_n 0, 1) := dk_42 (dk_at dksJ14_indexOf_1 5 rfl rfl)
theorem dJ14_indexOf_29 : decode cJ14_indexOf 29 = .ok (.iload_n 1, 1) := dk_27 (dk_at dksJ14_indexOf_1 6 rfl rfl)
theorem dJ14_indexOf_30 : decode cJ14_indexOf 30 = .ok (.iload_n 2, 1) := dk_28 (dk_at dksJ14_indexOf_1 7 rfl rfl)
theorem dJ14_indexOf_31 : decode cJ14_indexOf 31 = .ok (.iload_n 3, 1) := dk_29 (dk_at dksJ14_indexOf_1 8 rfl rfl)
theorem dJ14_indexOf_32 : decode cJ14_indexOf 32 = .ok (.invokestatic 228, 3) := dk_184 0 228 (dk_at dksJ14_indexOf_1 9 rfl rfl)
theorem dJ14_indexOf_35 : decode cJ14_indexOf 35 = .ok (.ireturn, 1) := dk_172 (dk_at dksJ14_indexOf_1 12 rfl rfl)
theorem dJ14_indexOf_36 : decode cJ14_indexOf 36 = .ok (.aload_n 0, 1) := dk_42 (dk_at dksJ14_indexOf_1 13 rfl rfl)
theorem dJ14_indexOf_37 : decode cJ14_indexOf 37 = .ok (.iload_n 1, 1) := dk_27 (dk_at dksJ14_indexOf_1 14 rfl rfl)
theorem dJ14_indexOf_38 : decode cJ14_indexOf 38 = .ok (.iload_n 2, 1) := dk_28 (dk_at dksJ14_indexOf_1 15 rfl rfl)
theorem dJ14_indexOf_39 : decode cJ14_indexOf 39 = .ok (.iload_n 3, 1) := dk_29 (dk_at dksJ14_indexOf_1 16 rfl rfl)
theorem dJ14_indexOf_40 : decode cJ14_indexOf 40 = .ok (.invokestatic 232, 3) := dk_184 0 232 (dk_at dksJ14_indexOf_1 17 rfl rfl)
theorem dJ14_indexOf_43 : decode cJ14_indexOf 43 = .ok (.ireturn, 1) := dk_172 (dk_at dksJ14_indexOf_1 20 rfl rfl)
abbrev cJ14_indexOfChar : ByteArray := prog_44_method_47_code
def yJ14_indexOfChar : MethodName := ⟨RJ14, "indexOfChar", "([BIII)I"⟩
def dkwJ14_indexOfChar_0 : List UInt8 := [28, 29, 42, 184, 0, 96, 42, 27, 28, 29, 184, 0, 244, 172]
abbrev dktJ14_indexOfChar_0 : List UInt8 := dkwJ14_indexOfChar_0 ++ []
theorem dksJ14_indexOfChar_0 : cJ14_indexOfChar.data.toList.drop 0 = dktJ14_indexOfChar_0 := by decide +kernel
theorem dJ14_indexOfChar_0 : decode cJ14_indexOfChar 0 = .ok (.iload_n 2, 1) := dk_28 (dk_at dksJ14_indexOfChar_0 0 rfl rfl)
theorem dJ14_indexOfChar_1 : decode cJ14_indexOfChar 1 = .ok (.iload_n 3, 1) := dk_29 (dk_at dksJ14_indexOfChar_0 1 rfl rfl)
theorem dJ14_indexOfChar_2 : decode cJ14_indexOfChar 2 = .ok (.aload_n 0, 1) := dk_42 (dk_at dksJ14_indexOfChar_0 2 rfl rfl)
theorem dJ14_indexOfChar_3 : decode cJ14_indexOfChar 3 = .ok (.invokestatic 96, 3) := dk_184 0 96 (dk_at dksJ14_indexOfChar_0 3 rfl rfl)
theorem dJ14_indexOfChar_6 : decode cJ14_indexOfChar 6 = .ok (.aload_n 0, 1) := dk_42 (dk_at dksJ14_indexOfChar_0 6 rfl rfl)
theorem dJ14_indexOfChar_7 : decode cJ14_indexOfChar 7 = .ok (.iload_n 1, 1) := dk_27 (dk_at dksJ14_indexOfChar_0 7 rfl rfl)
theorem dJ14_indexOfChar_8 : decode cJ14_indexOfChar 8 = .ok (.iload_n 2, 1) := dk_28 (dk_at dksJ14_indexOfChar_0 8 rfl rfl)
theorem dJ14_indexOfChar_9 : decode cJ14_indexOfChar 9 = .ok (.iload_n 3, 1) := dk_29 (dk_at dksJ14_indexOfChar_0 9 rfl rfl)
theorem dJ14_indexOfChar_10 : decode cJ14_indexOfChar 10 = .ok (.invokestatic 244, 3) := dk_184 0 244 (dk_at dksJ14_indexOfChar_0 10 rfl rfl)
theorem dJ14_indexOfChar_13 : decode cJ14_indexOfChar 13 = .ok (.ireturn, 1) := dk_172 (dk_at dksJ14_indexOfChar_0 13 rfl rfl)
abbrev cJ14_checkBoundsBeginEnd : ByteArray := prog_44_method_93_code
def yJ14_checkBoundsBeginEnd : MethodName := ⟨RJ14, "checkBoundsBeginEnd", "(II[B)V"⟩
def dkwJ14_checkBoundsBeginEnd_0 : List UInt8 := [26, 27, 44, 184, 0, 48, 184, 0, 241, 177]
abbrev dktJ14_checkBoundsBeginEnd_0 : List UInt8 := dkwJ14_checkBoundsBeginEnd_0 ++ []
theorem dksJ14_checkBoundsBeginEnd_0 : cJ14_checkBoundsBeginEnd.data.toList.drop 0 = dktJ14_checkBoundsBeginEnd_0 := by decide +kernel
theorem dJ14_checkBoundsBeginEnd_0 : decode cJ14_checkBoundsBeginEnd 0 = .ok (.iload_n 0, 1) := dk_26 (dk_at dksJ14_checkBoundsBeginEnd_0 0 rfl rfl)
theorem dJ14_checkBoundsBeginEnd_1 : decode cJ14_checkBoundsBeginEnd 1 = .ok (.iload_n 1, 1) := dk_27 (dk_at dksJ14_checkBoundsBeginEnd_0 1 rfl rfl)
theorem dJ14_checkBoundsBeginEnd_2 : decode cJ14_checkBoundsBeginEnd 2 = .ok (.aload_n 2, 1) := dk_44 (dk_at dksJ14_checkBoundsBeginEnd_0 2 rfl rfl)
theorem dJ14_checkBoundsBeginEnd_3 : decode cJ14_checkBoundsBeginEnd 3 = .ok (.invokestatic 48, 3) := dk_184 0 48 (dk_at dksJ14_checkBoundsBeginEnd_0 3 rfl rfl)
theorem dJ14_checkBoundsBeginEnd_6 : decode cJ14_checkBoundsBeginEnd 6 = .ok (.invokestatic 241, 3) := dk_184 0 241 (dk_at dksJ14_checkBoundsBeginEnd_0 6 rfl rfl)
theorem dJ14_checkBoundsBeginEnd_9 : decode cJ14_checkBoundsBeginEnd 9 = .ok (.return_, 1) := dk_177 (dk_at dksJ14_checkBoundsBeginEnd_0 9 rfl rfl)
abbrev cJ14_length : ByteArray := prog_44_method_6_code
def yJ14_length : MethodName := ⟨RJ14, "length", "([B)I"⟩
def dkwJ14_length_0 : List UInt8 := [42, 190, 4, 122, 172]
abbrev dktJ14_length_0 : List UInt8 := dkwJ14_length_0 ++ []
theorem dksJ14_length_0 : cJ14_length.data.toList.drop 0 = dktJ14_length_0 := by decide +kernel
theorem dJ14_length_0 : decode cJ14_length 0 = .ok (.aload_n 0, 1) := dk_42 (dk_at dksJ14_length_0 0 rfl rfl)
theorem dJ14_length_1 : decode cJ14_length 1 = .ok (.arraylength, 1) := dk_190 (dk_at dksJ14_length_0 1 rfl rfl)
theorem dJ14_length_2 : decode cJ14_length 2 = .ok (.iconst 1, 1) := dk_4 (dk_at dksJ14_length_0 2 rfl rfl)
theorem dJ14_length_3 : decode cJ14_length 3 = .ok (.ishr, 1) := dk_122 (dk_at dksJ14_length_0 3 rfl rfl)
theorem dJ14_length_4 : decode cJ14_length 4 = .ok (.ireturn, 1) := dk_172 (dk_at dksJ14_length_0 4 rfl rfl)
abbrev cJ14_indexOfCharUnsafe : ByteArray := prog_44_method_48_code
def yJ14_indexOfCharUnsafe : MethodName := ⟨RJ14, "indexOfCharUnsafe", "([BIII)I"⟩
def dkwJ14_indexOfCharUnsafe_1 : List UInt8 := [132, 4, 1, 167, 255, 234, 2, 172]
abbrev dktJ14_indexOfCharUnsafe_1 : List UInt8 := dkwJ14_indexOfCharUnsafe_1 ++ []
def dkwJ14_indexOfCharUnsafe_0 : List UInt8 := [28, 54, 4, 21, 4, 29, 162, 0, 22, 42, 21, 4, 184, 0, 71, 27, 160, 0, 6, 21, 4, 172]
abbrev dktJ14_indexOfCharUnsafe_0 : List UInt8 := dkwJ14_indexOfCharUnsafe_0 ++ dktJ14_indexOfCharUnsafe_1
theorem dksJ14_indexOfCharUnsafe_0 : cJ14_indexOfCharUnsafe.data.toList.drop 0 = dktJ14_indexOfCharUnsafe_0 := by decide +kernel
theorem dksJ14_indexOfCharUnsafe_1 : cJ14_indexOfCharUnsafe.data.toList.drop 22 = dktJ14_indexOfCharUnsafe_1 := dk_seg dksJ14_indexOfCharUnsafe_0 22 rfl rfl
theorem dJ14_indexOfCharUnsafe_0 : decode cJ14_indexOfCharUnsafe 0 = .ok (.iload_n 2, 1) := dk_28 (dk_at dksJ14_indexOfCharUnsafe_0 0 rfl rfl)
theorem dJ14_indexOfCharUnsafe_1 : decode cJ14_indexOfCharUnsafe 1 = .ok (.istore 4, 2) := dk_54 4 (dk_at dksJ14_indexOfCharUnsafe_0 1 rfl rfl)
theorem dJ14_indexOfCharUnsafe_3 : decode cJ14_indexOfCharUnsafe 3 = .ok (.iload 4, 2) := dk_21 4 (dk_at dksJ14_indexOfCharUnsafe_0 3 rfl rfl)
theorem dJ14_indexOfCharUnsafe_5 : decode cJ14_indexOfCharUnsafe 5 = .ok (.iload_n 3, 1) := dk_29 (dk_at dksJ14_indexOfCharUnsafe_0 5 rfl rfl)
theorem dJ14_indexOfCharUnsafe_6 : decode cJ14_indexOfCharUnsafe 6 = .ok (.if_icmp .ge 22, 3) := dk_162 0 22 (dk_at dksJ14_indexOfCharUnsafe_0 6 rfl rfl)
theorem dJ14_indexOfCharUnsafe_9 : decode cJ14_indexOfCharUnsafe 9 = .ok (.aload_n 0, 1) := dk_42 (dk_at dksJ14_indexOfCharUnsafe_0 9 rfl rfl)
theorem dJ14_indexOfCharUnsafe_10 : decode cJ14_indexOfCharUnsafe 10 = .ok (.iload 4, 2) := dk_21 4 (dk_at dksJ14_indexOfCharUnsafe_0 10 rfl rfl)
theorem dJ14_indexOfCharUnsafe_12 : decode cJ14_indexOfCharUnsafe 12 = .ok (.invokestatic 71, 3) := dk_184 0 71 (dk_at dksJ14_indexOfCharUnsafe_0 12 rfl rfl)
theorem dJ14_indexOfCharUnsafe_15 : decode cJ14_indexOfCharUnsafe 15 = .ok (.iload_n 1, 1) := dk_27 (dk_at dksJ14_indexOfCharUnsafe_0 15 rfl rfl)
theorem dJ14_indexOfCharUnsafe_16 : decode cJ14_indexOfCharUnsafe 16 = .ok (.if_icmp .ne 6, 3) := dk_160 0 6 (dk_at dksJ14_indexOfCharUnsafe_0 16 rfl rfl)
theorem dJ14_indexOfCharUnsafe_19 : decode cJ14_indexOfCharUnsafe 19 = .ok (.iload 4, 2) := dk_21 4 (dk_at dksJ14_indexOfCharUnsafe_0 19 rfl rfl)
theorem dJ14_indexOfCharUnsafe_21 : decode cJ14_indexOfCharUnsafe 21 = .ok (.ireturn, 1) := dk_172 (dk_at dksJ14_indexOfCharUnsafe_0 21 rfl rfl)
theorem dJ14_indexOfCharUnsafe_22 : decode cJ14_indexOfCharUnsafe 22 = .ok (.iinc 4 1, 3) := dk_132 4 1 (dk_at dksJ14_indexOfCharUnsafe_1 0 rfl rfl)
theorem dJ14_indexOfCharUnsafe_25 : decode cJ14_indexOfCharUnsafe 25 = .ok (.goto (-22), 3) := dk_167 255 234 (dk_at dksJ14_indexOfCharUnsafe_1 3 rfl rfl)
theorem dJ14_indexOfCharUnsafe_28 : decode cJ14_indexOfCharUnsafe 28 = .ok (.iconst (-1), 1) := dk_2 (dk_at dksJ14_indexOfCharUnsafe_1 6 rfl rfl)
theorem dJ14_indexOfCharUnsafe_29 : decode cJ14_indexOfCharUnsafe 29 = .ok (.ireturn, 1) := dk_172 (dk_at dksJ14_indexOfCharUnsafe_1 7 rfl rfl)
abbrev cJ14_getChar : ByteArray := prog_44_method_5_code
def yJ14_getChar : MethodName := ⟨RJ14, "getChar", "([BI)C"⟩
def dkwJ14_getChar_2 : List UInt8 := [51, 17, 0, 255, 126, 178, 0, 63, 120, 128, 146, 172]
abbrev dktJ14_getChar_2 : List UInt8 := dkwJ14_getChar_2 ++ []
def dkwJ14_getChar_1 : List UInt8 := [183, 0, 56, 191, 27, 4, 120, 60, 42, 27, 132, 1, 1, 51, 17, 0, 255, 126, 178, 0, 59, 120, 42, 27]
abbrev dktJ14_getChar_1 : List UInt8 := dkwJ14_getChar_1 ++ dktJ14_getChar_2
def dkwJ14_getChar_0 : List UInt8 := [178, 0, 44, 154, 0, 25, 27, 155, 0, 11, 27, 42, 184, 0, 48, 161, 0, 13, 187, 0, 52, 89, 18, 54]
abbrev dktJ14_getChar_0 : List UInt8 := dkwJ14_getChar_0 ++ dktJ14_getChar_1
theorem dksJ14_getChar_0 : cJ14_getChar.data.toList.drop 0 = dktJ14_getChar_0 := by decide +kernel
theorem dksJ14_getChar_1 : cJ14_getChar.data.toList.drop 24 = dktJ14_getChar_1 := dk_seg dksJ14_getChar_0 24 rfl rfl
theorem dksJ14_getChar_2 : cJ14_getChar.data.toList.drop 48 = dktJ14_getChar_2 := dk_seg dksJ14_getChar_1 24 rfl rfl
theorem dJ14_getChar_0 : decode cJ14_getChar 0 = .ok (.getstatic 44, 3) := dk_178 0 44 (dk_at dksJ14_getChar_0 0 rfl rfl)
theorem dJ14_getChar_3 : decode cJ14_getChar 3 = .ok (.ifCond .ne 25, 3) := dk_154 0 25 (dk_at dksJ14_getChar_0 3 rfl rfl)
theorem dJ14_getChar_6 : decode cJ14_getChar 6 = .ok (.iload_n 1, 1) := dk_27 (dk_at dksJ14_getChar_0 6 rfl rfl)
theorem dJ14_getChar_7 : decode cJ14_getChar 7 = .ok (.ifCond .lt 11, 3) := dk_155 0 11 (dk_at dksJ14_getChar_0 7 rfl rfl)
theorem dJ14_getChar_10 : decode cJ14_getChar 10 = .ok (.iload_n 1, 1) := dk_27 (dk_at dksJ14_getChar_0 10 rfl rfl)
theorem dJ14_getChar_11 : decode cJ14_getChar 11 = .ok (.aload_n 0, 1) := dk_42 (dk_at dksJ14_getChar_0 11 rfl rfl)
theorem dJ14_getChar_12 : decode cJ14_getChar 12 = .ok (.invokestatic 48, 3) := dk_184 0 48 (dk_at dksJ14_getChar_0 12 rfl rfl)
theorem dJ14_getChar_15 : decode cJ14_getChar 15 = .ok (.if_icmp .lt 13, 3) := dk_161 0 13 (dk_at dksJ14_getChar_0 15 rfl rfl)
theorem dJ14_getChar_18 : decode cJ14_getChar 18 = .ok (.new 52, 3) := dk_187 0 52 (dk_at dksJ14_getChar_0 18 rfl rfl)
theorem dJ14_getChar_21 : decode cJ14_getChar 21 = .ok (.dup, 1) := dk_89 (dk_at dksJ14_getChar_0 21 rfl rfl)
theorem dJ14_getChar_22 : decode cJ14_getChar 22 = .ok (.ldc 54, 2) := dk_18 54 (dk_at dksJ14_getChar_0 22 rfl rfl)
theorem dJ14_getChar_24 : decode cJ14_getChar 24 = .ok (.invokespecial 56, 3) := dk_183 0 56 (dk_at dksJ14_getChar_1 0 rfl rfl)
theorem dJ14_getChar_27 : decode cJ14_getChar 27 = .ok (.athrow, 1) := dk_191 (dk_at dksJ14_getChar_1 3 rfl rfl)
theorem dJ14_getChar_28 : decode cJ14_getChar 28 = .ok (.iload_n 1, 1) := dk_27 (dk_at dksJ14_getChar_1 4 rfl rfl)
theorem dJ14_getChar_29 : decode cJ14_getChar 29 = .ok (.iconst 1, 1) := dk_4 (dk_at dksJ14_getChar_1 5 rfl rfl)
theorem dJ14_getChar_30 : decode cJ14_getChar 30 = .ok (.ishl, 1) := dk_120 (dk_at dksJ14_getChar_1 6 rfl rfl)
theorem dJ14_getChar_31 : decode cJ14_getChar 31 = .ok (.istore_n 1, 1) := dk_60 (dk_at dksJ14_getChar_1 7 rfl rfl)
theorem dJ14_getChar_32 : decode cJ14_getChar 32 = .ok (.aload_n 0, 1) := dk_42 (dk_at dksJ14_getChar_1 8 rfl rfl)
theorem dJ14_getChar_33 : decode cJ14_getChar 33 = .ok (.iload_n 1, 1) := dk_27 (dk_at dksJ14_getChar_1 9 rfl rfl)
theorem dJ14_getChar_34 : decode cJ14_getChar 34 = .ok (.iinc 1 1, 3) := dk_132 1 1 (dk_at dksJ14_getChar_1 10 rfl rfl)
theorem dJ14_getChar_37 : decode cJ14_getChar 37 = .ok (.baload, 1) := dk_51 (dk_at dksJ14_getChar_1 13 rfl rfl)
theorem dJ14_getChar_38 : decode cJ14_getChar 38 = .ok (.sipush 255, 3) := dk_17 0 255 (dk_at dksJ14_getChar_1 14 rfl rfl)
theorem dJ14_getChar_41 : decode cJ14_getChar 41 = .ok (.iand, 1) := dk_126 (dk_at dksJ14_getChar_1 17 rfl rfl)
theorem dJ14_getChar_42 : decode cJ14_getChar 42 = .ok (.getstatic 59, 3) := dk_178 0 59 (dk_at dksJ14_getChar_1 18 rfl rfl)
theorem dJ14_getChar_45 : decode cJ14_getChar 45 = .ok (.ishl, 1) := dk_120 (dk_at dksJ14_getChar_1 21 rfl rfl)
theorem dJ14_getChar_46 : decode cJ14_getChar 46 = .ok (.aload_n 0, 1) := dk_42 (dk_at dksJ14_getChar_1 22 rfl rfl)
theorem dJ14_getChar_47 : decode cJ14_getChar 47 = .ok (.iload_n 1, 1) := dk_27 (dk_at dksJ14_getChar_1 23 rfl rfl)
theorem dJ14_getChar_48 : decode cJ14_getChar 48 = .ok (.baload, 1) := dk_51 (dk_at dksJ14_getChar_2 0 rfl rfl)
theorem dJ14_getChar_49 : decode cJ14_getChar 49 = .ok (.sipush 255, 3) := dk_17 0 255 (dk_at dksJ14_getChar_2 1 rfl rfl)
theorem dJ14_getChar_52 : decode cJ14_getChar 52 = .ok (.iand, 1) := dk_126 (dk_at dksJ14_getChar_2 4 rfl rfl)
theorem dJ14_getChar_53 : decode cJ14_getChar 53 = .ok (.getstatic 63, 3) := dk_178 0 63 (dk_at dksJ14_getChar_2 5 rfl rfl)
theorem dJ14_getChar_56 : decode cJ14_getChar 56 = .ok (.ishl, 1) := dk_120 (dk_at dksJ14_getChar_2 8 rfl rfl)
theorem dJ14_getChar_57 : decode cJ14_getChar 57 = .ok (.ior, 1) := dk_128 (dk_at dksJ14_getChar_2 9 rfl rfl)
theorem dJ14_getChar_58 : decode cJ14_getChar 58 = .ok (.i2c, 1) := dk_146 (dk_at dksJ14_getChar_2 10 rfl rfl)
theorem dJ14_getChar_59 : decode cJ14_getChar 59 = .ok (.ireturn, 1) := dk_172 (dk_at dksJ14_getChar_2 11 rfl rfl)
abbrev cJ14_indexOfSupplementary : ByteArray := prog_44_method_49_code
def yJ14_indexOfSupplementary : MethodName := ⟨RJ14, "indexOfSupplementary", "([BIII)I"⟩
def dkwJ14_indexOfSupplementary_3 : List UInt8 := [167, 255, 218, 2, 172]
abbrev dktJ14_indexOfSupplementary_3 : List UInt8 := dkwJ14_indexOfSupplementary_3 ++ []
def dkwJ14_indexOfSupplementary_2 : List UInt8 := [160, 0, 19, 42, 21, 6, 4, 96, 184, 0, 71, 21, 5, 160, 0, 6, 21, 6, 172, 132, 6, 1]
abbrev dktJ14_indexOfSupplementary_2 : List UInt8 := dkwJ14_indexOfSupplementary_2 ++ dktJ14_indexOfSupplementary_3
def dkwJ14_indexOfSupplementary_1 : List UInt8 := [184, 0, 96, 28, 54, 6, 21, 6, 29, 4, 100, 162, 0, 36, 42, 21, 6, 184, 0, 71, 21, 4]
abbrev dktJ14_indexOfSupplementary_1 : List UInt8 := dkwJ14_indexOfSupplementary_1 ++ dktJ14_indexOfSupplementary_2
def dkwJ14_indexOfSupplementary_0 : List UInt8 := [27, 184, 0, 164, 153, 0, 65, 27, 184, 0, 157, 54, 4, 27, 184, 0, 161, 54, 5, 28, 29, 42]
abbrev dktJ14_indexOfSupplementary_0 : List UInt8 := dkwJ14_indexOfSupplementary_0 ++ dktJ14_indexOfSupplementary_1
theorem dksJ14_indexOfSupplementary_0 : cJ14_indexOfSupplementary.data.toList.drop 0 = dktJ14_indexOfSupplementary_0 := by decide +kernel
theorem dksJ14_indexOfSupplementary_1 : cJ14_indexOfSupplementary.data.toList.drop 22 = dktJ14_indexOfSupplementary_1 := dk_seg dksJ14_indexOfSupplementary_0 22 rfl rfl
theorem dksJ14_indexOfSupplementary_2 : cJ14_indexOfSupplementary.data.toList.drop 44 = dktJ14_indexOfSupplementary_2 := dk_seg dksJ14_indexOfSupplementary_1 22 rfl rfl
theorem dksJ14_indexOfSupplementary_3 : cJ14_indexOfSupplementary.data.toList.drop 66 = dktJ14_indexOfSupplementary_3 := dk_seg dksJ14_indexOfSupplementary_2 22 rfl rfl
theorem dJ14_indexOfSupplementary_0 : decode cJ14_indexOfSupplementary 0 = .ok (.iload_n 1, 1) := dk_27 (dk_at dksJ14_indexOfSupplementary_0 0 rfl rfl)
theorem dJ14_indexOfSupplementary_1 : decode cJ14_indexOfSupplementary 1 = .ok (.invokestatic 164, 3) := dk_184 0 164 (dk_at dksJ14_indexOfSupplementary_0 1 rfl rfl)
theorem dJ14_indexOfSupplementary_4 : decode cJ14_indexOfSupplementary 4 = .ok (.ifCond .eq 65, 3) := dk_153 0 65 (dk_at dksJ14_indexOfSupplementary_0 4 rfl rfl)
theorem dJ14_indexOfSupplementary_7 : decode cJ14_indexOfSupplementary 7 = .ok (.iload_n 1, 1) := dk_27 (dk_at dksJ14_indexOfSupplementary_0 7 rfl rfl)
theorem dJ14_indexOfSupplementary_8 : decode cJ14_indexOfSupplementary 8 = .ok (.invokestatic 157, 3) := dk_184 0 157 (dk_at dksJ14_indexOfSupplementary_0 8 rfl rfl)
theorem dJ14_indexOfSupplementary_11 : decode cJ14_indexOfSupplementary 11 = .ok (.istore 4, 2) := dk_54 4 (dk_at dksJ14_indexOfSupplementary_0 11 rfl rfl)
theorem dJ14_indexOfSupplementary_13 : decode cJ14_indexOfSupplementary 13 = .ok (.iload_n 1, 1) := dk_27 (dk_at dksJ14_indexOfSupplementary_0 13 rfl rfl)
theorem dJ14_indexOfSupplementary_14 : decode cJ14_indexOfSupplementary 14 = .ok (.invokestatic 161, 3) := dk_184 0 161 (dk_at dksJ14_indexOfSupplementary_0 14 rfl rfl)
theorem dJ14_indexOfSupplementary_17 : decode cJ14_indexOfSupplementary 17 = .ok (.istore 5, 2) := dk_54 5 (dk_at dksJ14_indexOfSupplementary_0 17 rfl rfl)
theorem dJ14_indexOfSupplementary_19 : decode cJ14_indexOfSupplementary 19 = .ok (.iload_n 2, 1) := dk_28 (dk_at dksJ14_indexOfSupplementary_0 19 rfl rfl)
theorem dJ14_indexOfSupplementary_20 : decode cJ14_indexOfSupplementary 20 = .ok (.iload_n 3, 1) := dk_29 (dk_at dksJ14_indexOfSupplementary_0 20 rfl rfl)
theorem dJ14_indexOfSupplementary_21 : decode cJ14_indexOfSupplementary 21 = .ok (.aload_n 0, 1) := dk_42 (dk_at dksJ14_indexOfSupplementary_0 21 rfl rfl)
theorem dJ14_indexOfSupplementary_22 : decode cJ14_indexOfSupplementary 22 = .ok (.invokestatic 96, 3) := dk_184 0 96 (dk_at dksJ14_indexOfSupplementary_1 0 rfl rfl)
theorem dJ14_indexOfSupplementary_25 : decode cJ14_indexOfSupplementary 25 = .ok (.iload_n 2, 1) := dk_28 (dk_at dksJ14_indexOfSupplementary_1 3 rfl rfl)
theorem dJ14_indexOfSupplementary_26 : decode cJ14_indexOfSupplementary 26 = .ok (.istore 6, 2) := dk_54 6 (dk_at dksJ14_indexOfSupplementary_1 4 rfl rfl)
theorem dJ14_indexOfSupplementary_28 : decode cJ14_indexOfSupplementary 28 = .ok (.iload 6, 2) := dk_21 6 (dk_at dksJ14_indexOfSupplementary_1 6 rfl rfl)
theorem dJ14_indexOfSupplementary_30 : decode cJ14_indexOfSupplementary 30 = .ok (.iload_n 3, 1) := dk_29 (dk_at dksJ14_indexOfSupplementary_1 8 rfl rfl)
theorem dJ14_indexOfSupplementary_31 : decode cJ14_indexOfSupplementary 31 = .ok (.iconst 1, 1) := dk_4 (dk_at dksJ14_indexOfSupplementary_1 9 rfl rfl)
theorem dJ14_indexOfSupplementary_32 : decode cJ14_indexOfSupplementary 32 = .ok (.isub, 1) := dk_100 (dk_at dksJ14_indexOfSupplementary_1 10 rfl rfl)
theorem dJ14_indexOfSupplementary_33 : decode cJ14_indexOfSupplementary 33 = .ok (.if_icmp .ge 36, 3) := dk_162 0 36 (dk_at dksJ14_indexOfSupplementary_1 11 rfl rfl)
theorem dJ14_indexOfSupplementary_36 : decode cJ14_indexOfSupplementary 36 = .ok (.aload_n 0, 1) := dk_42 (dk_at dksJ14_indexOfSupplementary_1 14 rfl rfl)
theorem dJ14_indexOfSupplementary_37 : decode cJ14_indexOfSupplementary 37 = .ok (.iload 6, 2) := dk_21 6 (dk_at dksJ14_indexOfSupplementary_1 15 rfl rfl)
theorem dJ14_indexOfSupplementary_39 : decode cJ14_indexOfSupplementary 39 = .ok (.invokestatic 71, 3) := dk_184 0 71 (dk_at dksJ14_indexOfSupplementary_1 17 rfl rfl)
theorem dJ14_indexOfSupplementary_42 : decode cJ14_indexOfSupplementary 42 = .ok (.iload 4, 2) := dk_21 4 (dk_at dksJ14_indexOfSupplementary_1 20 rfl rfl)
theorem dJ14_indexOfSupplementary_44 : decode cJ14_indexOfSupplementary 44 = .ok (.if_icmp .ne 19, 3) := dk_160 0 19 (dk_at dksJ14_indexOfSupplementary_2 0 rfl rfl)
theorem dJ14_indexOfSupplementary_47 : decode cJ14_indexOfSupplementary 47 = .ok (.aload_n 0, 1) := dk_42 (dk_at dksJ14_indexOfSupplementary_2 3 rfl rfl)
theorem dJ14_indexOfSupplementary_48 : decode cJ14_indexOfSupplementary 48 = .ok (.iload 6, 2) := dk_21 6 (dk_at dksJ14_indexOfSupplementary_2 4 rfl rfl)
theorem dJ14_indexOfSupplementary_50 : decode cJ14_indexOfSupplementary 50 = .ok (.iconst 1, 1) := dk_4 (dk_at dksJ14_indexOfSupplementary_2 6 rfl rfl)
theorem dJ14_indexOfSupplementary_51 : decode cJ14_indexOfSupplementary 51 = .ok (.iadd, 1) := dk_96 (dk_at dksJ14_indexOfSupplementary_2 7 rfl rfl)
theorem dJ14_indexOfSupplementary_52 : decode cJ14_indexOfSupplementary 52 = .ok (.invokestatic 71, 3) := dk_184 0 71 (dk_at dksJ14_indexOfSupplementary_2 8 rfl rfl)
theorem dJ14_indexOfSupplementary_55 : decode cJ14_indexOfSupplementary 55 = .ok (.iload 5, 2) := dk_21 5 (dk_at dksJ14_indexOfSupplementary_2 11 rfl rfl)
theorem dJ14_indexOfSupplementary_57 : decode cJ14_indexOfSupplementary 57 = .ok (.if_icmp .ne 6, 3) := dk_160 0 6 (dk_at dksJ14_indexOfSupplementary_2 13 rfl rfl)
theorem dJ14_indexOfSupplementary_60 : decode cJ14_indexOfSupplementary 60 = .ok (.iload 6, 2) := dk_21 6 (dk_at dksJ14_indexOfSupplementary_2 16 rfl rfl)
theorem dJ14_indexOfSupplementary_62 : decode cJ14_indexOfSupplementary 62 = .ok (.ireturn, 1) := dk_172 (dk_at dksJ14_indexOfSupplementary_2 18 rfl rfl)
theorem dJ14_indexOfSupplementary_63 : decode cJ14_indexOfSupplementary 63 = .ok (.iinc 6 1, 3) := dk_132 6 1 (dk_at dksJ14_indexOfSupplementary_2 19 rfl rfl)
theorem dJ14_indexOfSupplementary_66 : decode cJ14_indexOfSupplementary 66 = .ok (.goto (-38), 3) := dk_167 255 218 (dk_at dksJ14_indexOfSupplementary_3 0 rfl rfl)
theorem dJ14_indexOfSupplementary_69 : decode cJ14_indexOfSupplementary 69 = .ok (.iconst (-1), 1) := dk_2 (dk_at dksJ14_indexOfSupplementary_3 3 rfl rfl)
theorem dJ14_indexOfSupplementary_70 : decode cJ14_indexOfSupplementary 70 = .ok (.ireturn, 1) := dk_172 (dk_at dksJ14_indexOfSupplementary_3 4 rfl rfl)
theorem q88 : (Jvm.Cond.initialized "java/lang/StringUTF16") ∈ lw_all := lw_g (lw_at lw_m1 23 rfl) rfl
theorem q637 : (Jvm.Cond.static ({ cls := "java/lang/StringUTF16", name := "indexOf", desc := "([BIII)I" } : Jvm.MethodName)) ∈ lw_all := lw_g (lw_at lw_m3 92 rfl) rfl
theorem q638 : (Jvm.Cond.code ({ cls := "java/lang/StringUTF16", name := "indexOf", desc := "([BIII)I" } : Jvm.MethodName) prog_44_method_40_code (4 : Nat) (Option.some Jvm.ClassFile.FieldType.int)) ∈ lw_all := lw_g (lw_at lw_m3 93 rfl) rfl
theorem q639 : (Jvm.Cond.methodLink "java/lang/StringUTF16" (224 : Nat) ({ cls := "java/lang/Math", name := "max", desc := "(II)I" } : Jvm.MethodName)) ∈ lw_all := lw_g (lw_at lw_m3 94 rfl) rfl
theorem q640 : (Jvm.Cond.methodLink "java/lang/StringUTF16" (183 : Nat) ({ cls := "java/lang/Math", name := "min", desc := "(II)I" } : Jvm.MethodName)) ∈ lw_all := lw_g (lw_at lw_m3 95 rfl) rfl
theorem q641 : (Jvm.Cond.constant "java/lang/StringUTF16" (227 : Nat) (65536 : Int32)) ∈ lw_all := lw_g (lw_at lw_m3 96 rfl) rfl
theorem q642 : (Jvm.Cond.methodLink "java/lang/StringUTF16" (228 : Nat) ({ cls := "java/lang/StringUTF16", name := "indexOfChar", desc := "([BIII)I" } : Jvm.MethodName)) ∈ lw_all := lw_g (lw_at lw_m3 97 rfl) rfl
theorem q643 : (Jvm.Cond.static ({ cls := "java/lang/StringUTF16", name := "indexOfChar", desc := "([BIII)I" } : Jvm.MethodName)) ∈ lw_all := lw_g (lw_at lw_m3 98 rfl) rfl
theorem q644 : (Jvm.Cond.code ({ cls := "java/lang/StringUTF16", name := "indexOfChar", desc := "([BIII)I" } : Jvm.MethodName) prog_44_method_47_code (4 : Nat) (Option.some Jvm.ClassFile.FieldType.int)) ∈ lw_all := lw_g (lw_at lw_m3 99 rfl) rfl
theorem q645 : (Jvm.Cond.methodLink "java/lang/StringUTF16" (96 : Nat) ({ cls := "java/lang/StringUTF16", name := "checkBoundsBeginEnd", desc := "(II[B)V" } : Jvm.MethodName)) ∈ lw_all := lw_g (lw_at lw_m3 100 rfl) rfl
theorem q646 : (Jvm.Cond.static ({ cls := "java/lang/StringUTF16", name := "checkBoundsBeginEnd", desc := "(II[B)V" } : Jvm.MethodName)) ∈ lw_all := lw_g (lw_at lw_m3 101 rfl) rfl
theorem q647 : (Jvm.Cond.code ({ cls := "java/lang/StringUTF16", name := "checkBoundsBeginEnd", desc := "(II[B)V" } : Jvm.MethodName) prog_44_method_93_code (3 : Nat) (Option.none : Option Jvm.ClassFile.FieldType)) ∈ lw_all := lw_g (lw_at lw_m3 102 rfl) rfl
theorem q648 : (Jvm.Cond.methodLink "java/lang/StringUTF16" (48 : Nat) ({ cls := "java/lang/StringUTF16", name := "length", desc := "([B)I" } : Jvm.MethodName)) ∈ lw_all := lw_g (lw_at lw_m3 103 rfl) rfl
theorem q649 : (Jvm.Cond.static ({ cls := "java/lang/StringUTF16", name := "length", desc := "([B)I" } : Jvm.MethodName)) ∈ lw_all := lw_g (lw_at lw_m3 104 rfl) rfl
theorem q650 : (Jvm.Cond.code ({ cls := "java/lang/StringUTF16", name := "length", desc := "([B)I" } : Jvm.MethodName) prog_44_method_6_code (1 : Nat) (Option.some Jvm.ClassFile.FieldType.int)) ∈ lw_all := lw_g (lw_at lw_m3 105 rfl) rfl
theorem q651 : (Jvm.Cond.methodLink "java/lang/StringUTF16" (241 : Nat) ({ cls := "java/lang/String", name := "checkBoundsBeginEnd", desc := "(III)V" } : Jvm.MethodName)) ∈ lw_all := lw_g (lw_at lw_m3 106 rfl) rfl
theorem q659 : (Jvm.Cond.methodLink "java/lang/StringUTF16" (244 : Nat) ({ cls := "java/lang/StringUTF16", name := "indexOfCharUnsafe", desc := "([BIII)I" } : Jvm.MethodName)) ∈ lw_all := lw_g (lw_at lw_m3 114 rfl) rfl
theorem q660 : (Jvm.Cond.static ({ cls := "java/lang/StringUTF16", name := "indexOfCharUnsafe", desc := "([BIII)I" } : Jvm.MethodName)) ∈ lw_all := lw_g (lw_at lw_m3 115 rfl) rfl
theorem q661 : (Jvm.Cond.code ({ cls := "java/lang/StringUTF16", name := "indexOfCharUnsafe", desc := "([BIII)I" } : Jvm.MethodName) prog_44_method_48_code (5 : Nat) (Option.some Jvm.ClassFile.FieldType.int)) ∈ lw_all := lw_g (lw_at lw_m3 116 rfl) rfl
theorem q662 : (Jvm.Cond.methodLink "java/lang/StringUTF16" (71 : Nat) ({ cls := "java/lang/StringUTF16", name := "getChar", desc := "([BI)C" } : Jvm.MethodName)) ∈ lw_all := lw_g (lw_at lw_m3 117 rfl) rfl
theorem q663 : (Jvm.Cond.static ({ cls := "java/lang/StringUTF16", name := "getChar", desc := "([BI)C" } : Jvm.MethodName)) ∈ lw_all := lw_g (lw_at lw_m3 118 rfl) rfl
theorem q664 : (Jvm.Cond.code ({ cls := "java/lang/StringUTF16", name := "getChar", desc := "([BI)C" } : Jvm.MethodName) prog_44_method_5_code (2 : Nat) (Option.some Jvm.ClassFile.FieldType.char)) ∈ lw_all := lw_g (lw_at lw_m3 119 rfl) rfl
theorem q665 : (Jvm.Cond.fieldLink "java/lang/StringUTF16" (44 : Nat) "java/lang/StringUTF16" "$assertionsDisabled" "Z") ∈ lw_all := lw_g (lw_at lw_m3 120 rfl) rfl
theorem q666 : (Jvm.Cond.laysStatic "java/lang/StringUTF16" "$assertionsDisabled" "Z") ∈ lw_tbl := lw_at lw_m3 121 rfl
theorem q667 : (Jvm.Cond.fieldLink "java/lang/StringUTF16" (59 : Nat) "java/lang/StringUTF16" "HI_BYTE_SHIFT" "I") ∈ lw_all := lw_g (lw_at lw_m3 122 rfl) rfl
theorem q668 : (Jvm.Cond.laysStatic "java/lang/StringUTF16" "HI_BYTE_SHIFT" "I") ∈ lw_tbl := lw_at lw_m3 123 rfl
theorem q669 : (Jvm.Cond.fieldLink "java/lang/StringUTF16" (63 : Nat) "java/lang/StringUTF16" "LO_BYTE_SHIFT" "I") ∈ lw_all := lw_g (lw_at lw_m3 124 rfl) rfl
theorem q670 : (Jvm.Cond.laysStatic "java/lang/StringUTF16" "LO_BYTE_SHIFT" "I") ∈ lw_tbl := lw_at lw_m3 125 rfl
theorem q671 : (Jvm.Cond.methodLink "java/lang/StringUTF16" (232 : Nat) ({ cls := "java/lang/StringUTF16", name := "indexOfSupplementary", desc := "([BIII)I" } : Jvm.MethodName)) ∈ lw_all := lw_g (lw_at lw_m3 126 rfl) rfl
theorem q672 : (Jvm.Cond.static ({ cls := "java/lang/StringUTF16", name := "indexOfSupplementary", desc := "([BIII)I" } : Jvm.MethodName)) ∈ lw_all := lw_g (lw_at lw_m3 127 rfl) rfl
theorem q673 : (Jvm.Cond.code ({ cls := "java/lang/StringUTF16", name := "indexOfSupplementary", desc := "([BIII)I" } : Jvm.MethodName) prog_44_method_49_code (7 : Nat) (Option.some Jvm.ClassFile.FieldType.int)) ∈ lw_all := lw_g (lw_at lw_m3 128 rfl) rfl
theorem q674 : (Jvm.Cond.methodLink "java/lang/StringUTF16" (164 : Nat) ({ cls := "java/lang/Character", name := "isValidCodePoint", desc := "(I)Z" } : Jvm.MethodName)) ∈ lw_all := lw_g (lw_at lw_m3 129 rfl) rfl
theorem q677 : (Jvm.Cond.methodLink "java/lang/StringUTF16" (157 : Nat) ({ cls := "java/lang/Character", name := "highSurrogate", desc := "(I)C" } : Jvm.MethodName)) ∈ lw_all := lw_g (lw_at lw_m3 132 rfl) rfl
theorem q681 : (Jvm.Cond.methodLink "java/lang/StringUTF16" (161 : Nat) ({ cls := "java/lang/Character", name := "lowSurrogate", desc := "(I)C" } : Jvm.MethodName)) ∈ lw_all := lw_g (lw_at lw_m3 136 rfl) rfl

/-! jdk/internal/util/Preconditions -/
set_option maxRecDepth 100000
def RJ15 : String := "jdk/internal/util/Preconditions"
abbrev cJ15_checkFromToIndex : ByteArray := prog_59_method_12_code
def yJ15_checkFromToIndex : MethodName := ⟨RJ15, "checkFromToIndex", "(IIILjava/util/function/BiFunction;)I"⟩
def dkwJ15_checkFromToIndex_0 : List UInt8 := [26, 155, 0, 13, 26, 27, 163, 0, 8, 27, 28, 164, 0, 11, 45, 26, 27, 28, 184, 0, 99, 191, 26, 172]
abbrev dktJ15_checkFromToIndex_0 : List UInt8 := dkwJ15_checkFromToIndex_0 ++ []
theorem dksJ15_checkFromToIndex_0 : cJ15_checkFromToIndex.data.toList.drop 0 = dktJ15_checkFromToIndex_0 := by decide +kernel
theorem dJ15_checkFromToIndex_0 : decode cJ15_checkFromToIndex 0 = .ok (.iload_n 0, 1) := dk_26 (dk_at dksJ15_checkFromToIndex_0 0 rfl rfl)
theorem dJ15_checkFromToIndex_1 : decode cJ15_checkFromToIndex 1 = .ok (.ifCond .lt 13, 3) := dk_155 0 13 (dk_at dksJ15_checkFromToIndex_0 1 rfl rfl)
theorem dJ15_checkFromToIndex_4 : decode cJ15_checkFromToIndex 4 = .ok (.iload_n 0, 1) := dk_26 (dk_at dksJ15_checkFromToIndex_0 4 rfl rfl)
theorem dJ15_checkFromToIndex_5 : decode cJ15_checkFromToIndex 5 = .ok (.iload_n 1, 1) := dk_27 (dk_at dksJ15_checkFromToIndex_0 5 rfl rfl)
theorem dJ15_checkFromToIndex_6 : decode cJ15_checkFromToIndex 6 = .ok (.if_icmp .gt 8, 3) := dk_163 0 8 (dk_at dksJ15_checkFromToIndex_0 6 rfl rfl)
theorem dJ15_checkFromToIndex_9 : decode cJ15_checkFromToIndex 9 = .ok (.iload_n 1, 1) := dk_27 (dk_at dksJ15_checkFromToIndex_0 9 rfl rfl)
theorem dJ15_checkFromToIndex_10 : decode cJ15_checkFromToIndex 10 = .ok (.iload_n 2, 1) := dk_28 (dk_at dksJ15_checkFromToIndex_0 10 rfl rfl)
theorem dJ15_checkFromToIndex_11 : decode cJ15_checkFromToIndex 11 = .ok (.if_icmp .le 11, 3) := dk_164 0 11 (dk_at dksJ15_checkFromToIndex_0 11 rfl rfl)
theorem dJ15_checkFromToIndex_14 : decode cJ15_checkFromToIndex 14 = .ok (.aload_n 3, 1) := dk_45 (dk_at dksJ15_checkFromToIndex_0 14 rfl rfl)
theorem dJ15_checkFromToIndex_15 : decode cJ15_checkFromToIndex 15 = .ok (.iload_n 0, 1) := dk_26 (dk_at dksJ15_checkFromToIndex_0 15 rfl rfl)
theorem dJ15_checkFromToIndex_16 : decode cJ15_checkFromToIndex 16 = .ok (.iload_n 1, 1) := dk_27 (dk_at dksJ15_checkFromToIndex_0 16 rfl rfl)
theorem dJ15_checkFromToIndex_17 : decode cJ15_checkFromToIndex 17 = .ok (.iload_n 2, 1) := dk_28 (dk_at dksJ15_checkFromToIndex_0 17 rfl rfl)
theorem dJ15_checkFromToIndex_18 : decode cJ15_checkFromToIndex 18 = .ok (.invokestatic 99, 3) := dk_184 0 99 (dk_at dksJ15_checkFromToIndex_0 18 rfl rfl)
theorem dJ15_checkFromToIndex_21 : decode cJ15_checkFromToIndex 21 = .ok (.athrow, 1) := dk_191 (dk_at dksJ15_checkFromToIndex_0 21 rfl rfl)
theorem dJ15_checkFromToIndex_22 : decode cJ15_checkFromToIndex 22 = .ok (.iload_n 0, 1) := dk_26 (dk_at dksJ15_checkFromToIndex_0 22 rfl rfl)
theorem dJ15_checkFromToIndex_23 : decode cJ15_checkFromToIndex 23 = .ok (.ireturn, 1) := dk_172 (dk_at dksJ15_checkFromToIndex_0 23 rfl rfl)
abbrev cJ15_checkIndex : ByteArray := prog_59_method_11_code
def yJ15_checkIndex : MethodName := ⟨RJ15, "checkIndex", "(IILjava/util/function/BiFunction;)I"⟩
def dkwJ15_checkIndex_0 : List UInt8 := [26, 155, 0, 8, 26, 27, 161, 0, 10, 44, 26, 27, 184, 0, 95, 191, 26, 172]
abbrev dktJ15_checkIndex_0 : List UInt8 := dkwJ15_checkIndex_0 ++ []
theorem dksJ15_checkIndex_0 : cJ15_checkIndex.data.toList.drop 0 = dktJ15_checkIndex_0 := by decide +kernel
theorem dJ15_checkIndex_0 : decode cJ15_checkIndex 0 = .ok (.iload_n 0, 1) := dk_26 (dk_at dksJ15_checkIndex_0 0 rfl rfl)
theorem dJ15_checkIndex_1 : decode cJ15_checkIndex 1 = .ok (.ifCond .lt 8, 3) := dk_155 0 8 (dk_at dksJ15_checkIndex_0 1 rfl rfl)
theorem dJ15_checkIndex_4 : decode cJ15_checkIndex 4 = .ok (.iload_n 0, 1) := dk_26 (dk_at dksJ15_checkIndex_0 4 rfl rfl)
theorem dJ15_checkIndex_5 : decode cJ15_checkIndex 5 = .ok (.iload_n 1, 1) := dk_27 (dk_at dksJ15_checkIndex_0 5 rfl rfl)
theorem dJ15_checkIndex_6 : decode cJ15_checkIndex 6 = .ok (.if_icmp .lt 10, 3) := dk_161 0 10 (dk_at dksJ15_checkIndex_0 6 rfl rfl)
theorem dJ15_checkIndex_9 : decode cJ15_checkIndex 9 = .ok (.aload_n 2, 1) := dk_44 (dk_at dksJ15_checkIndex_0 9 rfl rfl)
theorem dJ15_checkIndex_10 : decode cJ15_checkIndex 10 = .ok (.iload_n 0, 1) := dk_26 (dk_at dksJ15_checkIndex_0 10 rfl rfl)
theorem dJ15_checkIndex_11 : decode cJ15_checkIndex 11 = .ok (.iload_n 1, 1) := dk_27 (dk_at dksJ15_checkIndex_0 11 rfl rfl)
theorem dJ15_checkIndex_12 : decode cJ15_checkIndex 12 = .ok (.invokestatic 95, 3) := dk_184 0 95 (dk_at dksJ15_checkIndex_0 12 rfl rfl)
theorem dJ15_checkIndex_15 : decode cJ15_checkIndex 15 = .ok (.athrow, 1) := dk_191 (dk_at dksJ15_checkIndex_0 15 rfl rfl)
theorem dJ15_checkIndex_16 : decode cJ15_checkIndex 16 = .ok (.iload_n 0, 1) := dk_26 (dk_at dksJ15_checkIndex_0 16 rfl rfl)
theorem dJ15_checkIndex_17 : decode cJ15_checkIndex 17 = .ok (.ireturn, 1) := dk_172 (dk_at dksJ15_checkIndex_0 17 rfl rfl)
theorem q89 : (Jvm.Cond.initialized "jdk/internal/util/Preconditions") ∈ lw_all := lw_g (lw_at lw_m1 24 rfl) rfl
theorem q655 : (Jvm.Cond.laysStatic "jdk/internal/util/Preconditions" "SIOOBE_FORMATTER" "Ljava/util/function/BiFunction;") ∈ lw_tbl := lw_at lw_m3 110 rfl
theorem q657 : (Jvm.Cond.static ({ cls := "jdk/internal/util/Preconditions", name := "checkFromToIndex", desc := "(IIILjava/util/function/BiFunction;)I" } : Jvm.MethodName)) ∈ lw_all := lw_g (lw_at lw_m3 112 rfl) rfl
theorem q658 : (Jvm.Cond.code ({ cls := "jdk/internal/util/Preconditions", name := "checkFromToIndex", desc := "(IIILjava/util/function/BiFunction;)I" } : Jvm.MethodName) prog_59_method_12_code (4 : Nat) (Option.some Jvm.ClassFile.FieldType.int)) ∈ lw_all := lw_g (lw_at lw_m3 113 rfl) rfl
theorem q866 : (Jvm.Cond.static ({ cls := "jdk/internal/util/Preconditions", name := "checkIndex", desc := "(IILjava/util/function/BiFunction;)I" } : Jvm.MethodName)) ∈ lw_all := lw_g (lw_at lw_m4 81 rfl) rfl
theorem q867 : (Jvm.Cond.code ({ cls := "jdk/internal/util/Preconditions", name := "checkIndex", desc := "(IILjava/util/function/BiFunction;)I" } : Jvm.MethodName) prog_59_method_11_code (3 : Nat) (Option.some Jvm.ClassFile.FieldType.int)) ∈ lw_all := lw_g (lw_at lw_m4 82 rfl) rfl

/-! java/lang/Character -/
set_option maxRecDepth 100000
def RJ16 : String := "java/lang/Character"
abbrev cJ16_isValidCodePoint : ByteArray := prog_31_method_11_code
def yJ16_isValidCodePoint : MethodName := ⟨RJ16, "isValidCodePoint", "(I)Z"⟩
def dkwJ16_isValidCodePoint_0 : List UInt8 := [26, 16, 16, 124, 60, 27, 16, 17, 162, 0, 7, 4, 167, 0, 4, 3, 172]
abbrev dktJ16_isValidCodePoint_0 : List UInt8 := dkwJ16_isValidCodePoint_0 ++ []
theorem dksJ16_isValidCodePoint_0 : cJ16_isValidCodePoint.data.toList.drop 0 = dktJ16_isValidCodePoint_0 := by decide +kernel
theorem dJ16_isValidCodePoint_0 : decode cJ16_isValidCodePoint 0 = .ok (.iload_n 0, 1) := dk_26 (dk_at dksJ16_isValidCodePoint_0 0 rfl rfl)
theorem dJ16_isValidCodePoint_1 : decode cJ16_isValidCodePoint 1 = .ok (.bipush 16, 2) := dk_16 16 (dk_at dksJ16_isValidCodePoint_0 1 rfl rfl)
theorem dJ16_isValidCodePoint_3 : decode cJ16_isValidCodePoint 3 = .ok (.iushr, 1) := dk_124 (dk_at dksJ16_isValidCodePoint_0 3 rfl rfl)
theorem dJ16_isValidCodePoint_4 : decode cJ16_isValidCodePoint 4 = .ok (.istore_n 1, 1) := dk_60 (dk_at dksJ16_isValidCodePoint_0 4 rfl rfl)
theorem dJ16_isValidCodePoint_5 : decode cJ16_isValidCodePoint 5 = .ok (.iload_n 1, 1) := dk_27 (dk_at dksJ16_isValidCodePoint_0 5 rfl rfl)
theorem dJ16_isValidCodePoint_6 : decode cJ16_isValidCodePoint 6 = .ok (.bipush 17, 2) := dk_16 17 (dk_at dksJ16_isValidCodePoint_0 6 rfl rfl)
theorem dJ16_isValidCodePoint_8 : decode cJ16_isValidCodePoint 8 = .ok (.if_icmp .ge 7, 3) := dk_162 0 7 (dk_at dksJ16_isValidCodePoint_0 8 rfl rfl)
theorem dJ16_isValidCodePoint_11 : decode cJ16_isValidCodePoint 11 = .ok (.iconst 1, 1) := dk_4 (dk_at dksJ16_isValidCodePoint_0 11 rfl rfl)
theorem dJ16_isValidCodePoint_12 : decode cJ16_isValidCodePoint 12 = .ok (.goto 4, 3) := dk_167 0 4 (dk_at dksJ16_isValidCodePoint_0 12 rfl rfl)
theorem dJ16_isValidCodePoint_15 : decode cJ16_isValidCodePoint 15 = .ok (.iconst 0, 1) := dk_3 (dk_at dksJ16_isValidCodePoint_0 15 rfl rfl)
theorem dJ16_isValidCodePoint_16 : decode cJ16_isValidCodePoint 16 = .ok (.ireturn, 1) := dk_172 (dk_at dksJ16_isValidCodePoint_0 16 rfl rfl)
abbrev cJ16_highSurrogate : ByteArray := prog_31_method_28_code
def yJ16_highSurrogate : MethodName := ⟨RJ16, "highSurrogate", "(I)C"⟩
def dkwJ16_highSurrogate_0 : List UInt8 := [26, 16, 10, 124, 18, 110, 96, 146, 172]
abbrev dktJ16_highSurrogate_0 : List UInt8 := dkwJ16_highSurrogate_0 ++ []
theorem dksJ16_highSurrogate_0 : cJ16_highSurrogate.data.toList.drop 0 = dktJ16_highSurrogate_0 := by decide +kernel
theorem dJ16_highSurrogate_0 : decode cJ16_highSurrogate 0 = .ok (.iload_n 0, 1) := dk_26 (dk_at dksJ16_highSurrogate_0 0 rfl rfl)
theorem dJ16_highSurrogate_1 : decode cJ16_highSurrogate 1 = .ok (.bipush 10, 2) := dk_16 10 (dk_at dksJ16_highSurrogate_0 1 rfl rfl)
theorem dJ16_highSurrogate_3 : decode cJ16_highSurrogate 3 = .ok (.iushr, 1) := dk_124 (dk_at dksJ16_highSurrogate_0 3 rfl rfl)
theorem dJ16_highSurrogate_4 : decode cJ16_highSurrogate 4 = .ok (.ldc 110, 2) := dk_18 110 (dk_at dksJ16_highSurrogate_0 4 rfl rfl)
theorem dJ16_highSurrogate_6 : decode cJ16_highSurrogate 6 = .ok (.iadd, 1) := dk_96 (dk_at dksJ16_highSurrogate_0 6 rfl rfl)
theorem dJ16_highSurrogate_7 : decode cJ16_highSurrogate 7 = .ok (.i2c, 1) := dk_146 (dk_at dksJ16_highSurrogate_0 7 rfl rfl)
theorem dJ16_highSurrogate_8 : decode cJ16_highSurrogate 8 = .ok (.ireturn, 1) := dk_172 (dk_at dksJ16_highSurrogate_0 8 rfl rfl)
abbrev cJ16_lowSurrogate : ByteArray := prog_31_method_29_code
def yJ16_lowSurrogate : MethodName := ⟨RJ16, "lowSurrogate", "(I)C"⟩
def dkwJ16_lowSurrogate_0 : List UInt8 := [26, 17, 3, 255, 126, 18, 76, 96, 146, 172]
abbrev dktJ16_lowSurrogate_0 : List UInt8 := dkwJ16_lowSurrogate_0 ++ []
theorem dksJ16_lowSurrogate_0 : cJ16_lowSurrogate.data.toList.drop 0 = dktJ16_lowSurrogate_0 := by decide +kernel
theorem dJ16_lowSurrogate_0 : decode cJ16_lowSurrogate 0 = .ok (.iload_n 0, 1) := dk_26 (dk_at dksJ16_lowSurrogate_0 0 rfl rfl)
theorem dJ16_lowSurrogate_1 : decode cJ16_lowSurrogate 1 = .ok (.sipush 1023, 3) := dk_17 3 255 (dk_at dksJ16_lowSurrogate_0 1 rfl rfl)
theorem dJ16_lowSurrogate_4 : decode cJ16_lowSurrogate 4 = .ok (.iand, 1) := dk_126 (dk_at dksJ16_lowSurrogate_0 4 rfl rfl)
theorem dJ16_lowSurrogate_5 : decode cJ16_lowSurrogate 5 = .ok (.ldc 76, 2) := dk_18 76 (dk_at dksJ16_lowSurrogate_0 5 rfl rfl)
theorem dJ16_lowSurrogate_7 : decode cJ16_lowSurrogate 7 = .ok (.iadd, 1) := dk_96 (dk_at dksJ16_lowSurrogate_0 7 rfl rfl)
theorem dJ16_lowSurrogate_8 : decode cJ16_lowSurrogate 8 = .ok (.i2c, 1) := dk_146 (dk_at dksJ16_lowSurrogate_0 8 rfl rfl)
theorem dJ16_lowSurrogate_9 : decode cJ16_lowSurrogate 9 = .ok (.ireturn, 1) := dk_172 (dk_at dksJ16_lowSurrogate_0 9 rfl rfl)
theorem q90 : (Jvm.Cond.initialized "java/lang/Character") ∈ lw_all := lw_g (lw_at lw_m1 25 rfl) rfl
theorem q675 : (Jvm.Cond.static ({ cls := "java/lang/Character", name := "isValidCodePoint", desc := "(I)Z" } : Jvm.MethodName)) ∈ lw_all := lw_g (lw_at lw_m3 130 rfl) rfl
theorem q676 : (Jvm.Cond.code ({ cls := "java/lang/Character", name := "isValidCodePoint", desc := "(I)Z" } : Jvm.MethodName) prog_31_method_11_code (2 : Nat) (Option.some Jvm.ClassFile.FieldType.boolean)) ∈ lw_all := lw_g (lw_at lw_m3 131 rfl) rfl
theorem q678 : (Jvm.Cond.static ({ cls := "java/lang/Character", name := "highSurrogate", desc := "(I)C" } : Jvm.MethodName)) ∈ lw_all := lw_g (lw_at lw_m3 133 rfl) rfl
theorem q679 : (Jvm.Cond.code ({ cls := "java/lang/Character", name := "highSurrogate", desc := "(I)C" } : Jvm.MethodName) prog_31_method_28_code (1 : Nat) (Option.some Jvm.ClassFile.FieldType.char)) ∈ lw_all := lw_g (lw_at lw_m3 134 rfl) rfl
theorem q680 : (Jvm.Cond.constant "java/lang/Character" (110 : Nat) (55232 : Int32)) ∈ lw_all := lw_g (lw_at lw_m3 135 rfl) rfl
theorem q682 : (Jvm.Cond.static ({ cls := "java/lang/Character", name := "lowSurrogate", desc := "(I)C" } : Jvm.MethodName)) ∈ lw_all := lw_g (lw_at lw_m3 137 rfl) rfl
theorem q683 : (Jvm.Cond.code ({ cls := "java/lang/Character", name := "lowSurrogate", desc := "(I)C" } : Jvm.MethodName) prog_31_method_29_code (1 : Nat) (Option.some Jvm.ClassFile.FieldType.char)) ∈ lw_all := lw_g (lw_at lw_m3 138 rfl) rfl
theorem q684 : (Jvm.Cond.constant "java/lang/Character" (76 : Nat) (56320 : Int32)) ∈ lw_all := lw_g (lw_at lw_m3 139 rfl) rfl

/-! jdk/internal/util/ArraysSupport -/
set_option maxRecDepth 100000
def RJ17 : String := "jdk/internal/util/ArraysSupport"
abbrev cJ17_newLength : ByteArray := prog_58_method_27_code
def yJ17_newLength : MethodName := ⟨RJ17, "newLength", "(III)I"⟩
def dkwJ17_newLength_1 : List UInt8 := [184, 0, 201, 172]
abbrev dktJ17_newLength_1 : List UInt8 := dkwJ17_newLength_1 ++ []
def dkwJ17_newLength_0 : List UInt8 := [26, 27, 28, 184, 0, 194, 96, 62, 3, 29, 162, 0, 11, 29, 18, 200, 163, 0, 5, 29, 172, 26, 27]
abbrev dktJ17_newLength_0 : List UInt8 := dkwJ17_newLength_0 ++ dktJ17_newLength_1
theorem dksJ17_newLength_0 : cJ17_newLength.data.toList.drop 0 = dktJ17_newLength_0 := by decide +kernel
theorem dksJ17_newLength_1 : cJ17_newLength.data.toList.drop 23 = dktJ17_newLength_1 := dk_seg dksJ17_newLength_0 23 rfl rfl
theorem dJ17_newLength_0 : decode cJ17_newLength 0 = .ok (.iload_n 0, 1) := dk_26 (dk_at dksJ17_newLength_0 0 rfl rfl)
theorem dJ17_newLength_1 : decode cJ17_newLength 1 = .ok (.iload_n 1, 1) := dk_27 (dk_at dksJ17_newLength_0 1 rfl rfl)
theorem dJ17_newLength_2 : decode cJ17_newLength 2 = .ok (.iload_n 2, 1) := dk_28 (dk_at dksJ17_newLength_0 2 rfl rfl)
theorem dJ17_newLength_3 : decode cJ17_newLength 3 = .ok (.invokestatic 194, 3) := dk_184 0 194 (dk_at dksJ17_newLength_0 3 rfl rfl)
theorem dJ17_newLength_6 : decode cJ17_newLength 6 = .ok (.iadd, 1) := dk_96 (dk_at dksJ17_newLength_0 6 rfl rfl)
theorem dJ17_newLength_7 : decode cJ17_newLength 7 = .ok (.istore_n 3, 1) := dk_62 (dk_at dksJ17_newLength_0 7 rfl rfl)
theorem dJ17_newLength_8 : decode cJ17_newLength 8 = .ok (.iconst 0, 1) := dk_3 (dk_at dksJ17_newLength_0 8 rfl rfl)
theorem dJ17_newLength_9 : decode cJ17_newLength 9 = .ok (.iload_n 3, 1) := dk_29 (dk_at dksJ17_newLength_0 9 rfl rfl)
theorem dJ17_newLength_10 : decode cJ17_newLength 10 = .ok (.if_icmp .ge 11, 3) := dk_162 0 11 (dk_at dksJ17_newLength_0 10 rfl rfl)
theorem dJ17_newLength_13 : decode cJ17_newLength 13 = .ok (.iload_n 3, 1) := dk_29 (dk_at dksJ17_newLength_0 13 rfl rfl)
theorem dJ17_newLength_14 : decode cJ17_newLength 14 = .ok (.ldc 200, 2) := dk_18 200 (dk_at dksJ17_newLength_0 14 rfl rfl)
theorem dJ17_newLength_16 : decode cJ17_newLength 16 = .ok (.if_icmp .gt 5, 3) := dk_163 0 5 (dk_at dksJ17_newLength_0 16 rfl rfl)
theorem dJ17_newLength_19 : decode cJ17_newLength 19 = .ok (.iload_n 3, 1) := dk_29 (dk_at dksJ17_newLength_0 19 rfl rfl)
theorem dJ17_newLength_20 : decode cJ17_newLength 20 = .ok (.ireturn, 1) := dk_172 (dk_at dksJ17_newLength_0 20 rfl rfl)
theorem dJ17_newLength_21 : decode cJ17_newLength 21 = .ok (.iload_n 0, 1) := dk_26 (dk_at dksJ17_newLength_0 21 rfl rfl)
theorem dJ17_newLength_22 : decode cJ17_newLength 22 = .ok (.iload_n 1, 1) := dk_27 (dk_at dksJ17_newLength_0 22 rfl rfl)
theorem dJ17_newLength_23 : decode cJ17_newLength 23 = .ok (.invokestatic 201, 3) := dk_184 0 201 (dk_at dksJ17_newLength_1 0 rfl rfl)
theorem dJ17_newLength_26 : decode cJ17_newLength 26 = .ok (.ireturn, 1) := dk_172 (dk_at dksJ17_newLength_1 3 rfl rfl)
abbrev cJ17_hugeLength : ByteArray := prog_58_method_28_code
def yJ17_hugeLength : MethodName := ⟨RJ17, "hugeLength", "(II)I"⟩
def dkwJ17_hugeLength_2 : List UInt8 := [191, 28, 18, 200, 163, 0, 6, 18, 200, 172, 28, 172]
abbrev dktJ17_hugeLength_2 : List UInt8 := dkwJ17_hugeLength_2 ++ []
def dkwJ17_hugeLength_1 : List UInt8 := [26, 182, 0, 98, 18, 208, 182, 0, 94, 27, 182, 0, 98, 18, 210, 182, 0, 94, 182, 0, 101, 183, 0, 212]
abbrev dktJ17_hugeLength_1 : List UInt8 := dkwJ17_hugeLength_1 ++ dktJ17_hugeLength_2
def dkwJ17_hugeLength_0 : List UInt8 := [26, 27, 96, 61, 28, 156, 0, 44, 187, 0, 204, 89, 187, 0, 89, 89, 183, 0, 91, 18, 206, 182, 0, 94]
abbrev dktJ17_hugeLength_0 : List UInt8 := dkwJ17_hugeLength_0 ++ dktJ17_hugeLength_1
theorem dksJ17_hugeLength_0 : cJ17_hugeLength.data.toList.drop 0 = dktJ17_hugeLength_0 := by decide +kernel
theorem dksJ17_hugeLength_1 : cJ17_hugeLength.data.toList.drop 24 = dktJ17_hugeLength_1 := dk_seg dksJ17_hugeLength_0 24 rfl rfl
theorem dksJ17_hugeLength_2 : cJ17_hugeLength.data.toList.drop 48 = dktJ17_hugeLength_2 := dk_seg dksJ17_hugeLength_1 24 rfl rfl
theorem dJ17_hugeLength_0 : decode cJ17_hugeLength 0 = .ok (.iload_n 0, 1) := dk_26 (dk_at dksJ17_hugeLength_0 0 rfl rfl)
theorem dJ17_hugeLength_1 : decode cJ17_hugeLength 1 = .ok (.iload_n 1, 1) := dk_27 (dk_at dksJ17_hugeLength_0 1 rfl rfl)
theorem dJ17_hugeLength_2 : decode cJ17_hugeLength 2 = .ok (.iadd, 1) := dk_96 (dk_at dksJ17_hugeLength_0 2 rfl rfl)
theorem dJ17_hugeLength_3 : decode cJ17_hugeLength 3 = .ok (.istore_n 2, 1) := dk_61 (dk_at dksJ17_hugeLength_0 3 rfl rfl)
theorem dJ17_hugeLength_4 : decode cJ17_hugeLength 4 = .ok (.iload_n 2, 1) := dk_28 (dk_at dksJ17_hugeLength_0 4 rfl rfl)
theorem dJ17_hugeLength_5 : decode cJ17_hugeLength 5 = .ok (.ifCond .ge 44, 3) := dk_156 0 44 (dk_at dksJ17_hugeLength_0 5 rfl rfl)
theorem dJ17_hugeLength_8 : decode cJ17_hugeLength 8 = .ok (.new 204, 3) := dk_187 0 204 (dk_at dksJ17_hugeLength_0 8 rfl rfl)
theorem dJ17_hugeLength_11 : decode cJ17_hugeLength 11 = .ok (.dup, 1) := dk_89 (dk_at dksJ17_hugeLength_0 11 rfl rfl)
theorem dJ17_hugeLength_12 : decode cJ17_hugeLength 12 = .ok (.new 89, 3) := dk_187 0 89 (dk_at dksJ17_hugeLength_0 12 rfl rfl)
theorem dJ17_hugeLength_15 : decode cJ17_hugeLength 15 = .ok (.dup, 1) := dk_89 (dk_at dksJ17_hugeLength_0 15 rfl rfl)
theorem dJ17_hugeLength_16 : decode cJ17_hugeLength 16 = .ok (.invokespecial 91, 3) := dk_183 0 91 (dk_at dksJ17_hugeLength_0 16 rfl rfl)
theorem dJ17_hugeLength_19 : decode cJ17_hugeLength 19 = .ok (.ldc 206, 2) := dk_18 206 (dk_at dksJ17_hugeLength_0 19 rfl rfl)
theorem dJ17_hugeLength_21 : decode cJ17_hugeLength 21 = .ok (.invokevirtual 94, 3) := dk_182 0 94 (dk_at dksJ17_hugeLength_0 21 rfl rfl)
theorem dJ17_hugeLength_24 : decode cJ17_hugeLength 24 = .ok (.iload_n 0, 1) := dk_26 (dk_at dksJ17_hugeLength_1 0 rfl rfl)
theorem dJ17_hugeLength_25 : decode cJ17_hugeLength 25 = .ok (.invokevirtual 98, 3) := dk_182 0 98 (dk_at dksJ17_hugeLength_1 1 rfl rfl)
theorem dJ17_hugeLength_28 : decode cJ17_hugeLength 28 = .ok (.ldc 208, 2) := dk_18 208 (dk_at dksJ17_hugeLength_1 4 rfl rfl)
theorem dJ17_hugeLength_30 : decode cJ17_hugeLength 30 = .ok (.invokevirtual 94, 3) := dk_182 0 94 (dk_at dksJ17_hugeLength_1 6 rfl rfl)
theorem dJ17_hugeLength_33 : decode cJ17_hugeLength 33 = .ok (.iload_n 1, 1) := dk_27 (dk_at dksJ17_hugeLength_1 9 rfl rfl)
theorem dJ17_hugeLength_34 : decode cJ17_hugeLength 34 = .ok (.invokevirtual 98, 3) := dk_182 0 98 (dk_at dksJ17_hugeLength_1 10 rfl rfl)
theorem dJ17_hugeLength_37 : decode cJ17_hugeLength 37 = .ok (.ldc 210, 2) := dk_18 210 (dk_at dksJ17_hugeLength_1 13 rfl rfl)
theorem dJ17_hugeLength_39 : decode cJ17_hugeLength 39 = .ok (.invokevirtual 94, 3) := dk_182 0 94 (dk_at dksJ17_hugeLength_1 15 rfl rfl)
theorem dJ17_hugeLength_42 : decode cJ17_hugeLength 42 = .ok (.invokevirtual 101, 3) := dk_182 0 101 (dk_at dksJ17_hugeLength_1 18 rfl rfl)
theorem dJ17_hugeLength_45 : decode cJ17_hugeLength 45 = .ok (.invokespecial 212, 3) := dk_183 0 212 (dk_at dksJ17_hugeLength_1 21 rfl rfl)
theorem dJ17_hugeLength_48 : decode cJ17_hugeLength 48 = .ok (.athrow, 1) := dk_191 (dk_at dksJ17_hugeLength_2 0 rfl rfl)
theorem dJ17_hugeLength_49 : decode cJ17_hugeLength 49 = .ok (.iload_n 2, 1) := dk_28 (dk_at dksJ17_hugeLength_2 1 rfl rfl)
theorem dJ17_hugeLength_50 : decode cJ17_hugeLength 50 = .ok (.ldc 200, 2) := dk_18 200 (dk_at dksJ17_hugeLength_2 2 rfl rfl)
theorem dJ17_hugeLength_52 : decode cJ17_hugeLength 52 = .ok (.if_icmp .gt 6, 3) := dk_163 0 6 (dk_at dksJ17_hugeLength_2 4 rfl rfl)
theorem dJ17_hugeLength_55 : decode cJ17_hugeLength 55 = .ok (.ldc 200, 2) := dk_18 200 (dk_at dksJ17_hugeLength_2 7 rfl rfl)
theorem dJ17_hugeLength_57 : decode cJ17_hugeLength 57 = .ok (.ireturn, 1) := dk_172 (dk_at dksJ17_hugeLength_2 9 rfl rfl)
theorem dJ17_hugeLength_58 : decode cJ17_hugeLength 58 = .ok (.iload_n 2, 1) := dk_28 (dk_at dksJ17_hugeLength_2 10 rfl rfl)
theorem dJ17_hugeLength_59 : decode cJ17_hugeLength 59 = .ok (.ireturn, 1) := dk_172 (dk_at dksJ17_hugeLength_2 11 rfl rfl)
theorem q97 : (Jvm.Cond.initialized "jdk/internal/util/ArraysSupport") ∈ lw_all := lw_g (lw_at lw_m1 32 rfl) rfl
theorem q780 : (Jvm.Cond.static ({ cls := "jdk/internal/util/ArraysSupport", name := "newLength", desc := "(III)I" } : Jvm.MethodName)) ∈ lw_all := lw_g (lw_at lw_m3 235 rfl) rfl
theorem q781 : (Jvm.Cond.code ({ cls := "jdk/internal/util/ArraysSupport", name := "newLength", desc := "(III)I" } : Jvm.MethodName) prog_58_method_27_code (4 : Nat) (Option.some Jvm.ClassFile.FieldType.int)) ∈ lw_all := lw_g (lw_at lw_m3 236 rfl) rfl
theorem q782 : (Jvm.Cond.methodLink "jdk/internal/util/ArraysSupport" (194 : Nat) ({ cls := "java/lang/Math", name := "max", desc := "(II)I" } : Jvm.MethodName)) ∈ lw_all := lw_g (lw_at lw_m3 237 rfl) rfl
theorem q783 : (Jvm.Cond.constant "jdk/internal/util/ArraysSupport" (200 : Nat) (2147483639 : Int32)) ∈ lw_all := lw_g (lw_at lw_m3 238 rfl) rfl
theorem q784 : (Jvm.Cond.methodLink "jdk/internal/util/ArraysSupport" (201 : Nat) ({ cls := "jdk/internal/util/ArraysSupport", name := "hugeLength", desc := "(II)I" } : Jvm.MethodName)) ∈ lw_all := lw_g (lw_at lw_m3 239 rfl) rfl
theorem q785 : (Jvm.Cond.static ({ cls := "jdk/internal/util/ArraysSupport", name := "hugeLength", desc := "(II)I" } : Jvm.MethodName)) ∈ lw_all := lw_g (lw_at lw_m4 0 rfl) rfl
theorem q786 : (Jvm.Cond.code ({ cls := "jdk/internal/util/ArraysSupport", name := "hugeLength", desc := "(II)I" } : Jvm.MethodName) prog_58_method_28_code (3 : Nat) (Option.some Jvm.ClassFile.FieldType.int)) ∈ lw_all := lw_g (lw_at lw_m4 1 rfl) rfl

/-! java/util/Arrays -/
set_option maxRecDepth 100000
def RJ18 : String := "java/util/Arrays"
abbrev cJ18_copyOf : ByteArray := prog_52_method_119_code
def yJ18_copyOf : MethodName := ⟨RJ18, "copyOf", "([Ljava/lang/Object;I)[Ljava/lang/Object;"⟩
def dkwJ18_copyOf_0 : List UInt8 := [42, 27, 42, 182, 0, 86, 184, 1, 44, 176]
abbrev dktJ18_copyOf_0 : List UInt8 := dkwJ18_copyOf_0 ++ []
theorem dksJ18_copyOf_0 : cJ18_copyOf.data.toList.drop 0 = dktJ18_copyOf_0 := by decide +kernel
theorem dJ18_copyOf_0 : decode cJ18_copyOf 0 = .ok (.aload_n 0, 1) := dk_42 (dk_at dksJ18_copyOf_0 0 rfl rfl)
theorem dJ18_copyOf_1 : decode cJ18_copyOf 1 = .ok (.iload_n 1, 1) := dk_27 (dk_at dksJ18_copyOf_0 1 rfl rfl)
theorem dJ18_copyOf_2 : decode cJ18_copyOf 2 = .ok (.aload_n 0, 1) := dk_42 (dk_at dksJ18_copyOf_0 2 rfl rfl)
theorem dJ18_copyOf_3 : decode cJ18_copyOf 3 = .ok (.invokevirtual 86, 3) := dk_182 0 86 (dk_at dksJ18_copyOf_0 3 rfl rfl)
theorem dJ18_copyOf_6 : decode cJ18_copyOf 6 = .ok (.invokestatic 300, 3) := dk_184 1 44 (dk_at dksJ18_copyOf_0 6 rfl rfl)
theorem dJ18_copyOf_9 : decode cJ18_copyOf 9 = .ok (.areturn, 1) := dk_176 (dk_at dksJ18_copyOf_0 9 rfl rfl)
abbrev cJ18_copyOf_2 : ByteArray := prog_52_method_120_code
def yJ18_copyOf_2 : MethodName := ⟨RJ18, "copyOf", "([Ljava/lang/Object;ILjava/lang/Class;)[Ljava/lang/Object;"⟩
def dkwJ18_copyOf_2_1 : List UInt8 := [78, 42, 3, 45, 3, 42, 190, 27, 184, 1, 48, 184, 0, 150, 45, 176]
abbrev dktJ18_copyOf_2_1 : List UInt8 := dkwJ18_copyOf_2_1 ++ []
def dkwJ18_copyOf_2_0 : List UInt8 := [44, 18, 110, 166, 0, 10, 27, 189, 0, 2, 167, 0, 14, 44, 182, 0, 90, 27, 184, 0, 95, 192, 0, 110]
abbrev dktJ18_copyOf_2_0 : List UInt8 := dkwJ18_copyOf_2_0 ++ dktJ18_copyOf_2_1
theorem dksJ18_copyOf_2_0 : cJ18_copyOf_2.data.toList.drop 0 = dktJ18_copyOf_2_0 := by decide +kernel
theorem dksJ18_copyOf_2_1 : cJ18_copyOf_2.data.toList.drop 24 = dktJ18_copyOf_2_1 := dk_seg dksJ18_copyOf_2_0 24 rfl rfl
theorem dJ18_copyOf_2_0 : decode cJ18_copyOf_2 0 = .ok (.aload_n 2, 1) := dk_44 (dk_at dksJ18_copyOf_2_0 0 rfl rfl)
theorem dJ18_copyOf_2_1 : decode cJ18_copyOf_2 1 = .ok (.ldc 110, 2) := dk_18 110 (dk_at dksJ18_copyOf_2_0 1 rfl rfl)
theorem dJ18_copyOf_2_3 : decode cJ18_copyOf_2 3 = .ok (.if_acmp .ne 10, 3) := dk_166 0 10 (dk_at dksJ18_copyOf_2_0 3 rfl rfl)
theorem dJ18_copyOf_2_6 : decode cJ18_copyOf_2 6 = .ok (.iload_n 1, 1) := dk_27 (dk_at dksJ18_copyOf_2_0 6 rfl rfl)
theorem dJ18_copyOf_2_7 : decode cJ18_copyOf_2 7 = .ok (.anewarray 2, 3) := dk_189 0 2 (dk_at dksJ18_copyOf_2_0 7 rfl rfl)
theorem dJ18_copyOf_2_10 : decode cJ18_copyOf_2 10 = .ok (.goto 14, 3) := dk_167 0 14 (dk_at dksJ18_copyOf_2_0 10 rfl rfl)
theorem dJ18_copyOf_2_13 : decode cJ18_copyOf_2 13 = .ok (.aload_n 2, 1) := dk_44 (dk_at dksJ18_copyOf_2_0 13 rfl rfl)
theorem dJ18_copyOf_2_14 : decode cJ18_copyOf_2 14 = .ok (.invokevirtual 90, 3) := dk_182 0 90 (dk_at dksJ18_copyOf_2_0 14 rfl rfl)
theorem dJ18_copyOf_2_17 : decode cJ18_copyOf_2 17 = .ok (.iload_n 1, 1) := dk_27 (dk_at dksJ18_copyOf_2_0 17 rfl rfl)
theorem dJ18_copyOf_2_18 : decode cJ18_copyOf_2 18 = .ok (.invokestatic 95, 3) := dk_184 0 95 (dk_at dksJ18_copyOf_2_0 18 rfl rfl)
theorem dJ18_copyOf_2_21 : decode cJ18_copyOf_2 21 = .ok (.checkcast 110, 3) := dk_192 0 110 (dk_at dksJ18_copyOf_2_0 21 rfl rfl)
theorem dJ18_copyOf_2_24 : decode cJ18_copyOf_2 24 = .ok (.astore_n 3, 1) := dk_78 (dk_at dksJ18_copyOf_2_1 0 rfl rfl)
theorem dJ18_copyOf_2_25 : decode cJ18_copyOf_2 25 = .ok (.aload_n 0, 1) := dk_42 (dk_at dksJ18_copyOf_2_1 1 rfl rfl)
theorem dJ18_copyOf_2_26 : decode cJ18_copyOf_2 26 = .ok (.iconst 0, 1) := dk_3 (dk_at dksJ18_copyOf_2_1 2 rfl rfl)
theorem dJ18_copyOf_2_27 : decode cJ18_copyOf_2 27 = .ok (.aload_n 3, 1) := dk_45 (dk_at dksJ18_copyOf_2_1 3 rfl rfl)
theorem dJ18_copyOf_2_28 : decode cJ18_copyOf_2 28 = .ok (.iconst 0, 1) := dk_3 (dk_at dksJ18_copyOf_2_1 4 rfl rfl)
theorem dJ18_copyOf_2_29 : decode cJ18_copyOf_2 29 = .ok (.aload_n 0, 1) := dk_42 (dk_at dksJ18_copyOf_2_1 5 rfl rfl)
theorem dJ18_copyOf_2_30 : decode cJ18_copyOf_2 30 = .ok (.arraylength, 1) := dk_190 (dk_at dksJ18_copyOf_2_1 6 rfl rfl)
theorem dJ18_copyOf_2_31 : decode cJ18_copyOf_2 31 = .ok (.iload_n 1, 1) := dk_27 (dk_at dksJ18_copyOf_2_1 7 rfl rfl)
theorem dJ18_copyOf_2_32 : decode cJ18_copyOf_2 32 = .ok (.invokestatic 304, 3) := dk_184 1 48 (dk_at dksJ18_copyOf_2_1 8 rfl rfl)
theorem dJ18_copyOf_2_35 : decode cJ18_copyOf_2 35 = .ok (.invokestatic 150, 3) := dk_184 0 150 (dk_at dksJ18_copyOf_2_1 11 rfl rfl)
theorem dJ18_copyOf_2_38 : decode cJ18_copyOf_2 38 = .ok (.aload_n 3, 1) := dk_45 (dk_at dksJ18_copyOf_2_1 14 rfl rfl)
theorem dJ18_copyOf_2_39 : decode cJ18_copyOf_2 39 = .ok (.areturn, 1) := dk_176 (dk_at dksJ18_copyOf_2_1 15 rfl rfl)
theorem q98 : (Jvm.Cond.initialized "java/util/Arrays") ∈ lw_all := lw_g (lw_at lw_m1 33 rfl) rfl
theorem q788 : (Jvm.Cond.static ({ cls := "java/util/Arrays", name := "copyOf", desc := "([Ljava/lang/Object;I)[Ljava/lang/Object;" } : Jvm.MethodName)) ∈ lw_all := lw_g (lw_at lw_m4 3 rfl) rfl
theorem q789 : (Jvm.Cond.code ({ cls := "java/util/Arrays", name := "copyOf", desc := "([Ljava/lang/Object;I)[Ljava/lang/Object;" } : Jvm.MethodName) prog_52_method_119_code (2 : Nat) (Option.some (Jvm.ClassFile.FieldType.array (Jvm.ClassFile.FieldType.object "java/lang/Object")))) ∈ lw_all := lw_g (lw_at lw_m4 4 rfl) rfl
theorem q790 : (Jvm.Cond.methodLink "java/util/Arrays" (86 : Nat) ({ cls := "java/lang/Object", name := "getClass", desc := "()Ljava/lang/Class;" } : Jvm.MethodName)) ∈ lw_all := lw_g (lw_at lw_m4 5 rfl) rfl
theorem q820 : (Jvm.Cond.methodLink "java/util/Arrays" (300 : Nat) ({ cls := "java/util/Arrays", name := "copyOf", desc := "([Ljava/lang/Object;ILjava/lang/Class;)[Ljava/lang/Object;" } : Jvm.MethodName)) ∈ lw_all := lw_g (lw_at lw_m4 35 rfl) rfl
theorem q821 : (Jvm.Cond.static ({ cls := "java/util/Arrays", name := "copyOf", desc := "([Ljava/lang/Object;ILjava/lang/Class;)[Ljava/lang/Object;" } : Jvm.MethodName)) ∈ lw_all := lw_g (lw_at lw_m4 36 rfl) rfl
theorem q822 : (Jvm.Cond.code ({ cls := "java/util/Arrays", name := "copyOf", desc := "([Ljava/lang/Object;ILjava/lang/Class;)[Ljava/lang/Object;" } : Jvm.MethodName) prog_52_method_120_code (4 : Nat) (Option.some (Jvm.ClassFile.FieldType.array (Jvm.ClassFile.FieldType.object "java/lang/Object")))) ∈ lw_all := lw_g (lw_at lw_m4 37 rfl) rfl
theorem q823 : (Jvm.Cond.classLink "java/util/Arrays" (110 : Nat) "[Ljava/lang/Object;") ∈ lw_all := lw_g (lw_at lw_m4 38 rfl) rfl
theorem q825 : (Jvm.Cond.classLink "java/util/Arrays" (2 : Nat) "java/lang/Object") ∈ lw_all := lw_g (lw_at lw_m4 40 rfl) rfl
theorem q826 : (Jvm.Cond.methodLink "java/util/Arrays" (304 : Nat) ({ cls := "java/lang/Math", name := "min", desc := "(II)I" } : Jvm.MethodName)) ∈ lw_all := lw_g (lw_at lw_m4 41 rfl) rfl
theorem q827 : (Jvm.Cond.methodLink "java/util/Arrays" (150 : Nat) ({ cls := "java/lang/System", name := "arraycopy", desc := "(Ljava/lang/Object;ILjava/lang/Object;II)V" } : Jvm.MethodName)) ∈ lw_all := lw_g (lw_at lw_m4 42 rfl) rfl

/-! java/util/Objects -/
set_option maxRecDepth 100000
def RJ19 : String := "java/util/Objects"
abbrev cJ19_checkIndex : ByteArray := prog_55_method_17_code
def yJ19_checkIndex : MethodName := ⟨RJ19, "checkIndex", "(II)I"⟩
def dkwJ19_checkIndex_0 : List UInt8 := [26, 27, 1, 184, 0, 105, 172]
abbrev dktJ19_checkIndex_0 : List UInt8 := dkwJ19_checkIndex_0 ++ []
theorem dksJ19_checkIndex_0 : cJ19_checkIndex.data.toList.drop 0 = dktJ19_checkIndex_0 := by decide +kernel
theorem dJ19_checkIndex_0 : decode cJ19_checkIndex 0 = .ok (.iload_n 0, 1) := dk_26 (dk_at dksJ19_checkIndex_0 0 rfl rfl)
theorem dJ19_checkIndex_1 : decode cJ19_checkIndex 1 = .ok (.iload_n 1, 1) := dk_27 (dk_at dksJ19_checkIndex_0 1 rfl rfl)
theorem dJ19_checkIndex_2 : decode cJ19_checkIndex 2 = .ok (.aconst_null, 1) := dk_1 (dk_at dksJ19_checkIndex_0 2 rfl rfl)
theorem dJ19_checkIndex_3 : decode cJ19_checkIndex 3 = .ok (.invokestatic 105, 3) := dk_184 0 105 (dk_at dksJ19_checkIndex_0 3 rfl rfl)
theorem dJ19_checkIndex_6 : decode cJ19_checkIndex 6 = .ok (.ireturn, 1) := dk_172 (dk_at dksJ19_checkIndex_0 6 rfl rfl)
theorem q99 : (Jvm.Cond.initialized "java/util/Objects") ∈ lw_all := lw_g (lw_at lw_m1 34 rfl) rfl
theorem q863 : (Jvm.Cond.static ({ cls := "java/util/Objects", name := "checkIndex", desc := "(II)I" } : Jvm.MethodName)) ∈ lw_all := lw_g (lw_at lw_m4 78 rfl) rfl
theorem q864 : (Jvm.Cond.code ({ cls := "java/util/Objects", name := "checkIndex", desc := "(II)I" } : Jvm.MethodName) prog_55_method_17_code (2 : Nat) (Option.some Jvm.ClassFile.FieldType.int)) ∈ lw_all := lw_g (lw_at lw_m4 79 rfl) rfl
theorem q865 : (Jvm.Cond.methodLink "java/util/Objects" (105 : Nat) ({ cls := "jdk/internal/util/Preconditions", name := "checkIndex", desc := "(IILjava/util/function/BiFunction;)I" } : Jvm.MethodName)) ∈ lw_all := lw_g (lw_at lw_m4 80 rfl) rfl

/-! java/lang/ClassCastException -/
set_option maxRecDepth 100000
def RJ20 : String := "java/lang/ClassCastException"
def TJ20 : u_T := fun k => match k with
  | 0 => ("java/lang/Throwable", "backtrace", "Ljava/lang/Object;", false)
  | 1 => ("java/lang/Throwable", "detailMessage", "Ljava/lang/String;", false)
  | 2 => ("java/lang/Throwable", "cause", "Ljava/lang/Throwable;", false)
  | 3 => ("java/lang/Throwable", "stackTrace", "[Ljava/lang/StackTraceElement;", false)
  | 4 => ("java/lang/Throwable", "depth", "I", false)
  | _ => ("java/lang/Throwable", "suppressedExceptions", "Ljava/util/List;", false)
def tyJ20 : Nat → FieldType := fun k => match k with
  | 0 => .object "java/lang/Object"
  | 1 => .object "java/lang/String"
  | 2 => .object "java/lang/Throwable"
  | 3 => .array (.object "java/lang/StackTraceElement")
  | 4 => .int
  | _ => .object "java/util/List"
abbrev wsJ200 : List Cond := u_ws RJ20 TJ20 6
theorem nmJ20 : ∀ a, a < 6 → ∀ b, b < 6 → a ≠ b → (TJ20 a).2.1 ≠ (TJ20 b).2.1 := by decide +kernel
theorem tyJ20_ok : ∀ k, k < 6 → parseFieldDescriptor (TJ20 k).2.2.1 = some (tyJ20 k) := by decide +kernel
abbrev cJ20_init : ByteArray := prog_32_method_2_code
def yJ20_init : MethodName := ⟨RJ20, "<init>", "(Ljava/lang/String;)V"⟩
def dkwJ20_init_0 : List UInt8 := [42, 43, 183, 0, 7, 177]
abbrev dktJ20_init_0 : List UInt8 := dkwJ20_init_0 ++ []
theorem dksJ20_init_0 : cJ20_init.data.toList.drop 0 = dktJ20_init_0 := by decide +kernel
theorem dJ20_init_0 : decode cJ20_init 0 = .ok (.aload_n 0, 1) := dk_42 (dk_at dksJ20_init_0 0 rfl rfl)
theorem dJ20_init_1 : decode cJ20_init 1 = .ok (.aload_n 1, 1) := dk_43 (dk_at dksJ20_init_0 1 rfl rfl)
theorem dJ20_init_2 : decode cJ20_init 2 = .ok (.invokespecial 7, 3) := dk_183 0 7 (dk_at dksJ20_init_0 2 rfl rfl)
theorem dJ20_init_5 : decode cJ20_init 5 = .ok (.return_, 1) := dk_177 (dk_at dksJ20_init_0 5 rfl rfl)
theorem q107 : (Jvm.Cond.initialized "java/lang/ClassCastException") ∈ lw_all := lw_g (lw_at lw_m1 42 rfl) rfl
theorem q321 : (Jvm.Cond.selects "java/lang/ClassCastException" ({ cls := "java/lang/Throwable", name := "fillInStackTrace", desc := "()Ljava/lang/Throwable;" } : Jvm.MethodName) ({ cls := "java/lang/Throwable", name := "fillInStackTrace", desc := "()Ljava/lang/Throwable;" } : Jvm.MethodName)) ∈ lw_all := lw_g (lw_at lw_m2 16 rfl) rfl
theorem q815 : (Jvm.Cond.selects "java/lang/ClassCastException" ({ cls := "java/lang/Object", name := "getClass", desc := "()Ljava/lang/Class;" } : Jvm.MethodName) ({ cls := "java/lang/Object", name := "getClass", desc := "()Ljava/lang/Class;" } : Jvm.MethodName)) ∈ lw_all := lw_g (lw_at lw_m4 30 rfl) rfl
theorem q1315 : (Jvm.Cond.instantiable "java/lang/ClassCastException" (6 : Nat)) ∈ lw_all := lw_g (lw_at lw_m6 50 rfl) rfl
theorem q1316 : (Jvm.Cond.instanceMethod ({ cls := "java/lang/ClassCastException", name := "<init>", desc := "(Ljava/lang/String;)V" } : Jvm.MethodName)) ∈ lw_all := lw_g (lw_at lw_m6 51 rfl) rfl
theorem q1317 : (Jvm.Cond.code ({ cls := "java/lang/ClassCastException", name := "<init>", desc := "(Ljava/lang/String;)V" } : Jvm.MethodName) prog_32_method_2_code (2 : Nat) (Option.none : Option Jvm.ClassFile.FieldType)) ∈ lw_all := lw_g (lw_at lw_m6 52 rfl) rfl
theorem q1318 : (Jvm.Cond.methodLink "java/lang/ClassCastException" (7 : Nat) ({ cls := "java/lang/RuntimeException", name := "<init>", desc := "(Ljava/lang/String;)V" } : Jvm.MethodName)) ∈ lw_all := lw_g (lw_at lw_m6 53 rfl) rfl
theorem q1319 : (Jvm.Cond.lays "java/lang/ClassCastException" "java/lang/Throwable" "backtrace" "Ljava/lang/Object;") ∈ lw_all := lw_g (lw_at lw_m6 54 rfl) rfl
theorem q1320 : (Jvm.Cond.lays "java/lang/ClassCastException" "java/lang/Throwable" "detailMessage" "Ljava/lang/String;") ∈ lw_all := lw_g (lw_at lw_m6 55 rfl) rfl
theorem q1321 : (Jvm.Cond.lays "java/lang/ClassCastException" "java/lang/Throwable" "cause" "Ljava/lang/Throwable;") ∈ lw_all := lw_g (lw_at lw_m6 56 rfl) rfl
theorem q1322 : (Jvm.Cond.lays "java/lang/ClassCastException" "java/lang/Throwable" "stackTrace" "[Ljava/lang/StackTraceElement;") ∈ lw_all := lw_g (lw_at lw_m6 57 rfl) rfl
theorem q1323 : (Jvm.Cond.lays "java/lang/ClassCastException" "java/lang/Throwable" "depth" "I") ∈ lw_all := lw_g (lw_at lw_m6 58 rfl) rfl
theorem q1324 : (Jvm.Cond.lays "java/lang/ClassCastException" "java/lang/Throwable" "suppressedExceptions" "Ljava/util/List;") ∈ lw_all := lw_g (lw_at lw_m6 59 rfl) rfl
theorem q1325 : (Jvm.Cond.superclass "java/lang/ClassCastException" "java/lang/RuntimeException") ∈ lw_all := lw_g (lw_at lw_m6 60 rfl) rfl
theorem q1326 : (Jvm.Cond.castable "java/lang/ClassCastException" "java/lang/ClassCastException") ∈ lw_tbl := lw_at lw_m6 61 rfl
theorem q1327 : (Jvm.Cond.selects "java/lang/ClassCastException" ({ cls := "java/lang/Throwable", name := "fillInStackTrace", desc := "(I)Ljava/lang/Throwable;" } : Jvm.MethodName) ({ cls := "java/lang/Throwable", name := "fillInStackTrace", desc := "(I)Ljava/lang/Throwable;" } : Jvm.MethodName)) ∈ lw_all := lw_g (lw_at lw_m6 62 rfl) rfl
theorem q1922 : (Jvm.Cond.castable "java/lang/ClassCastException" "java/lang/Object") ∈ lw_tbl := lw_at lw_m8 177 rfl
theorem in_J20 : ∀ w ∈ wsJ200, w ∈ lw_all := lw_in wsJ200 [1319, 1320, 1321, 1322, 1323, 1324] (by decide +kernel) (by decide +kernel)

/-! java/lang/Object -/
set_option maxRecDepth 100000
def RJ21 : String := "java/lang/Object"
abbrev cJ21_init : ByteArray := object_method_1_code
def yJ21_init : MethodName := ⟨RJ21, "<init>", "()V"⟩
theorem dJ21_init_0 : decode cJ21_init 0 = .ok (.return_, 1) := by decide +kernel
theorem q115 : (Jvm.Cond.instanceMethod ({ cls := "java/lang/Object", name := "<init>", desc := "()V" } : Jvm.MethodName)) ∈ lw_all := lw_g (lw_at lw_m1 50 rfl) rfl
theorem q116 : (Jvm.Cond.code ({ cls := "java/lang/Object", name := "<init>", desc := "()V" } : Jvm.MethodName) object_method_1_code (1 : Nat) (Option.none : Option Jvm.ClassFile.FieldType)) ∈ lw_all := lw_g (lw_at lw_m1 51 rfl) rfl
theorem q791 : (Jvm.Cond.instanceMethod ({ cls := "java/lang/Object", name := "getClass", desc := "()Ljava/lang/Class;" } : Jvm.MethodName)) ∈ lw_all := lw_g (lw_at lw_m4 6 rfl) rfl
theorem q792 : (Jvm.Cond.sameMethod "java/lang/Object" "java/lang/Object" "getClass" "()Ljava/lang/Class;") ∈ lw_all := lw_g (lw_at lw_m4 7 rfl) rfl
theorem q819 : (Jvm.Cond.native ({ cls := "java/lang/Object", name := "getClass", desc := "()Ljava/lang/Class;" } : Jvm.MethodName)) ∈ lw_all := lw_g (lw_at lw_m4 34 rfl) rfl
theorem q1928 : (Jvm.Cond.declares ({ cls := "java/lang/Object", name := "getClass", desc := "()Ljava/lang/Class;" } : Jvm.MethodName)) ∈ lw_tbl := lw_at lw_m8 183 rfl
