/-! java/util/AbstractCollection -/
set_option maxRecDepth 100000
def RJ0 : String := "java/util/AbstractCollection"
abbrev cJ0_init : ByteArray := prog_41_method_1_code
def yJ0_init : MethodName := ⟨RJ0, "<init>", "()V"⟩
theorem dJ0_init_0 : decode cJ0_init 0 = .ok (.aload_n 0, 1) := by decide +kernel
theorem dJ0_init_1 : decode cJ0_init 1 = .ok (.invokespecial 1, 3) := by decide +kernel
theorem dJ0_init_4 : decode cJ0_init 4 = .ok (.return_, 1) := by decide +kernel
theorem q58 : (Jvm.Cond.initialized "java/util/AbstractCollection") ∈ lw_all := lw_g (lw_at lw_m1 2 rfl) rfl
theorem q113 : (Jvm.Cond.instanceMethod ({ cls := "java/util/AbstractCollection", name := "<init>", desc := "()V" } : Jvm.MethodName)) ∈ lw_all := lw_g (lw_at lw_m1 57 rfl) rfl
theorem q114 : (Jvm.Cond.code ({ cls := "java/util/AbstractCollection", name := "<init>", desc := "()V" } : Jvm.MethodName) prog_41_method_1_code (1 : Nat) (Option.none : Option Jvm.ClassFile.FieldType)) ∈ lw_all := lw_g (lw_at lw_m1 58 rfl) rfl
theorem q115 : (Jvm.Cond.methodLink "java/util/AbstractCollection" (1 : Nat) ({ cls := "java/lang/Object", name := "<init>", desc := "()V" } : Jvm.MethodName)) ∈ lw_all := lw_g (lw_at lw_m1 59 rfl) rfl

/-! java/util/AbstractList -/
set_option maxRecDepth 100000
def RJ1 : String := "java/util/AbstractList"
abbrev cJ1_init : ByteArray := prog_42_method_1_code
def yJ1_init : MethodName := ⟨RJ1, "<init>", "()V"⟩
def dkwJ1_init_0 : List UInt8 := [42, 183, 0, 1, 42, 3, 181, 0, 7, 177]
abbrev dktJ1_init_0 : List UInt8 := dkwJ1_init_0 ++ []
theorem dksJ1_init_0 : cJ1_init.data.toList.drop 0 = dktJ1_init_0 := by decide +kernel
theorem dJ1_init_0 : decode cJ1_init 0 = .ok (.aload_n 0, 1) := dk_42 (dk_at dksJ1_init_0 0 rfl rfl)
theorem dJ1_init_1 : decode cJ1_init 1 = .ok (.invokespecial 1, 3) := dk_183 0 1 (dk_at dksJ1_init_0 1 rfl rfl)
theorem dJ1_init_4 : decode cJ1_init 4 = .ok (.aload_n 0, 1) := dk_42 (dk_at dksJ1_init_0 4 rfl rfl)
theorem dJ1_init_5 : decode cJ1_init 5 = .ok (.iconst 0, 1) := dk_3 (dk_at dksJ1_init_0 5 rfl rfl)
theorem dJ1_init_6 : decode cJ1_init 6 = .ok (.putfield 7, 3) := dk_181 0 7 (dk_at dksJ1_init_0 6 rfl rfl)
theorem dJ1_init_9 : decode cJ1_init 9 = .ok (.return_, 1) := dk_177 (dk_at dksJ1_init_0 9 rfl rfl)
theorem q59 : (Jvm.Cond.initialized "java/util/AbstractList") ∈ lw_all := lw_g (lw_at lw_m1 3 rfl) rfl
theorem q110 : (Jvm.Cond.instanceMethod ({ cls := "java/util/AbstractList", name := "<init>", desc := "()V" } : Jvm.MethodName)) ∈ lw_all := lw_g (lw_at lw_m1 54 rfl) rfl
theorem q111 : (Jvm.Cond.code ({ cls := "java/util/AbstractList", name := "<init>", desc := "()V" } : Jvm.MethodName) prog_42_method_1_code (1 : Nat) (Option.none : Option Jvm.ClassFile.FieldType)) ∈ lw_all := lw_g (lw_at lw_m1 55 rfl) rfl
theorem q112 : (Jvm.Cond.methodLink "java/util/AbstractList" (1 : Nat) ({ cls := "java/util/AbstractCollection", name := "<init>", desc := "()V" } : Jvm.MethodName)) ∈ lw_all := lw_g (lw_at lw_m1 56 rfl) rfl
theorem q120 : (Jvm.Cond.fieldLink "java/util/AbstractList" (7 : Nat) "java/util/AbstractList" "modCount" "I") ∈ lw_all := lw_g (lw_at lw_m1 64 rfl) rfl
theorem q128 : (Jvm.Cond.soleField "java/util/AbstractList" "modCount") ∈ lw_all := lw_g (lw_at lw_m1 72 rfl) rfl

/-! java/util/ArrayList -/
set_option maxRecDepth 100000
def RJ2 : String := "java/util/ArrayList"
def TJ2 : u_T := fun k => match k with
  | 0 => ("java/util/AbstractList", "modCount", "I", false)
  | 1 => ("java/util/ArrayList", "elementData", "[Ljava/lang/Object;", false)
  | _ => ("java/util/ArrayList", "size", "I", false)
def tyJ2 : Nat → FieldType := fun k => match k with
  | 0 => .int
  | 1 => .array (.object "java/lang/Object")
  | _ => .int
abbrev wsJ20 : List Cond := u_ws RJ2 TJ2 3
theorem nmJ2 : ∀ a, a < 3 → ∀ b, b < 3 → a ≠ b → (TJ2 a).2.1 ≠ (TJ2 b).2.1 := by decide +kernel
theorem tyJ2_ok : ∀ k, k < 3 → parseFieldDescriptor (TJ2 k).2.2.1 = some (tyJ2 k) := by decide +kernel
abbrev cJ2_init : ByteArray := prog_43_method_2_code
def yJ2_init : MethodName := ⟨RJ2, "<init>", "()V"⟩
def dkwJ2_init_0 : List UInt8 := [42, 183, 0, 1, 42, 178, 0, 39, 181, 0, 9, 177]
abbrev dktJ2_init_0 : List UInt8 := dkwJ2_init_0 ++ []
theorem dksJ2_init_0 : cJ2_init.data.toList.drop 0 = dktJ2_init_0 := by decide +kernel
theorem dJ2_init_0 : decode cJ2_init 0 = .ok (.aload_n 0, 1) := dk_42 (dk_at dksJ2_init_0 0 rfl rfl)
theorem dJ2_init_1 : decode cJ2_init 1 = .ok (.invokespecial 1, 3) := dk_183 0 1 (dk_at dksJ2_init_0 1 rfl rfl)
theorem dJ2_init_4 : decode cJ2_init 4 = .ok (.aload_n 0, 1) := dk_42 (dk_at dksJ2_init_0 4 rfl rfl)
theorem dJ2_init_5 : decode cJ2_init 5 = .ok (.getstatic 39, 3) := dk_178 0 39 (dk_at dksJ2_init_0 5 rfl rfl)
theorem dJ2_init_8 : decode cJ2_init 8 = .ok (.putfield 9, 3) := dk_181 0 9 (dk_at dksJ2_init_0 8 rfl rfl)
theorem dJ2_init_11 : decode cJ2_init 11 = .ok (.return_, 1) := dk_177 (dk_at dksJ2_init_0 11 rfl rfl)
abbrev cJ2_size : ByteArray := prog_43_method_8_code
def yJ2_size : MethodName := ⟨RJ2, "size", "()I"⟩
theorem dJ2_size_0 : decode cJ2_size 0 = .ok (.aload_n 0, 1) := by decide +kernel
theorem dJ2_size_1 : decode cJ2_size 1 = .ok (.getfield 48, 3) := by decide +kernel
theorem dJ2_size_4 : decode cJ2_size 4 = .ok (.ireturn, 1) := by decide +kernel
abbrev cJ2_add : ByteArray := prog_43_method_25_code
def yJ2_add : MethodName := ⟨RJ2, "add", "(Ljava/lang/Object;)Z"⟩
def dkwJ2_add_1 : List UInt8 := [172]
abbrev dktJ2_add_1 : List UInt8 := dkwJ2_add_1 ++ []
def dkwJ2_add_0 : List UInt8 := [42, 89, 180, 0, 63, 4, 96, 181, 0, 63, 42, 43, 42, 180, 0, 9, 42, 180, 0, 48, 182, 0, 131, 4]
abbrev dktJ2_add_0 : List UInt8 := dkwJ2_add_0 ++ dktJ2_add_1
theorem dksJ2_add_0 : cJ2_add.data.toList.drop 0 = dktJ2_add_0 := by decide +kernel
theorem dksJ2_add_1 : cJ2_add.data.toList.drop 24 = dktJ2_add_1 := dk_seg dksJ2_add_0 24 rfl rfl
theorem dJ2_add_0 : decode cJ2_add 0 = .ok (.aload_n 0, 1) := dk_42 (dk_at dksJ2_add_0 0 rfl rfl)
theorem dJ2_add_1 : decode cJ2_add 1 = .ok (.dup, 1) := dk_89 (dk_at dksJ2_add_0 1 rfl rfl)
theorem dJ2_add_2 : decode cJ2_add 2 = .ok (.getfield 63, 3) := dk_180 0 63 (dk_at dksJ2_add_0 2 rfl rfl)
theorem dJ2_add_5 : decode cJ2_add 5 = .ok (.iconst 1, 1) := dk_4 (dk_at dksJ2_add_0 5 rfl rfl)
theorem dJ2_add_6 : decode cJ2_add 6 = .ok (.iadd, 1) := dk_96 (dk_at dksJ2_add_0 6 rfl rfl)
theorem dJ2_add_7 : decode cJ2_add 7 = .ok (.putfield 63, 3) := dk_181 0 63 (dk_at dksJ2_add_0 7 rfl rfl)
theorem dJ2_add_10 : decode cJ2_add 10 = .ok (.aload_n 0, 1) := dk_42 (dk_at dksJ2_add_0 10 rfl rfl)
theorem dJ2_add_11 : decode cJ2_add 11 = .ok (.aload_n 1, 1) := dk_43 (dk_at dksJ2_add_0 11 rfl rfl)
theorem dJ2_add_12 : decode cJ2_add 12 = .ok (.aload_n 0, 1) := dk_42 (dk_at dksJ2_add_0 12 rfl rfl)
theorem dJ2_add_13 : decode cJ2_add 13 = .ok (.getfield 9, 3) := dk_180 0 9 (dk_at dksJ2_add_0 13 rfl rfl)
theorem dJ2_add_16 : decode cJ2_add 16 = .ok (.aload_n 0, 1) := dk_42 (dk_at dksJ2_add_0 16 rfl rfl)
theorem dJ2_add_17 : decode cJ2_add 17 = .ok (.getfield 48, 3) := dk_180 0 48 (dk_at dksJ2_add_0 17 rfl rfl)
theorem dJ2_add_20 : decode cJ2_add 20 = .ok (.invokevirtual 131, 3) := dk_182 0 131 (dk_at dksJ2_add_0 20 rfl rfl)
theorem dJ2_add_23 : decode cJ2_add 23 = .ok (.iconst 1, 1) := dk_4 (dk_at dksJ2_add_0 23 rfl rfl)
theorem dJ2_add_24 : decode cJ2_add 24 = .ok (.ireturn, 1) := dk_172 (dk_at dksJ2_add_1 0 rfl rfl)
abbrev cJ2_add_2 : ByteArray := prog_43_method_24_code
def yJ2_add_2 : MethodName := ⟨RJ2, "add", "(Ljava/lang/Object;[Ljava/lang/Object;I)V"⟩
def dkwJ2_add_2_0 : List UInt8 := [29, 44, 190, 160, 0, 8, 42, 182, 0, 129, 77, 44, 29, 43, 83, 42, 29, 4, 96, 181, 0, 48, 177]
abbrev dktJ2_add_2_0 : List UInt8 := dkwJ2_add_2_0 ++ []
theorem dksJ2_add_2_0 : cJ2_add_2.data.toList.drop 0 = dktJ2_add_2_0 := by decide +kernel
theorem dJ2_add_2_0 : decode cJ2_add_2 0 = .ok (.iload_n 3, 1) := dk_29 (dk_at dksJ2_add_2_0 0 rfl rfl)
theorem dJ2_add_2_1 : decode cJ2_add_2 1 = .ok (.aload_n 2, 1) := dk_44 (dk_at dksJ2_add_2_0 1 rfl rfl)
theorem dJ2_add_2_2 : decode cJ2_add_2 2 = .ok (.arraylength, 1) := dk_190 (dk_at dksJ2_add_2_0 2 rfl rfl)
theorem dJ2_add_2_3 : decode cJ2_add_2 3 = .ok (.if_icmp .ne 8, 3) := dk_160 0 8 (dk_at dksJ2_add_2_0 3 rfl rfl)
theorem dJ2_add_2_6 : decode cJ2_add_2 6 = .ok (.aload_n 0, 1) := dk_42 (dk_at dksJ2_add_2_0 6 rfl rfl)
theorem dJ2_add_2_7 : decode cJ2_add_2 7 = .ok (.invokevirtual 129, 3) := dk_182 0 129 (dk_at dksJ2_add_2_0 7 rfl rfl)
theorem dJ2_add_2_10 : decode cJ2_add_2 10 = .ok (.astore_n 2, 1) := dk_77 (dk_at dksJ2_add_2_0 10 rfl rfl)
theorem dJ2_add_2_11 : decode cJ2_add_2 11 = .ok (.aload_n 2, 1) := dk_44 (dk_at dksJ2_add_2_0 11 rfl rfl)
theorem dJ2_add_2_12 : decode cJ2_add_2 12 = .ok (.iload_n 3, 1) := dk_29 (dk_at dksJ2_add_2_0 12 rfl rfl)
theorem dJ2_add_2_13 : decode cJ2_add_2 13 = .ok (.aload_n 1, 1) := dk_43 (dk_at dksJ2_add_2_0 13 rfl rfl)
theorem dJ2_add_2_14 : decode cJ2_add_2 14 = .ok (.aastore, 1) := dk_83 (dk_at dksJ2_add_2_0 14 rfl rfl)
theorem dJ2_add_2_15 : decode cJ2_add_2 15 = .ok (.aload_n 0, 1) := dk_42 (dk_at dksJ2_add_2_0 15 rfl rfl)
theorem dJ2_add_2_16 : decode cJ2_add_2 16 = .ok (.iload_n 3, 1) := dk_29 (dk_at dksJ2_add_2_0 16 rfl rfl)
theorem dJ2_add_2_17 : decode cJ2_add_2 17 = .ok (.iconst 1, 1) := dk_4 (dk_at dksJ2_add_2_0 17 rfl rfl)
theorem dJ2_add_2_18 : decode cJ2_add_2 18 = .ok (.iadd, 1) := dk_96 (dk_at dksJ2_add_2_0 18 rfl rfl)
theorem dJ2_add_2_19 : decode cJ2_add_2 19 = .ok (.putfield 48, 3) := dk_181 0 48 (dk_at dksJ2_add_2_0 19 rfl rfl)
theorem dJ2_add_2_22 : decode cJ2_add_2 22 = .ok (.return_, 1) := dk_177 (dk_at dksJ2_add_2_0 22 rfl rfl)
abbrev cJ2_grow : ByteArray := prog_43_method_7_code
def yJ2_grow : MethodName := ⟨RJ2, "grow", "()[Ljava/lang/Object;"⟩
def dkwJ2_grow_0 : List UInt8 := [42, 42, 180, 0, 48, 4, 96, 182, 0, 69, 176]
abbrev dktJ2_grow_0 : List UInt8 := dkwJ2_grow_0 ++ []
theorem dksJ2_grow_0 : cJ2_grow.data.toList.drop 0 = dktJ2_grow_0 := by decide +kernel
theorem dJ2_grow_0 : decode cJ2_grow 0 = .ok (.aload_n 0, 1) := dk_42 (dk_at dksJ2_grow_0 0 rfl rfl)
theorem dJ2_grow_1 : decode cJ2_grow 1 = .ok (.aload_n 0, 1) := dk_42 (dk_at dksJ2_grow_0 1 rfl rfl)
theorem dJ2_grow_2 : decode cJ2_grow 2 = .ok (.getfield 48, 3) := dk_180 0 48 (dk_at dksJ2_grow_0 2 rfl rfl)
theorem dJ2_grow_5 : decode cJ2_grow 5 = .ok (.iconst 1, 1) := dk_4 (dk_at dksJ2_grow_0 5 rfl rfl)
theorem dJ2_grow_6 : decode cJ2_grow 6 = .ok (.iadd, 1) := dk_96 (dk_at dksJ2_grow_0 6 rfl rfl)
theorem dJ2_grow_7 : decode cJ2_grow 7 = .ok (.invokevirtual 69, 3) := dk_182 0 69 (dk_at dksJ2_grow_0 7 rfl rfl)
theorem dJ2_grow_10 : decode cJ2_grow 10 = .ok (.areturn, 1) := dk_176 (dk_at dksJ2_grow_0 10 rfl rfl)
abbrev cJ2_grow_2 : ByteArray := prog_43_method_6_code
def yJ2_grow_2 : MethodName := ⟨RJ2, "grow", "(I)[Ljava/lang/Object;"⟩
def dkwJ2_grow_2_2 : List UInt8 := [27, 184, 0, 79, 189, 0, 7, 90, 181, 0, 9, 176]
abbrev dktJ2_grow_2_2 : List UInt8 := dkwJ2_grow_2_2 ++ []
def dkwJ2_grow_2_1 : List UInt8 := [28, 4, 122, 184, 0, 73, 62, 42, 42, 180, 0, 9, 29, 184, 0, 66, 90, 181, 0, 9, 176, 42, 16, 10]
abbrev dktJ2_grow_2_1 : List UInt8 := dkwJ2_grow_2_1 ++ dktJ2_grow_2_2
def dkwJ2_grow_2_0 : List UInt8 := [42, 180, 0, 9, 190, 61, 28, 157, 0, 13, 42, 180, 0, 9, 178, 0, 39, 165, 0, 28, 28, 27, 28, 100]
abbrev dktJ2_grow_2_0 : List UInt8 := dkwJ2_grow_2_0 ++ dktJ2_grow_2_1
theorem dksJ2_grow_2_0 : cJ2_grow_2.data.toList.drop 0 = dktJ2_grow_2_0 := by decide +kernel
theorem dksJ2_grow_2_1 : cJ2_grow_2.data.toList.drop 24 = dktJ2_grow_2_1 := dk_seg dksJ2_grow_2_0 24 rfl rfl
theorem dksJ2_grow_2_2 : cJ2_grow_2.data.toList.drop 48 = dktJ2_grow_2_2 := dk_seg dksJ2_grow_2_1 24 rfl rfl
theorem dJ2_grow_2_0 : decode cJ2_grow_2 0 = .ok (.aload_n 0, 1) := dk_42 (dk_at dksJ2_grow_2_0 0 rfl rfl)
theorem dJ2_grow_2_1 : decode cJ2_grow_2 1 = .ok (.getfield 9, 3) := dk_180 0 9 (dk_at dksJ2_grow_2_0 1 rfl rfl)
theorem dJ2_grow_2_4 : decode cJ2_grow_2 4 = .ok (.arraylength, 1) := dk_190 (dk_at dksJ2_grow_2_0 4 rfl rfl)
theorem dJ2_grow_2_5 : decode cJ2_grow_2 5 = .ok (.istore_n 2, 1) := dk_61 (dk_at dksJ2_grow_2_0 5 rfl rfl)
theorem dJ2_grow_2_6 : decode cJ2_grow_2 6 = .ok (.iload_n 2, 1) := dk_28 (dk_at dksJ2_grow_2_0 6 rfl rfl)
theorem dJ2_grow_2_7 : decode cJ2_grow_2 7 = .ok (.ifCond .gt 13, 3) := dk_157 0 13 (dk_at dksJ2_grow_2_0 7 rfl rfl)
theorem dJ2_grow_2_10 : decode cJ2_grow_2 10 = .ok (.aload_n 0, 1) := dk_42 (dk_at dksJ2_grow_2_0 10 rfl rfl)
theorem dJ2_grow_2_11 : decode cJ2_grow_2 11 = .ok (.getfield 9, 3) := dk_180 0 9 (dk_at dksJ2_grow_2_0 11 rfl rfl)
theorem dJ2_grow_2_14 : decode cJ2_grow_2 14 = .ok (.getstatic 39, 3) := dk_178 0 39 (dk_at dksJ2_grow_2_0 14 rfl rfl)
theorem dJ2_grow_2_17 : decode cJ2_grow_2 17 = .ok (.if_acmp .eq 28, 3) := dk_165 0 28 (dk_at dksJ2_grow_2_0 17 rfl rfl)
theorem dJ2_grow_2_20 : decode cJ2_grow_2 20 = .ok (.iload_n 2, 1) := dk_28 (dk_at dksJ2_grow_2_0 20 rfl rfl)
theorem dJ2_grow_2_21 : decode cJ2_grow_2 21 = .ok (.iload_n 1, 1) := dk_27 (dk_at dksJ2_grow_2_0 21 rfl rfl)
theorem dJ2_grow_2_22 : decode cJ2_grow_2 22 = .ok (.iload_n 2, 1) := dk_28 (dk_at dksJ2_grow_2_0 22 rfl rfl)
theorem dJ2_grow_2_23 : decode cJ2_grow_2 23 = .ok (.isub, 1) := dk_100 (dk_at dksJ2_grow_2_0 23 rfl rfl)
theorem dJ2_grow_2_24 : decode cJ2_grow_2 24 = .ok (.iload_n 2, 1) := dk_28 (dk_at dksJ2_grow_2_1 0 rfl rfl)
theorem dJ2_grow_2_25 : decode cJ2_grow_2 25 = .ok (.iconst 1, 1) := dk_4 (dk_at dksJ2_grow_2_1 1 rfl rfl)
theorem dJ2_grow_2_26 : decode cJ2_grow_2 26 = .ok (.ishr, 1) := dk_122 (dk_at dksJ2_grow_2_1 2 rfl rfl)
theorem dJ2_grow_2_27 : decode cJ2_grow_2 27 = .ok (.invokestatic 73, 3) := dk_184 0 73 (dk_at dksJ2_grow_2_1 3 rfl rfl)
theorem dJ2_grow_2_30 : decode cJ2_grow_2 30 = .ok (.istore_n 3, 1) := dk_62 (dk_at dksJ2_grow_2_1 6 rfl rfl)
theorem dJ2_grow_2_31 : decode cJ2_grow_2 31 = .ok (.aload_n 0, 1) := dk_42 (dk_at dksJ2_grow_2_1 7 rfl rfl)
theorem dJ2_grow_2_32 : decode cJ2_grow_2 32 = .ok (.aload_n 0, 1) := dk_42 (dk_at dksJ2_grow_2_1 8 rfl rfl)
theorem dJ2_grow_2_33 : decode cJ2_grow_2 33 = .ok (.getfield 9, 3) := dk_180 0 9 (dk_at dksJ2_grow_2_1 9 rfl rfl)
theorem dJ2_grow_2_36 : decode cJ2_grow_2 36 = .ok (.iload_n 3, 1) := dk_29 (dk_at dksJ2_grow_2_1 12 rfl rfl)
theorem dJ2_grow_2_37 : decode cJ2_grow_2 37 = .ok (.invokestatic 66, 3) := dk_184 0 66 (dk_at dksJ2_grow_2_1 13 rfl rfl)
theorem dJ2_grow_2_40 : decode cJ2_grow_2 40 = .ok (.dup_x1, 1) := dk_90 (dk_at dksJ2_grow_2_1 16 rfl rfl)
theorem dJ2_grow_2_41 : decode cJ2_grow_2 41 = .ok (.putfield 9, 3) := dk_181 0 9 (dk_at dksJ2_grow_2_1 17 rfl rfl)
theorem dJ2_grow_2_44 : decode cJ2_grow_2 44 = .ok (.areturn, 1) := dk_176 (dk_at dksJ2_grow_2_1 20 rfl rfl)
theorem dJ2_grow_2_45 : decode cJ2_grow_2 45 = .ok (.aload_n 0, 1) := dk_42 (dk_at dksJ2_grow_2_1 21 rfl rfl)
theorem dJ2_grow_2_46 : decode cJ2_grow_2 46 = .ok (.bipush 10, 2) := dk_16 10 (dk_at dksJ2_grow_2_1 22 rfl rfl)
theorem dJ2_grow_2_48 : decode cJ2_grow_2 48 = .ok (.iload_n 1, 1) := dk_27 (dk_at dksJ2_grow_2_2 0 rfl rfl)
theorem dJ2_grow_2_49 : decode cJ2_grow_2 49 = .ok (.invokestatic 79, 3) := dk_184 0 79 (dk_at dksJ2_grow_2_2 1 rfl rfl)
theorem dJ2_grow_2_52 : decode cJ2_grow_2 52 = .ok (.anewarray 7, 3) := dk_189 0 7 (dk_at dksJ2_grow_2_2 4 rfl rfl)
theorem dJ2_grow_2_55 : decode cJ2_grow_2 55 = .ok (.dup_x1, 1) := dk_90 (dk_at dksJ2_grow_2_2 7 rfl rfl)
theorem dJ2_grow_2_56 : decode cJ2_grow_2 56 = .ok (.putfield 9, 3) := dk_181 0 9 (dk_at dksJ2_grow_2_2 8 rfl rfl)
theorem dJ2_grow_2_59 : decode cJ2_grow_2 59 = .ok (.areturn, 1) := dk_176 (dk_at dksJ2_grow_2_2 11 rfl rfl)
abbrev cJ2_get : ByteArray := prog_43_method_20_code
def yJ2_get : MethodName := ⟨RJ2, "get", "(I)Ljava/lang/Object;"⟩
def dkwJ2_get_0 : List UInt8 := [27, 42, 180, 0, 48, 184, 0, 118, 87, 42, 27, 182, 0, 123, 176]
abbrev dktJ2_get_0 : List UInt8 := dkwJ2_get_0 ++ []
theorem dksJ2_get_0 : cJ2_get.data.toList.drop 0 = dktJ2_get_0 := by decide +kernel
theorem dJ2_get_0 : decode cJ2_get 0 = .ok (.iload_n 1, 1) := dk_27 (dk_at dksJ2_get_0 0 rfl rfl)
theorem dJ2_get_1 : decode cJ2_get 1 = .ok (.aload_n 0, 1) := dk_42 (dk_at dksJ2_get_0 1 rfl rfl)
theorem dJ2_get_2 : decode cJ2_get 2 = .ok (.getfield 48, 3) := dk_180 0 48 (dk_at dksJ2_get_0 2 rfl rfl)
theorem dJ2_get_5 : decode cJ2_get 5 = .ok (.invokestatic 118, 3) := dk_184 0 118 (dk_at dksJ2_get_0 5 rfl rfl)
theorem dJ2_get_8 : decode cJ2_get 8 = .ok (.pop, 1) := dk_87 (dk_at dksJ2_get_0 8 rfl rfl)
theorem dJ2_get_9 : decode cJ2_get 9 = .ok (.aload_n 0, 1) := dk_42 (dk_at dksJ2_get_0 9 rfl rfl)
theorem dJ2_get_10 : decode cJ2_get 10 = .ok (.iload_n 1, 1) := dk_27 (dk_at dksJ2_get_0 10 rfl rfl)
theorem dJ2_get_11 : decode cJ2_get 11 = .ok (.invokevirtual 123, 3) := dk_182 0 123 (dk_at dksJ2_get_0 11 rfl rfl)
theorem dJ2_get_14 : decode cJ2_get 14 = .ok (.areturn, 1) := dk_176 (dk_at dksJ2_get_0 14 rfl rfl)
abbrev cJ2_elementData : ByteArray := prog_43_method_18_code
def yJ2_elementData : MethodName := ⟨RJ2, "elementData", "(I)Ljava/lang/Object;"⟩
def dkwJ2_elementData_0 : List UInt8 := [42, 180, 0, 9, 27, 50, 176]
abbrev dktJ2_elementData_0 : List UInt8 := dkwJ2_elementData_0 ++ []
theorem dksJ2_elementData_0 : cJ2_elementData.data.toList.drop 0 = dktJ2_elementData_0 := by decide +kernel
theorem dJ2_elementData_0 : decode cJ2_elementData 0 = .ok (.aload_n 0, 1) := dk_42 (dk_at dksJ2_elementData_0 0 rfl rfl)
theorem dJ2_elementData_1 : decode cJ2_elementData 1 = .ok (.getfield 9, 3) := dk_180 0 9 (dk_at dksJ2_elementData_0 1 rfl rfl)
theorem dJ2_elementData_4 : decode cJ2_elementData 4 = .ok (.iload_n 1, 1) := dk_27 (dk_at dksJ2_elementData_0 4 rfl rfl)
theorem dJ2_elementData_5 : decode cJ2_elementData 5 = .ok (.aaload, 1) := dk_50 (dk_at dksJ2_elementData_0 5 rfl rfl)
theorem dJ2_elementData_6 : decode cJ2_elementData 6 = .ok (.areturn, 1) := dk_176 (dk_at dksJ2_elementData_0 6 rfl rfl)
abbrev cJ2_add_3 : ByteArray := prog_43_method_26_code
def yJ2_add_3 : MethodName := ⟨RJ2, "add", "(ILjava/lang/Object;)V"⟩
def dkwJ2_add_3_2 : List UInt8 := [29, 27, 100, 184, 0, 112, 25, 4, 27, 44, 83, 42, 29, 4, 96, 181, 0, 48, 177]
abbrev dktJ2_add_3_2 : List UInt8 := dkwJ2_add_3_2 ++ []
def dkwJ2_add_3_1 : List UInt8 := [180, 0, 9, 89, 58, 4, 190, 160, 0, 9, 42, 182, 0, 129, 58, 4, 25, 4, 27, 25, 4, 27, 4, 96]
abbrev dktJ2_add_3_1 : List UInt8 := dkwJ2_add_3_1 ++ dktJ2_add_3_2
def dkwJ2_add_3_0 : List UInt8 := [42, 27, 182, 0, 135, 42, 89, 180, 0, 63, 4, 96, 181, 0, 63, 42, 180, 0, 48, 89, 62, 42]
abbrev dktJ2_add_3_0 : List UInt8 := dkwJ2_add_3_0 ++ dktJ2_add_3_1
theorem dksJ2_add_3_0 : cJ2_add_3.data.toList.drop 0 = dktJ2_add_3_0 := by decide +kernel
theorem dksJ2_add_3_1 : cJ2_add_3.data.toList.drop 22 = dktJ2_add_3_1 := dk_seg dksJ2_add_3_0 22 rfl rfl
theorem dksJ2_add_3_2 : cJ2_add_3.data.toList.drop 46 = dktJ2_add_3_2 := dk_seg dksJ2_add_3_1 24 rfl rfl
theorem dJ2_add_3_0 : decode cJ2_add_3 0 = .ok (.aload_n 0, 1) := dk_42 (dk_at dksJ2_add_3_0 0 rfl rfl)
theorem dJ2_add_3_1 : decode cJ2_add_3 1 = .ok (.iload_n 1, 1) := dk_27 (dk_at dksJ2_add_3_0 1 rfl rfl)
theorem dJ2_add_3_2 : decode cJ2_add_3 2 = .ok (.invokevirtual 135, 3) := dk_182 0 135 (dk_at dksJ2_add_3_0 2 rfl rfl)
theorem dJ2_add_3_5 : decode cJ2_add_3 5 = .ok (.aload_n 0, 1) := dk_42 (dk_at dksJ2_add_3_0 5 rfl rfl)
theorem dJ2_add_3_6 : decode cJ2_add_3 6 = .ok (.dup, 1) := dk_89 (dk_at dksJ2_add_3_0 6 rfl rfl)
theorem dJ2_add_3_7 : decode cJ2_add_3 7 = .ok (.getfield 63, 3) := dk_180 0 63 (dk_at dksJ2_add_3_0 7 rfl rfl)
theorem dJ2_add_3_10 : decode cJ2_add_3 10 = .ok (.iconst 1, 1) := dk_4 (dk_at dksJ2_add_3_0 10 rfl rfl)
theorem dJ2_add_3_11 : decode cJ2_add_3 11 = .ok (.iadd, 1) := dk_96 (dk_at dksJ2_add_3_0 11 rfl rfl)
theorem dJ2_add_3_12 : decode cJ2_add_3 12 = .ok (.putfield 63, 3) := dk_181 0 63 (dk_at dksJ2_add_3_0 12 rfl rfl)
theorem dJ2_add_3_15 : decode cJ2_add_3 15 = .ok (.aload_n 0, 1) := dk_42 (dk_at dksJ2_add_3_0 15 rfl rfl)
theorem dJ2_add_3_16 : decode cJ2_add_3 16 = .ok (.getfield 48, 3) := dk_180 0 48 (dk_at dksJ2_add_3_0 16 rfl rfl)
theorem dJ2_add_3_19 : decode cJ2_add_3 19 = .ok (.dup, 1) := dk_89 (dk_at dksJ2_add_3_0 19 rfl rfl)
theorem dJ2_add_3_20 : decode cJ2_add_3 20 = .ok (.istore_n 3, 1) := dk_62 (dk_at dksJ2_add_3_0 20 rfl rfl)
theorem dJ2_add_3_21 : decode cJ2_add_3 21 = .ok (.aload_n 0, 1) := dk_42 (dk_at dksJ2_add_3_0 21 rfl rfl)
theorem dJ2_add_3_22 : decode cJ2_add_3 22 = .ok (.getfield 9, 3) := dk_180 0 9 (dk_at dksJ2_add_3_1 0 rfl rfl)
theorem dJ2_add_3_25 : decode cJ2_add_3 25 = .ok (.dup, 1) := dk_89 (dk_at dksJ2_add_3_1 3 rfl rfl)
theorem dJ2_add_3_26 : decode cJ2_add_3 26 = .ok (.astore 4, 2) := dk_58 4 (dk_at dksJ2_add_3_1 4 rfl rfl)
theorem dJ2_add_3_28 : decode cJ2_add_3 28 = .ok (.arraylength, 1) := dk_190 (dk_at dksJ2_add_3_1 6 rfl rfl)
theorem dJ2_add_3_29 : decode cJ2_add_3 29 = .ok (.if_icmp .ne 9, 3) := dk_160 0 9 (dk_at dksJ2_add_3_1 7 rfl rfl)
theorem dJ2_add_3_32 : decode cJ2_add_3 32 = .ok (.aload_n 0, 1) := dk_42 (dk_at dksJ2_add_3_1 10 rfl rfl)
theorem dJ2_add_3_33 : decode cJ2_add_3 33 = .ok (.invokevirtual 129, 3) := dk_182 0 129 (dk_at dksJ2_add_3_1 11 rfl rfl)
theorem dJ2_add_3_36 : decode cJ2_add_3 36 = .ok (.astore 4, 2) := dk_58 4 (dk_at dksJ2_add_3_1 14 rfl rfl)
theorem dJ2_add_3_38 : decode cJ2_add_3 38 = .ok (.aload 4, 2) := dk_25 4 (dk_at dksJ2_add_3_1 16 rfl rfl)
theorem dJ2_add_3_40 : decode cJ2_add_3 40 = .ok (.iload_n 1, 1) := dk_27 (dk_at dksJ2_add_3_1 18 rfl rfl)
theorem dJ2_add_3_41 : decode cJ2_add_3 41 = .ok (.aload 4, 2) := dk_25 4 (dk_at dksJ2_add_3_1 19 rfl rfl)
theorem dJ2_add_3_43 : decode cJ2_add_3 43 = .ok (.iload_n 1, 1) := dk_27 (dk_at dksJ2_add_3_1 21 rfl rfl)
theorem dJ2_add_3_44 : decode cJ2_add_3 44 = .ok (.iconst 1, 1) := dk_4 (dk_at dksJ2_add_3_1 22 rfl rfl)
theorem dJ2_add_3_45 : decode cJ2_add_3 45 = .ok (.iadd, 1) := dk_96 (dk_at dksJ2_add_3_1 23 rfl rfl)
theorem dJ2_add_3_46 : decode cJ2_add_3 46 = .ok (.iload_n 3, 1) := dk_29 (dk_at dksJ2_add_3_2 0 rfl rfl)
theorem dJ2_add_3_47 : decode cJ2_add_3 47 = .ok (.iload_n 1, 1) := dk_27 (dk_at dksJ2_add_3_2 1 rfl rfl)
theorem dJ2_add_3_48 : decode cJ2_add_3 48 = .ok (.isub, 1) := dk_100 (dk_at dksJ2_add_3_2 2 rfl rfl)
theorem dJ2_add_3_49 : decode cJ2_add_3 49 = .ok (.invokestatic 112, 3) := dk_184 0 112 (dk_at dksJ2_add_3_2 3 rfl rfl)
theorem dJ2_add_3_52 : decode cJ2_add_3 52 = .ok (.aload 4, 2) := dk_25 4 (dk_at dksJ2_add_3_2 6 rfl rfl)
theorem dJ2_add_3_54 : decode cJ2_add_3 54 = .ok (.iload_n 1, 1) := dk_27 (dk_at dksJ2_add_3_2 8 rfl rfl)
theorem dJ2_add_3_55 : decode cJ2_add_3 55 = .ok (.aload_n 2, 1) := dk_44 (dk_at dksJ2_add_3_2 9 rfl rfl)
theorem dJ2_add_3_56 : decode cJ2_add_3 56 = .ok (.aastore, 1) := dk_83 (dk_at dksJ2_add_3_2 10 rfl rfl)
theorem dJ2_add_3_57 : decode cJ2_add_3 57 = .ok (.aload_n 0, 1) := dk_42 (dk_at dksJ2_add_3_2 11 rfl rfl)
theorem dJ2_add_3_58 : decode cJ2_add_3 58 = .ok (.iload_n 3, 1) := dk_29 (dk_at dksJ2_add_3_2 12 rfl rfl)
theorem dJ2_add_3_59 : decode cJ2_add_3 59 = .ok (.iconst 1, 1) := dk_4 (dk_at dksJ2_add_3_2 13 rfl rfl)
theorem dJ2_add_3_60 : decode cJ2_add_3 60 = .ok (.iadd, 1) := dk_96 (dk_at dksJ2_add_3_2 14 rfl rfl)
theorem dJ2_add_3_61 : decode cJ2_add_3 61 = .ok (.putfield 48, 3) := dk_181 0 48 (dk_at dksJ2_add_3_2 15 rfl rfl)
theorem dJ2_add_3_64 : decode cJ2_add_3 64 = .ok (.return_, 1) := dk_177 (dk_at dksJ2_add_3_2 18 rfl rfl)
abbrev cJ2_rangeCheckForAdd : ByteArray := prog_43_method_45_code
def yJ2_rangeCheckForAdd : MethodName := ⟨RJ2, "rangeCheckForAdd", "(I)V"⟩
def dkwJ2_rangeCheckForAdd_1 : List UInt8 := [191, 177]
abbrev dktJ2_rangeCheckForAdd_1 : List UInt8 := dkwJ2_rangeCheckForAdd_1 ++ []
def dkwJ2_rangeCheckForAdd_0 : List UInt8 := [27, 42, 180, 0, 48, 163, 0, 7, 27, 156, 0, 16, 187, 0, 187, 89, 42, 27, 182, 0, 198, 183, 0, 193]
abbrev dktJ2_rangeCheckForAdd_0 : List UInt8 := dkwJ2_rangeCheckForAdd_0 ++ dktJ2_rangeCheckForAdd_1
theorem dksJ2_rangeCheckForAdd_0 : cJ2_rangeCheckForAdd.data.toList.drop 0 = dktJ2_rangeCheckForAdd_0 := by decide +kernel
theorem dksJ2_rangeCheckForAdd_1 : cJ2_rangeCheckForAdd.data.toList.drop 24 = dktJ2_rangeCheckForAdd_1 := dk_seg dksJ2_rangeCheckForAdd_0 24 rfl rfl
theorem dJ2_rangeCheckForAdd_0 : decode cJ2_rangeCheckForAdd 0 = .ok (.iload_n 1, 1) := dk_27 (dk_at dksJ2_rangeCheckForAdd_0 0 rfl rfl)
theorem dJ2_rangeCheckForAdd_1 : decode cJ2_rangeCheckForAdd 1 = .ok (.aload_n 0, 1) := dk_42 (dk_at dksJ2_rangeCheckForAdd_0 1 rfl rfl)
theorem dJ2_rangeCheckForAdd_2 : decode cJ2_rangeCheckForAdd 2 = .ok (.getfield 48, 3) := dk_180 0 48 (dk_at dksJ2_rangeCheckForAdd_0 2 rfl rfl)
theorem dJ2_rangeCheckForAdd_5 : decode cJ2_rangeCheckForAdd 5 = .ok (.if_icmp .gt 7, 3) := dk_163 0 7 (dk_at dksJ2_rangeCheckForAdd_0 5 rfl rfl)
theorem dJ2_rangeCheckForAdd_8 : decode cJ2_rangeCheckForAdd 8 = .ok (.iload_n 1, 1) := dk_27 (dk_at dksJ2_rangeCheckForAdd_0 8 rfl rfl)
theorem dJ2_rangeCheckForAdd_9 : decode cJ2_rangeCheckForAdd 9 = .ok (.ifCond .ge 16, 3) := dk_156 0 16 (dk_at dksJ2_rangeCheckForAdd_0 9 rfl rfl)
theorem dJ2_rangeCheckForAdd_12 : decode cJ2_rangeCheckForAdd 12 = .ok (.new 187, 3) := dk_187 0 187 (dk_at dksJ2_rangeCheckForAdd_0 12 rfl rfl)
theorem dJ2_rangeCheckForAdd_15 : decode cJ2_rangeCheckForAdd 15 = .ok (.dup, 1) := dk_89 (dk_at dksJ2_rangeCheckForAdd_0 15 rfl rfl)
theorem dJ2_rangeCheckForAdd_16 : decode cJ2_rangeCheckForAdd 16 = .ok (.aload_n 0, 1) := dk_42 (dk_at dksJ2_rangeCheckForAdd_0 16 rfl rfl)
theorem dJ2_rangeCheckForAdd_17 : decode cJ2_rangeCheckForAdd 17 = .ok (.iload_n 1, 1) := dk_27 (dk_at dksJ2_rangeCheckForAdd_0 17 rfl rfl)
theorem dJ2_rangeCheckForAdd_18 : decode cJ2_rangeCheckForAdd 18 = .ok (.invokevirtual 198, 3) := dk_182 0 198 (dk_at dksJ2_rangeCheckForAdd_0 18 rfl rfl)
theorem dJ2_rangeCheckForAdd_21 : decode cJ2_rangeCheckForAdd 21 = .ok (.invokespecial 193, 3) := dk_183 0 193 (dk_at dksJ2_rangeCheckForAdd_0 21 rfl rfl)
theorem dJ2_rangeCheckForAdd_24 : decode cJ2_rangeCheckForAdd 24 = .ok (.athrow, 1) := dk_191 (dk_at dksJ2_rangeCheckForAdd_1 0 rfl rfl)
theorem dJ2_rangeCheckForAdd_25 : decode cJ2_rangeCheckForAdd 25 = .ok (.return_, 1) := dk_177 (dk_at dksJ2_rangeCheckForAdd_1 1 rfl rfl)
abbrev cJ2_outOfBoundsMsg : ByteArray := prog_43_method_46_code
def yJ2_outOfBoundsMsg : MethodName := ⟨RJ2, "outOfBoundsMsg", "(I)Ljava/lang/String;"⟩
def dkwJ2_outOfBoundsMsg_1 : List UInt8 := [180, 0, 48, 182, 0, 29, 182, 0, 32, 176]
abbrev dktJ2_outOfBoundsMsg_1 : List UInt8 := dkwJ2_outOfBoundsMsg_1 ++ []
def dkwJ2_outOfBoundsMsg_0 : List UInt8 := [187, 0, 20, 89, 183, 0, 22, 18, 201, 182, 0, 25, 27, 182, 0, 29, 18, 203, 182, 0, 25, 42]
abbrev dktJ2_outOfBoundsMsg_0 : List UInt8 := dkwJ2_outOfBoundsMsg_0 ++ dktJ2_outOfBoundsMsg_1
theorem dksJ2_outOfBoundsMsg_0 : cJ2_outOfBoundsMsg.data.toList.drop 0 = dktJ2_outOfBoundsMsg_0 := by decide +kernel
theorem dksJ2_outOfBoundsMsg_1 : cJ2_outOfBoundsMsg.data.toList.drop 22 = dktJ2_outOfBoundsMsg_1 := dk_seg dksJ2_outOfBoundsMsg_0 22 rfl rfl
theorem dJ2_outOfBoundsMsg_0 : decode cJ2_outOfBoundsMsg 0 = .ok (.new 20, 3) := dk_187 0 20 (dk_at dksJ2_outOfBoundsMsg_0 0 rfl rfl)
theorem dJ2_outOfBoundsMsg_3 : decode cJ2_outOfBoundsMsg 3 = .ok (.dup, 1) := dk_89 (dk_at dksJ2_outOfBoundsMsg_0 3 rfl rfl)
theorem dJ2_outOfBoundsMsg_4 : decode cJ2_outOfBoundsMsg 4 = .ok (.invokespecial 22, 3) := dk_183 0 22 (dk_at dksJ2_outOfBoundsMsg_0 4 rfl rfl)
theorem dJ2_outOfBoundsMsg_7 : decode cJ2_outOfBoundsMsg 7 = .ok (.ldc 201, 2) := dk_18 201 (dk_at dksJ2_outOfBoundsMsg_0 7 rfl rfl)
theorem dJ2_outOfBoundsMsg_9 : decode cJ2_outOfBoundsMsg 9 = .ok (.invokevirtual 25, 3) := dk_182 0 25 (dk_at dksJ2_outOfBoundsMsg_0 9 rfl rfl)
theorem dJ2_outOfBoundsMsg_12 : decode cJ2_outOfBoundsMsg 12 = .ok (.iload_n 1, 1) := dk_27 (dk_at dksJ2_outOfBoundsMsg_0 12 rfl rfl)
theorem dJ2_outOfBoundsMsg_13 : decode cJ2_outOfBoundsMsg 13 = .ok (.invokevirtual 29, 3) := dk_182 0 29 (dk_at dksJ2_outOfBoundsMsg_0 13 rfl rfl)
theorem dJ2_outOfBoundsMsg_16 : decode cJ2_outOfBoundsMsg 16 = .ok (.ldc 203, 2) := dk_18 203 (dk_at dksJ2_outOfBoundsMsg_0 16 rfl rfl)
theorem dJ2_outOfBoundsMsg_18 : decode cJ2_outOfBoundsMsg 18 = .ok (.invokevirtual 25, 3) := dk_182 0 25 (dk_at dksJ2_outOfBoundsMsg_0 18 rfl rfl)
theorem dJ2_outOfBoundsMsg_21 : decode cJ2_outOfBoundsMsg 21 = .ok (.aload_n 0, 1) := dk_42 (dk_at dksJ2_outOfBoundsMsg_0 21 rfl rfl)
theorem dJ2_outOfBoundsMsg_22 : decode cJ2_outOfBoundsMsg 22 = .ok (.getfield 48, 3) := dk_180 0 48 (dk_at dksJ2_outOfBoundsMsg_1 0 rfl rfl)
theorem dJ2_outOfBoundsMsg_25 : decode cJ2_outOfBoundsMsg 25 = .ok (.invokevirtual 29, 3) := dk_182 0 29 (dk_at dksJ2_outOfBoundsMsg_1 3 rfl rfl)
theorem dJ2_outOfBoundsMsg_28 : decode cJ2_outOfBoundsMsg 28 = .ok (.invokevirtual 32, 3) := dk_182 0 32 (dk_at dksJ2_outOfBoundsMsg_1 6 rfl rfl)
theorem dJ2_outOfBoundsMsg_31 : decode cJ2_outOfBoundsMsg 31 = .ok (.areturn, 1) := dk_176 (dk_at dksJ2_outOfBoundsMsg_1 9 rfl rfl)
theorem q60 : (Jvm.Cond.initialized "java/util/ArrayList") ∈ lw_all := lw_g (lw_at lw_m1 4 rfl) rfl
theorem q105 : (Jvm.Cond.instantiable "java/util/ArrayList" (3 : Nat)) ∈ lw_all := lw_g (lw_at lw_m1 49 rfl) rfl
theorem q107 : (Jvm.Cond.instanceMethod ({ cls := "java/util/ArrayList", name := "<init>", desc := "()V" } : Jvm.MethodName)) ∈ lw_all := lw_g (lw_at lw_m1 51 rfl) rfl
theorem q108 : (Jvm.Cond.code ({ cls := "java/util/ArrayList", name := "<init>", desc := "()V" } : Jvm.MethodName) prog_43_method_2_code (1 : Nat) (Option.none : Option Jvm.ClassFile.FieldType)) ∈ lw_all := lw_g (lw_at lw_m1 52 rfl) rfl
theorem q109 : (Jvm.Cond.methodLink "java/util/ArrayList" (1 : Nat) ({ cls := "java/util/AbstractList", name := "<init>", desc := "()V" } : Jvm.MethodName)) ∈ lw_all := lw_g (lw_at lw_m1 53 rfl) rfl
theorem q116 : (Jvm.Cond.fieldLink "java/util/ArrayList" (39 : Nat) "java/util/ArrayList" "DEFAULTCAPACITY_EMPTY_ELEMENTDATA" "[Ljava/lang/Object;") ∈ lw_all := lw_g (lw_at lw_m1 60 rfl) rfl
theorem q117 : (Jvm.Cond.laysStatic "java/util/ArrayList" "DEFAULTCAPACITY_EMPTY_ELEMENTDATA" "[Ljava/lang/Object;") ∈ lw_tbl := lw_at lw_m1 61 rfl
theorem q118 : (Jvm.Cond.fieldLink "java/util/ArrayList" (9 : Nat) "java/util/ArrayList" "elementData" "[Ljava/lang/Object;") ∈ lw_all := lw_g (lw_at lw_m1 62 rfl) rfl
theorem q119 : (Jvm.Cond.fieldLink "java/util/ArrayList" (48 : Nat) "java/util/ArrayList" "size" "I") ∈ lw_all := lw_g (lw_at lw_m1 63 rfl) rfl
theorem q121 : (Jvm.Cond.fieldLink "java/util/ArrayList" (63 : Nat) "java/util/ArrayList" "modCount" "I") ∈ lw_all := lw_g (lw_at lw_m1 65 rfl) rfl
theorem q122 : (Jvm.Cond.sameField "java/util/ArrayList" "java/util/AbstractList" "modCount" "I") ∈ lw_all := lw_g (lw_at lw_m1 66 rfl) rfl
theorem q123 : (Jvm.Cond.lays "java/util/ArrayList" "java/util/ArrayList" "elementData" "[Ljava/lang/Object;") ∈ lw_all := lw_g (lw_at lw_m1 67 rfl) rfl
theorem q124 : (Jvm.Cond.soleField "java/util/ArrayList" "elementData") ∈ lw_all := lw_g (lw_at lw_m1 68 rfl) rfl
theorem q125 : (Jvm.Cond.lays "java/util/ArrayList" "java/util/ArrayList" "size" "I") ∈ lw_all := lw_g (lw_at lw_m1 69 rfl) rfl
theorem q126 : (Jvm.Cond.soleField "java/util/ArrayList" "size") ∈ lw_all := lw_g (lw_at lw_m1 70 rfl) rfl
theorem q127 : (Jvm.Cond.lays "java/util/ArrayList" "java/util/AbstractList" "modCount" "I") ∈ lw_all := lw_g (lw_at lw_m1 71 rfl) rfl
theorem q129 : (Jvm.Cond.superclass "java/util/ArrayList" "java/util/AbstractList") ∈ lw_all := lw_g (lw_at lw_m1 73 rfl) rfl
theorem q422 : (Jvm.Cond.castable "java/util/ArrayList" "java/util/List") ∈ lw_tbl := lw_at lw_m2 126 rfl
theorem q423 : (Jvm.Cond.selects "java/util/ArrayList" ({ cls := "java/util/List", name := "size", desc := "()I" } : Jvm.MethodName) ({ cls := "java/util/ArrayList", name := "size", desc := "()I" } : Jvm.MethodName)) ∈ lw_all := lw_g (lw_at lw_m2 127 rfl) rfl
theorem q424 : (Jvm.Cond.unhidden "java/util/ArrayList" "size" "()I") ∈ lw_tbl := lw_at lw_m2 128 rfl
theorem q425 : (Jvm.Cond.instanceMethod ({ cls := "java/util/ArrayList", name := "size", desc := "()I" } : Jvm.MethodName)) ∈ lw_all := lw_g (lw_at lw_m2 129 rfl) rfl
theorem q426 : (Jvm.Cond.publicMethod ({ cls := "java/util/ArrayList", name := "size", desc := "()I" } : Jvm.MethodName)) ∈ lw_tbl := lw_at lw_m2 130 rfl
theorem q427 : (Jvm.Cond.code ({ cls := "java/util/ArrayList", name := "size", desc := "()I" } : Jvm.MethodName) prog_43_method_8_code (1 : Nat) (Option.some Jvm.ClassFile.FieldType.int)) ∈ lw_all := lw_g (lw_at lw_m2 131 rfl) rfl
theorem q741 : (Jvm.Cond.selects "java/util/ArrayList" ({ cls := "java/util/List", name := "add", desc := "(Ljava/lang/Object;)Z" } : Jvm.MethodName) ({ cls := "java/util/ArrayList", name := "add", desc := "(Ljava/lang/Object;)Z" } : Jvm.MethodName)) ∈ lw_all := lw_g (lw_at lw_m3 205 rfl) rfl
theorem q742 : (Jvm.Cond.unhidden "java/util/ArrayList" "add" "(Ljava/lang/Object;)Z") ∈ lw_tbl := lw_at lw_m3 206 rfl
theorem q743 : (Jvm.Cond.instanceMethod ({ cls := "java/util/ArrayList", name := "add", desc := "(Ljava/lang/Object;)Z" } : Jvm.MethodName)) ∈ lw_all := lw_g (lw_at lw_m3 207 rfl) rfl
theorem q744 : (Jvm.Cond.publicMethod ({ cls := "java/util/ArrayList", name := "add", desc := "(Ljava/lang/Object;)Z" } : Jvm.MethodName)) ∈ lw_tbl := lw_at lw_m3 208 rfl
theorem q745 : (Jvm.Cond.code ({ cls := "java/util/ArrayList", name := "add", desc := "(Ljava/lang/Object;)Z" } : Jvm.MethodName) prog_43_method_25_code (2 : Nat) (Option.some Jvm.ClassFile.FieldType.boolean)) ∈ lw_all := lw_g (lw_at lw_m3 209 rfl) rfl
theorem q746 : (Jvm.Cond.methodLink "java/util/ArrayList" (131 : Nat) ({ cls := "java/util/ArrayList", name := "add", desc := "(Ljava/lang/Object;[Ljava/lang/Object;I)V" } : Jvm.MethodName)) ∈ lw_all := lw_g (lw_at lw_m3 210 rfl) rfl
theorem q747 : (Jvm.Cond.privateMethod ({ cls := "java/util/ArrayList", name := "add", desc := "(Ljava/lang/Object;[Ljava/lang/Object;I)V" } : Jvm.MethodName)) ∈ lw_tbl := lw_at lw_m3 211 rfl
theorem q748 : (Jvm.Cond.instanceMethod ({ cls := "java/util/ArrayList", name := "add", desc := "(Ljava/lang/Object;[Ljava/lang/Object;I)V" } : Jvm.MethodName)) ∈ lw_all := lw_g (lw_at lw_m3 212 rfl) rfl
theorem q749 : (Jvm.Cond.code ({ cls := "java/util/ArrayList", name := "add", desc := "(Ljava/lang/Object;[Ljava/lang/Object;I)V" } : Jvm.MethodName) prog_43_method_24_code (4 : Nat) (Option.none : Option Jvm.ClassFile.FieldType)) ∈ lw_all := lw_g (lw_at lw_m3 213 rfl) rfl
theorem q750 : (Jvm.Cond.methodLink "java/util/ArrayList" (129 : Nat) ({ cls := "java/util/ArrayList", name := "grow", desc := "()[Ljava/lang/Object;" } : Jvm.MethodName)) ∈ lw_all := lw_g (lw_at lw_m3 214 rfl) rfl
theorem q751 : (Jvm.Cond.privateMethod ({ cls := "java/util/ArrayList", name := "grow", desc := "()[Ljava/lang/Object;" } : Jvm.MethodName)) ∈ lw_tbl := lw_at lw_m3 215 rfl
theorem q752 : (Jvm.Cond.instanceMethod ({ cls := "java/util/ArrayList", name := "grow", desc := "()[Ljava/lang/Object;" } : Jvm.MethodName)) ∈ lw_all := lw_g (lw_at lw_m3 216 rfl) rfl
theorem q753 : (Jvm.Cond.code ({ cls := "java/util/ArrayList", name := "grow", desc := "()[Ljava/lang/Object;" } : Jvm.MethodName) prog_43_method_7_code (1 : Nat) (Option.some (Jvm.ClassFile.FieldType.array (Jvm.ClassFile.FieldType.object "java/lang/Object")))) ∈ lw_all := lw_g (lw_at lw_m3 217 rfl) rfl
theorem q754 : (Jvm.Cond.methodLink "java/util/ArrayList" (69 : Nat) ({ cls := "java/util/ArrayList", name := "grow", desc := "(I)[Ljava/lang/Object;" } : Jvm.MethodName)) ∈ lw_all := lw_g (lw_at lw_m3 218 rfl) rfl
theorem q755 : (Jvm.Cond.privateMethod ({ cls := "java/util/ArrayList", name := "grow", desc := "(I)[Ljava/lang/Object;" } : Jvm.MethodName)) ∈ lw_tbl := lw_at lw_m3 219 rfl
theorem q756 : (Jvm.Cond.instanceMethod ({ cls := "java/util/ArrayList", name := "grow", desc := "(I)[Ljava/lang/Object;" } : Jvm.MethodName)) ∈ lw_all := lw_g (lw_at lw_m3 220 rfl) rfl
theorem q757 : (Jvm.Cond.code ({ cls := "java/util/ArrayList", name := "grow", desc := "(I)[Ljava/lang/Object;" } : Jvm.MethodName) prog_43_method_6_code (4 : Nat) (Option.some (Jvm.ClassFile.FieldType.array (Jvm.ClassFile.FieldType.object "java/lang/Object")))) ∈ lw_all := lw_g (lw_at lw_m3 221 rfl) rfl
theorem q758 : (Jvm.Cond.methodLink "java/util/ArrayList" (73 : Nat) ({ cls := "jdk/internal/util/ArraysSupport", name := "newLength", desc := "(III)I" } : Jvm.MethodName)) ∈ lw_all := lw_g (lw_at lw_m3 222 rfl) rfl
theorem q759 : (Jvm.Cond.methodLink "java/util/ArrayList" (66 : Nat) ({ cls := "java/util/Arrays", name := "copyOf", desc := "([Ljava/lang/Object;I)[Ljava/lang/Object;" } : Jvm.MethodName)) ∈ lw_all := lw_g (lw_at lw_m3 223 rfl) rfl
theorem q785 : (Jvm.Cond.selects "java/util/ArrayList" ({ cls := "java/lang/Object", name := "getClass", desc := "()Ljava/lang/Class;" } : Jvm.MethodName) ({ cls := "java/lang/Object", name := "getClass", desc := "()Ljava/lang/Class;" } : Jvm.MethodName)) ∈ lw_all := lw_g (lw_at lw_m4 9 rfl) rfl
theorem q793 : (Jvm.Cond.methodLink "java/util/ArrayList" (79 : Nat) ({ cls := "java/lang/Math", name := "max", desc := "(II)I" } : Jvm.MethodName)) ∈ lw_all := lw_g (lw_at lw_m4 17 rfl) rfl
theorem q794 : (Jvm.Cond.classLink "java/util/ArrayList" (7 : Nat) "java/lang/Object") ∈ lw_all := lw_g (lw_at lw_m4 18 rfl) rfl
theorem q800 : (Jvm.Cond.selects "java/util/ArrayList" ({ cls := "java/util/List", name := "get", desc := "(I)Ljava/lang/Object;" } : Jvm.MethodName) ({ cls := "java/util/ArrayList", name := "get", desc := "(I)Ljava/lang/Object;" } : Jvm.MethodName)) ∈ lw_all := lw_g (lw_at lw_m4 24 rfl) rfl
theorem q801 : (Jvm.Cond.unhidden "java/util/ArrayList" "get" "(I)Ljava/lang/Object;") ∈ lw_tbl := lw_at lw_m4 25 rfl
theorem q802 : (Jvm.Cond.instanceMethod ({ cls := "java/util/ArrayList", name := "get", desc := "(I)Ljava/lang/Object;" } : Jvm.MethodName)) ∈ lw_all := lw_g (lw_at lw_m4 26 rfl) rfl
theorem q803 : (Jvm.Cond.publicMethod ({ cls := "java/util/ArrayList", name := "get", desc := "(I)Ljava/lang/Object;" } : Jvm.MethodName)) ∈ lw_tbl := lw_at lw_m4 27 rfl
theorem q804 : (Jvm.Cond.code ({ cls := "java/util/ArrayList", name := "get", desc := "(I)Ljava/lang/Object;" } : Jvm.MethodName) prog_43_method_20_code (2 : Nat) (Option.some (Jvm.ClassFile.FieldType.object "java/lang/Object"))) ∈ lw_all := lw_g (lw_at lw_m4 28 rfl) rfl
theorem q805 : (Jvm.Cond.methodLink "java/util/ArrayList" (118 : Nat) ({ cls := "java/util/Objects", name := "checkIndex", desc := "(II)I" } : Jvm.MethodName)) ∈ lw_all := lw_g (lw_at lw_m4 29 rfl) rfl
theorem q809 : (Jvm.Cond.methodLink "java/util/ArrayList" (123 : Nat) ({ cls := "java/util/ArrayList", name := "elementData", desc := "(I)Ljava/lang/Object;" } : Jvm.MethodName)) ∈ lw_all := lw_g (lw_at lw_m4 33 rfl) rfl
theorem q810 : (Jvm.Cond.instanceMethod ({ cls := "java/util/ArrayList", name := "elementData", desc := "(I)Ljava/lang/Object;" } : Jvm.MethodName)) ∈ lw_all := lw_g (lw_at lw_m4 34 rfl) rfl
theorem q811 : (Jvm.Cond.selects "java/util/ArrayList" ({ cls := "java/util/ArrayList", name := "elementData", desc := "(I)Ljava/lang/Object;" } : Jvm.MethodName) ({ cls := "java/util/ArrayList", name := "elementData", desc := "(I)Ljava/lang/Object;" } : Jvm.MethodName)) ∈ lw_all := lw_g (lw_at lw_m4 35 rfl) rfl
theorem q812 : (Jvm.Cond.code ({ cls := "java/util/ArrayList", name := "elementData", desc := "(I)Ljava/lang/Object;" } : Jvm.MethodName) prog_43_method_18_code (2 : Nat) (Option.some (Jvm.ClassFile.FieldType.object "java/lang/Object"))) ∈ lw_all := lw_g (lw_at lw_m4 36 rfl) rfl
theorem q912 : (Jvm.Cond.selects "java/util/ArrayList" ({ cls := "java/util/List", name := "add", desc := "(ILjava/lang/Object;)V" } : Jvm.MethodName) ({ cls := "java/util/ArrayList", name := "add", desc := "(ILjava/lang/Object;)V" } : Jvm.MethodName)) ∈ lw_all := lw_g (lw_at lw_m4 136 rfl) rfl
theorem q913 : (Jvm.Cond.unhidden "java/util/ArrayList" "add" "(ILjava/lang/Object;)V") ∈ lw_tbl := lw_at lw_m4 137 rfl
theorem q914 : (Jvm.Cond.instanceMethod ({ cls := "java/util/ArrayList", name := "add", desc := "(ILjava/lang/Object;)V" } : Jvm.MethodName)) ∈ lw_all := lw_g (lw_at lw_m4 138 rfl) rfl
theorem q915 : (Jvm.Cond.publicMethod ({ cls := "java/util/ArrayList", name := "add", desc := "(ILjava/lang/Object;)V" } : Jvm.MethodName)) ∈ lw_tbl := lw_at lw_m4 139 rfl
theorem q916 : (Jvm.Cond.code ({ cls := "java/util/ArrayList", name := "add", desc := "(ILjava/lang/Object;)V" } : Jvm.MethodName) prog_43_method_26_code (5 : Nat) (Option.none : Option Jvm.ClassFile.FieldType)) ∈ lw_all := lw_g (lw_at lw_m4 140 rfl) rfl
theorem q917 : (Jvm.Cond.methodLink "java/util/ArrayList" (135 : Nat) ({ cls := "java/util/ArrayList", name := "rangeCheckForAdd", desc := "(I)V" } : Jvm.MethodName)) ∈ lw_all := lw_g (lw_at lw_m4 141 rfl) rfl
theorem q918 : (Jvm.Cond.privateMethod ({ cls := "java/util/ArrayList", name := "rangeCheckForAdd", desc := "(I)V" } : Jvm.MethodName)) ∈ lw_tbl := lw_at lw_m4 142 rfl
theorem q919 : (Jvm.Cond.instanceMethod ({ cls := "java/util/ArrayList", name := "rangeCheckForAdd", desc := "(I)V" } : Jvm.MethodName)) ∈ lw_all := lw_g (lw_at lw_m4 143 rfl) rfl
theorem q920 : (Jvm.Cond.code ({ cls := "java/util/ArrayList", name := "rangeCheckForAdd", desc := "(I)V" } : Jvm.MethodName) prog_43_method_45_code (2 : Nat) (Option.none : Option Jvm.ClassFile.FieldType)) ∈ lw_all := lw_g (lw_at lw_m4 144 rfl) rfl
theorem q921 : (Jvm.Cond.classLink "java/util/ArrayList" (187 : Nat) "java/lang/IndexOutOfBoundsException") ∈ lw_all := lw_g (lw_at lw_m4 145 rfl) rfl
theorem q930 : (Jvm.Cond.methodLink "java/util/ArrayList" (198 : Nat) ({ cls := "java/util/ArrayList", name := "outOfBoundsMsg", desc := "(I)Ljava/lang/String;" } : Jvm.MethodName)) ∈ lw_all := lw_g (lw_at lw_m4 154 rfl) rfl
theorem q931 : (Jvm.Cond.privateMethod ({ cls := "java/util/ArrayList", name := "outOfBoundsMsg", desc := "(I)Ljava/lang/String;" } : Jvm.MethodName)) ∈ lw_tbl := lw_at lw_m4 155 rfl
theorem q932 : (Jvm.Cond.instanceMethod ({ cls := "java/util/ArrayList", name := "outOfBoundsMsg", desc := "(I)Ljava/lang/String;" } : Jvm.MethodName)) ∈ lw_all := lw_g (lw_at lw_m4 156 rfl) rfl
theorem q933 : (Jvm.Cond.code ({ cls := "java/util/ArrayList", name := "outOfBoundsMsg", desc := "(I)Ljava/lang/String;" } : Jvm.MethodName) prog_43_method_46_code (2 : Nat) (Option.some (Jvm.ClassFile.FieldType.object "java/lang/String"))) ∈ lw_all := lw_g (lw_at lw_m4 157 rfl) rfl
theorem q934 : (Jvm.Cond.classLink "java/util/ArrayList" (20 : Nat) "java/lang/StringBuilder") ∈ lw_all := lw_g (lw_at lw_m4 158 rfl) rfl
theorem q935 : (Jvm.Cond.methodLink "java/util/ArrayList" (22 : Nat) ({ cls := "java/lang/StringBuilder", name := "<init>", desc := "()V" } : Jvm.MethodName)) ∈ lw_all := lw_g (lw_at lw_m4 159 rfl) rfl
theorem q936 : (Jvm.Cond.stringRef "java/util/ArrayList" (201 : Nat) "Index: ") ∈ lw_tbl := lw_at lw_m4 160 rfl
theorem q937 : (Jvm.Cond.methodLink "java/util/ArrayList" (25 : Nat) ({ cls := "java/lang/StringBuilder", name := "append", desc := "(Ljava/lang/String;)Ljava/lang/StringBuilder;" } : Jvm.MethodName)) ∈ lw_all := lw_g (lw_at lw_m4 161 rfl) rfl
theorem q983 : (Jvm.Cond.methodLink "java/util/ArrayList" (29 : Nat) ({ cls := "java/lang/StringBuilder", name := "append", desc := "(I)Ljava/lang/StringBuilder;" } : Jvm.MethodName)) ∈ lw_all := lw_g (lw_at lw_m4 207 rfl) rfl
theorem q1008 : (Jvm.Cond.stringRef "java/util/ArrayList" (203 : Nat) ", Size: ") ∈ lw_tbl := lw_at lw_m4 232 rfl
theorem q1009 : (Jvm.Cond.methodLink "java/util/ArrayList" (32 : Nat) ({ cls := "java/lang/StringBuilder", name := "toString", desc := "()Ljava/lang/String;" } : Jvm.MethodName)) ∈ lw_all := lw_g (lw_at lw_m4 233 rfl) rfl
theorem q1010 : (Jvm.Cond.methodLink "java/util/ArrayList" (193 : Nat) ({ cls := "java/lang/IndexOutOfBoundsException", name := "<init>", desc := "(Ljava/lang/String;)V" } : Jvm.MethodName)) ∈ lw_all := lw_g (lw_at lw_m4 234 rfl) rfl
theorem q1013 : (Jvm.Cond.methodLink "java/util/ArrayList" (112 : Nat) ({ cls := "java/lang/System", name := "arraycopy", desc := "(Ljava/lang/Object;ILjava/lang/Object;II)V" } : Jvm.MethodName)) ∈ lw_all := lw_g (lw_at lw_m4 237 rfl) rfl
theorem q1982 : (Jvm.Cond.castable "java/util/ArrayList" "java/lang/Object") ∈ lw_tbl := lw_at lw_m9 6 rfl
theorem in_J2 : ∀ w ∈ wsJ20, w ∈ lw_all := lw_in wsJ20 [127, 123, 125] (by decide +kernel) (by decide +kernel)

/-! java/lang/Throwable -/
set_option maxRecDepth 100000
def RJ3 : String := "java/lang/Throwable"
def TJ3 : u_T := fun k => match k with
  | 0 => ("java/lang/Throwable", "cause", "Ljava/lang/Throwable;", false)
  | 1 => ("java/lang/Throwable", "stackTrace", "[Ljava/lang/StackTraceElement;", false)
  | 2 => ("java/lang/Throwable", "suppressedExceptions", "Ljava/util/List;", false)
  | 3 => ("java/lang/Throwable", "detailMessage", "Ljava/lang/String;", false)
  | _ => ("java/lang/Throwable", "backtrace", "Ljava/lang/Object;", false)
def tyJ3 : Nat → FieldType := fun k => match k with
  | 0 => .object "java/lang/Throwable"
  | 1 => .array (.object "java/lang/StackTraceElement")
  | 2 => .object "java/util/List"
  | 3 => .object "java/lang/String"
  | _ => .object "java/lang/Object"
abbrev wsJ30 : List Cond := u_ws RJ3 TJ3 5
theorem nmJ3 : ∀ a, a < 5 → ∀ b, b < 5 → a ≠ b → (TJ3 a).2.1 ≠ (TJ3 b).2.1 := by decide +kernel
theorem tyJ3_ok : ∀ k, k < 5 → parseFieldDescriptor (TJ3 k).2.2.1 = some (tyJ3 k) := by decide +kernel
abbrev cJ3_init : ByteArray := prog_38_method_1_code
def yJ3_init : MethodName := ⟨RJ3, "<init>", "()V"⟩
def dkwJ3_init_1 : List UInt8 := [182, 0, 27, 87, 177]
abbrev dktJ3_init_1 : List UInt8 := dkwJ3_init_1 ++ []
def dkwJ3_init_0 : List UInt8 := [42, 183, 0, 1, 42, 42, 181, 0, 7, 42, 178, 0, 13, 181, 0, 17, 42, 178, 0, 20, 181, 0, 24, 42]
abbrev dktJ3_init_0 : List UInt8 := dkwJ3_init_0 ++ dktJ3_init_1
theorem dksJ3_init_0 : cJ3_init.data.toList.drop 0 = dktJ3_init_0 := by decide +kernel
theorem dksJ3_init_1 : cJ3_init.data.toList.drop 24 = dktJ3_init_1 := dk_seg dksJ3_init_0 24 rfl rfl
theorem dJ3_init_0 : decode cJ3_init 0 = .ok (.aload_n 0, 1) := dk_42 (dk_at dksJ3_init_0 0 rfl rfl)
theorem dJ3_init_1 : decode cJ3_init 1 = .ok (.invokespecial 1, 3) := dk_183 0 1 (dk_at dksJ3_init_0 1 rfl rfl)
theorem dJ3_init_4 : decode cJ3_init 4 = .ok (.aload_n 0, 1) := dk_42 (dk_at dksJ3_init_0 4 rfl rfl)
theorem dJ3_init_5 : decode cJ3_init 5 = .ok (.aload_n 0, 1) := dk_42 (dk_at dksJ3_init_0 5 rfl rfl)
theorem dJ3_init_6 : decode cJ3_init 6 = .ok (.putfield 7, 3) := dk_181 0 7 (dk_at dksJ3_init_0 6 rfl rfl)
theorem dJ3_init_9 : decode cJ3_init 9 = .ok (.aload_n 0, 1) := dk_42 (dk_at dksJ3_init_0 9 rfl rfl)
theorem dJ3_init_10 : decode cJ3_init 10 = .ok (.getstatic 13, 3) := dk_178 0 13 (dk_at dksJ3_init_0 10 rfl rfl)
theorem dJ3_init_13 : decode cJ3_init 13 = .ok (.putfield 17, 3) := dk_181 0 17 (dk_at dksJ3_init_0 13 rfl rfl)
theorem dJ3_init_16 : decode cJ3_init 16 = .ok (.aload_n 0, 1) := dk_42 (dk_at dksJ3_init_0 16 rfl rfl)
theorem dJ3_init_17 : decode cJ3_init 17 = .ok (.getstatic 20, 3) := dk_178 0 20 (dk_at dksJ3_init_0 17 rfl rfl)
theorem dJ3_init_20 : decode cJ3_init 20 = .ok (.putfield 24, 3) := dk_181 0 24 (dk_at dksJ3_init_0 20 rfl rfl)
theorem dJ3_init_23 : decode cJ3_init 23 = .ok (.aload_n 0, 1) := dk_42 (dk_at dksJ3_init_0 23 rfl rfl)
theorem dJ3_init_24 : decode cJ3_init 24 = .ok (.invokevirtual 27, 3) := dk_182 0 27 (dk_at dksJ3_init_1 0 rfl rfl)
theorem dJ3_init_27 : decode cJ3_init 27 = .ok (.pop, 1) := dk_87 (dk_at dksJ3_init_1 3 rfl rfl)
theorem dJ3_init_28 : decode cJ3_init 28 = .ok (.return_, 1) := dk_177 (dk_at dksJ3_init_1 4 rfl rfl)
abbrev cJ3_init_2 : ByteArray := prog_38_method_5_code
def yJ3_init_2 : MethodName := ⟨RJ3, "<init>", "(Ljava/lang/String;Ljava/lang/Throwable;ZZ)V"⟩
def dkwJ3_init_2_2 : List UInt8 := [44, 181, 0, 7, 29, 154, 0, 8, 42, 1, 181, 0, 24, 177]
abbrev dktJ3_init_2_2 : List UInt8 := dkwJ3_init_2_2 ++ []
def dkwJ3_init_2_1 : List UInt8 := [21, 4, 153, 0, 11, 42, 182, 0, 27, 87, 167, 0, 8, 42, 1, 181, 0, 17, 42, 43, 181, 0, 31, 42]
abbrev dktJ3_init_2_1 : List UInt8 := dkwJ3_init_2_1 ++ dktJ3_init_2_2
def dkwJ3_init_2_0 : List UInt8 := [42, 183, 0, 1, 42, 42, 181, 0, 7, 42, 178, 0, 13, 181, 0, 17, 42, 178, 0, 20, 181, 0, 24]
abbrev dktJ3_init_2_0 : List UInt8 := dkwJ3_init_2_0 ++ dktJ3_init_2_1
theorem dksJ3_init_2_0 : cJ3_init_2.data.toList.drop 0 = dktJ3_init_2_0 := by decide +kernel
theorem dksJ3_init_2_1 : cJ3_init_2.data.toList.drop 23 = dktJ3_init_2_1 := dk_seg dksJ3_init_2_0 23 rfl rfl
theorem dksJ3_init_2_2 : cJ3_init_2.data.toList.drop 47 = dktJ3_init_2_2 := dk_seg dksJ3_init_2_1 24 rfl rfl
theorem dJ3_init_2_0 : decode cJ3_init_2 0 = .ok (.aload_n 0, 1) := dk_42 (dk_at dksJ3_init_2_0 0 rfl rfl)
theorem dJ3_init_2_1 : decode cJ3_init_2 1 = .ok (.invokespecial 1, 3) := dk_183 0 1 (dk_at dksJ3_init_2_0 1 rfl rfl)
theorem dJ3_init_2_4 : decode cJ3_init_2 4 = .ok (.aload_n 0, 1) := dk_42 (dk_at dksJ3_init_2_0 4 rfl rfl)
theorem dJ3_init_2_5 : decode cJ3_init_2 5 = .ok (.aload_n 0, 1) := dk_42 (dk_at dksJ3_init_2_0 5 rfl rfl)
theorem dJ3_init_2_6 : decode cJ3_init_2 6 = .ok (.putfield 7, 3) := dk_181 0 7 (dk_at dksJ3_init_2_0 6 rfl rfl)
theorem dJ3_init_2_9 : decode cJ3_init_2 9 = .ok (.aload_n 0, 1) := dk_42 (dk_at dksJ3_init_2_0 9 rfl rfl)
theorem dJ3_init_2_10 : decode cJ3_init_2 10 = .ok (.getstatic 13, 3) := dk_178 0 13 (dk_at dksJ3_init_2_0 10 rfl rfl)
theorem dJ3_init_2_13 : decode cJ3_init_2 13 = .ok (.putfield 17, 3) := dk_181 0 17 (dk_at dksJ3_init_2_0 13 rfl rfl)
theorem dJ3_init_2_16 : decode cJ3_init_2 16 = .ok (.aload_n 0, 1) := dk_42 (dk_at dksJ3_init_2_0 16 rfl rfl)
theorem dJ3_init_2_17 : decode cJ3_init_2 17 = .ok (.getstatic 20, 3) := dk_178 0 20 (dk_at dksJ3_init_2_0 17 rfl rfl)
theorem dJ3_init_2_20 : decode cJ3_init_2 20 = .ok (.putfield 24, 3) := dk_181 0 24 (dk_at dksJ3_init_2_0 20 rfl rfl)
theorem dJ3_init_2_23 : decode cJ3_init_2 23 = .ok (.iload 4, 2) := dk_21 4 (dk_at dksJ3_init_2_1 0 rfl rfl)
theorem dJ3_init_2_25 : decode cJ3_init_2 25 = .ok (.ifCond .eq 11, 3) := dk_153 0 11 (dk_at dksJ3_init_2_1 2 rfl rfl)
theorem dJ3_init_2_28 : decode cJ3_init_2 28 = .ok (.aload_n 0, 1) := dk_42 (dk_at dksJ3_init_2_1 5 rfl rfl)
theorem dJ3_init_2_29 : decode cJ3_init_2 29 = .ok (.invokevirtual 27, 3) := dk_182 0 27 (dk_at dksJ3_init_2_1 6 rfl rfl)
theorem dJ3_init_2_32 : decode cJ3_init_2 32 = .ok (.pop, 1) := dk_87 (dk_at dksJ3_init_2_1 9 rfl rfl)
theorem dJ3_init_2_33 : decode cJ3_init_2 33 = .ok (.goto 8, 3) := dk_167 0 8 (dk_at dksJ3_init_2_1 10 rfl rfl)
theorem dJ3_init_2_36 : decode cJ3_init_2 36 = .ok (.aload_n 0, 1) := dk_42 (dk_at dksJ3_init_2_1 13 rfl rfl)
theorem dJ3_init_2_37 : decode cJ3_init_2 37 = .ok (.aconst_null, 1) := dk_1 (dk_at dksJ3_init_2_1 14 rfl rfl)
theorem dJ3_init_2_38 : decode cJ3_init_2 38 = .ok (.putfield 17, 3) := dk_181 0 17 (dk_at dksJ3_init_2_1 15 rfl rfl)
theorem dJ3_init_2_41 : decode cJ3_init_2 41 = .ok (.aload_n 0, 1) := dk_42 (dk_at dksJ3_init_2_1 18 rfl rfl)
theorem dJ3_init_2_42 : decode cJ3_init_2 42 = .ok (.aload_n 1, 1) := dk_43 (dk_at dksJ3_init_2_1 19 rfl rfl)
theorem dJ3_init_2_43 : decode cJ3_init_2 43 = .ok (.putfield 31, 3) := dk_181 0 31 (dk_at dksJ3_init_2_1 20 rfl rfl)
theorem dJ3_init_2_46 : decode cJ3_init_2 46 = .ok (.aload_n 0, 1) := dk_42 (dk_at dksJ3_init_2_1 23 rfl rfl)
theorem dJ3_init_2_47 : decode cJ3_init_2 47 = .ok (.aload_n 2, 1) := dk_44 (dk_at dksJ3_init_2_2 0 rfl rfl)
theorem dJ3_init_2_48 : decode cJ3_init_2 48 = .ok (.putfield 7, 3) := dk_181 0 7 (dk_at dksJ3_init_2_2 1 rfl rfl)
theorem dJ3_init_2_51 : decode cJ3_init_2 51 = .ok (.iload_n 3, 1) := dk_29 (dk_at dksJ3_init_2_2 4 rfl rfl)
theorem dJ3_init_2_52 : decode cJ3_init_2 52 = .ok (.ifCond .ne 8, 3) := dk_154 0 8 (dk_at dksJ3_init_2_2 5 rfl rfl)
theorem dJ3_init_2_55 : decode cJ3_init_2 55 = .ok (.aload_n 0, 1) := dk_42 (dk_at dksJ3_init_2_2 8 rfl rfl)
theorem dJ3_init_2_56 : decode cJ3_init_2 56 = .ok (.aconst_null, 1) := dk_1 (dk_at dksJ3_init_2_2 9 rfl rfl)
theorem dJ3_init_2_57 : decode cJ3_init_2 57 = .ok (.putfield 24, 3) := dk_181 0 24 (dk_at dksJ3_init_2_2 10 rfl rfl)
theorem dJ3_init_2_60 : decode cJ3_init_2 60 = .ok (.return_, 1) := dk_177 (dk_at dksJ3_init_2_2 13 rfl rfl)
abbrev cJ3_init_3 : ByteArray := prog_38_method_2_code
def yJ3_init_3 : MethodName := ⟨RJ3, "<init>", "(Ljava/lang/String;)V"⟩
def dkwJ3_init_3_1 : List UInt8 := [182, 0, 27, 87, 42, 43, 181, 0, 31, 177]
abbrev dktJ3_init_3_1 : List UInt8 := dkwJ3_init_3_1 ++ []
def dkwJ3_init_3_0 : List UInt8 := [42, 183, 0, 1, 42, 42, 181, 0, 7, 42, 178, 0, 13, 181, 0, 17, 42, 178, 0, 20, 181, 0, 24, 42]
abbrev dktJ3_init_3_0 : List UInt8 := dkwJ3_init_3_0 ++ dktJ3_init_3_1
theorem dksJ3_init_3_0 : cJ3_init_3.data.toList.drop 0 = dktJ3_init_3_0 := by decide +kernel
theorem dksJ3_init_3_1 : cJ3_init_3.data.toList.drop 24 = dktJ3_init_3_1 := dk_seg dksJ3_init_3_0 24 rfl rfl
theorem dJ3_init_3_0 : decode cJ3_init_3 0 = .ok (.aload_n 0, 1) := dk_42 (dk_at dksJ3_init_3_0 0 rfl rfl)
theorem dJ3_init_3_1 : decode cJ3_init_3 1 = .ok (.invokespecial 1, 3) := dk_183 0 1 (dk_at dksJ3_init_3_0 1 rfl rfl)
theorem dJ3_init_3_4 : decode cJ3_init_3 4 = .ok (.aload_n 0, 1) := dk_42 (dk_at dksJ3_init_3_0 4 rfl rfl)
theorem dJ3_init_3_5 : decode cJ3_init_3 5 = .ok (.aload_n 0, 1) := dk_42 (dk_at dksJ3_init_3_0 5 rfl rfl)
theorem dJ3_init_3_6 : decode cJ3_init_3 6 = .ok (.putfield 7, 3) := dk_181 0 7 (dk_at dksJ3_init_3_0 6 rfl rfl)
theorem dJ3_init_3_9 : decode cJ3_init_3 9 = .ok (.aload_n 0, 1) := dk_42 (dk_at dksJ3_init_3_0 9 rfl rfl)
theorem dJ3_init_3_10 : decode cJ3_init_3 10 = .ok (.getstatic 13, 3) := dk_178 0 13 (dk_at dksJ3_init_3_0 10 rfl rfl)
theorem dJ3_init_3_13 : decode cJ3_init_3 13 = .ok (.putfield 17, 3) := dk_181 0 17 (dk_at dksJ3_init_3_0 13 rfl rfl)
theorem dJ3_init_3_16 : decode cJ3_init_3 16 = .ok (.aload_n 0, 1) := dk_42 (dk_at dksJ3_init_3_0 16 rfl rfl)
theorem dJ3_init_3_17 : decode cJ3_init_3 17 = .ok (.getstatic 20, 3) := dk_178 0 20 (dk_at dksJ3_init_3_0 17 rfl rfl)
theorem dJ3_init_3_20 : decode cJ3_init_3 20 = .ok (.putfield 24, 3) := dk_181 0 24 (dk_at dksJ3_init_3_0 20 rfl rfl)
theorem dJ3_init_3_23 : decode cJ3_init_3 23 = .ok (.aload_n 0, 1) := dk_42 (dk_at dksJ3_init_3_0 23 rfl rfl)
theorem dJ3_init_3_24 : decode cJ3_init_3 24 = .ok (.invokevirtual 27, 3) := dk_182 0 27 (dk_at dksJ3_init_3_1 0 rfl rfl)
theorem dJ3_init_3_27 : decode cJ3_init_3 27 = .ok (.pop, 1) := dk_87 (dk_at dksJ3_init_3_1 3 rfl rfl)
theorem dJ3_init_3_28 : decode cJ3_init_3 28 = .ok (.aload_n 0, 1) := dk_42 (dk_at dksJ3_init_3_1 4 rfl rfl)
theorem dJ3_init_3_29 : decode cJ3_init_3 29 = .ok (.aload_n 1, 1) := dk_43 (dk_at dksJ3_init_3_1 5 rfl rfl)
theorem dJ3_init_3_30 : decode cJ3_init_3 30 = .ok (.putfield 31, 3) := dk_181 0 31 (dk_at dksJ3_init_3_1 6 rfl rfl)
theorem dJ3_init_3_33 : decode cJ3_init_3 33 = .ok (.return_, 1) := dk_177 (dk_at dksJ3_init_3_1 9 rfl rfl)
theorem q63 : (Jvm.Cond.initialized "java/lang/Throwable") ∈ lw_all := lw_g (lw_at lw_m1 7 rfl) rfl
theorem q242 : (Jvm.Cond.declares ({ cls := "java/lang/Throwable", name := "<init>", desc := "()V" } : Jvm.MethodName)) ∈ lw_tbl := lw_at lw_m1 186 rfl
theorem q243 : (Jvm.Cond.declares ({ cls := "java/lang/Throwable", name := "<init>", desc := "(Ljava/lang/String;)V" } : Jvm.MethodName)) ∈ lw_tbl := lw_at lw_m1 187 rfl
theorem q247 : (Jvm.Cond.lays "java/lang/Throwable" "java/lang/Throwable" "cause" "Ljava/lang/Throwable;") ∈ lw_all := lw_g (lw_at lw_m1 191 rfl) rfl
theorem q249 : (Jvm.Cond.lays "java/lang/Throwable" "java/lang/Throwable" "stackTrace" "[Ljava/lang/StackTraceElement;") ∈ lw_all := lw_g (lw_at lw_m1 193 rfl) rfl
theorem q251 : (Jvm.Cond.lays "java/lang/Throwable" "java/lang/Throwable" "suppressedExceptions" "Ljava/util/List;") ∈ lw_all := lw_g (lw_at lw_m1 195 rfl) rfl
theorem q253 : (Jvm.Cond.lays "java/lang/Throwable" "java/lang/Throwable" "detailMessage" "Ljava/lang/String;") ∈ lw_all := lw_g (lw_at lw_m1 197 rfl) rfl
theorem q255 : (Jvm.Cond.lays "java/lang/Throwable" "java/lang/Throwable" "backtrace" "Ljava/lang/Object;") ∈ lw_all := lw_g (lw_at lw_m1 199 rfl) rfl
theorem q256 : (Jvm.Cond.fieldLink "java/lang/Throwable" (198 : Nat) "java/lang/Throwable" "backtrace" "Ljava/lang/Object;") ∈ lw_all := lw_g (lw_at lw_m1 200 rfl) rfl
theorem q257 : (Jvm.Cond.superclass "java/lang/Throwable" "java/lang/Object") ∈ lw_all := lw_g (lw_at lw_m1 201 rfl) rfl
theorem q258 : (Jvm.Cond.instanceMethod ({ cls := "java/lang/Throwable", name := "<init>", desc := "()V" } : Jvm.MethodName)) ∈ lw_all := lw_g (lw_at lw_m1 202 rfl) rfl
theorem q259 : (Jvm.Cond.code ({ cls := "java/lang/Throwable", name := "<init>", desc := "()V" } : Jvm.MethodName) prog_38_method_1_code (1 : Nat) (Option.none : Option Jvm.ClassFile.FieldType)) ∈ lw_all := lw_g (lw_at lw_m1 203 rfl) rfl
theorem q260 : (Jvm.Cond.methodLink "java/lang/Throwable" (1 : Nat) ({ cls := "java/lang/Object", name := "<init>", desc := "()V" } : Jvm.MethodName)) ∈ lw_all := lw_g (lw_at lw_m1 204 rfl) rfl
theorem q261 : (Jvm.Cond.fieldLink "java/lang/Throwable" (13 : Nat) "java/lang/Throwable" "UNASSIGNED_STACK" "[Ljava/lang/StackTraceElement;") ∈ lw_all := lw_g (lw_at lw_m1 205 rfl) rfl
theorem q262 : (Jvm.Cond.laysStatic "java/lang/Throwable" "UNASSIGNED_STACK" "[Ljava/lang/StackTraceElement;") ∈ lw_tbl := lw_at lw_m1 206 rfl
theorem q263 : (Jvm.Cond.fieldLink "java/lang/Throwable" (20 : Nat) "java/lang/Throwable" "SUPPRESSED_SENTINEL" "Ljava/util/List;") ∈ lw_all := lw_g (lw_at lw_m1 207 rfl) rfl
theorem q264 : (Jvm.Cond.laysStatic "java/lang/Throwable" "SUPPRESSED_SENTINEL" "Ljava/util/List;") ∈ lw_tbl := lw_at lw_m1 208 rfl
theorem q265 : (Jvm.Cond.methodLink "java/lang/Throwable" (27 : Nat) ({ cls := "java/lang/Throwable", name := "fillInStackTrace", desc := "()Ljava/lang/Throwable;" } : Jvm.MethodName)) ∈ lw_all := lw_g (lw_at lw_m1 209 rfl) rfl
theorem q266 : (Jvm.Cond.instanceMethod ({ cls := "java/lang/Throwable", name := "fillInStackTrace", desc := "()Ljava/lang/Throwable;" } : Jvm.MethodName)) ∈ lw_all := lw_g (lw_at lw_m1 210 rfl) rfl
theorem q267 : (Jvm.Cond.sameMethod "java/lang/Throwable" "java/lang/Throwable" "fillInStackTrace" "()Ljava/lang/Throwable;") ∈ lw_all := lw_g (lw_at lw_m1 211 rfl) rfl
theorem q272 : (Jvm.Cond.codeSync ({ cls := "java/lang/Throwable", name := "fillInStackTrace", desc := "()Ljava/lang/Throwable;" } : Jvm.MethodName) prog_38_method_18_code (1 : Nat) (Option.some (Jvm.ClassFile.FieldType.object "java/lang/Throwable"))) ∈ lw_all := lw_g (lw_at lw_m1 216 rfl) rfl
theorem q273 : (Jvm.Cond.methodLink "java/lang/Throwable" (202 : Nat) ({ cls := "java/lang/Throwable", name := "fillInStackTrace", desc := "(I)Ljava/lang/Throwable;" } : Jvm.MethodName)) ∈ lw_all := lw_g (lw_at lw_m1 217 rfl) rfl
theorem q274 : (Jvm.Cond.privateMethod ({ cls := "java/lang/Throwable", name := "fillInStackTrace", desc := "(I)Ljava/lang/Throwable;" } : Jvm.MethodName)) ∈ lw_tbl := lw_at lw_m1 218 rfl
theorem q275 : (Jvm.Cond.instanceMethod ({ cls := "java/lang/Throwable", name := "fillInStackTrace", desc := "(I)Ljava/lang/Throwable;" } : Jvm.MethodName)) ∈ lw_all := lw_g (lw_at lw_m1 219 rfl) rfl
theorem q276 : (Jvm.Cond.instantiable "java/lang/Throwable" (6 : Nat)) ∈ lw_all := lw_g (lw_at lw_m1 220 rfl) rfl
theorem q277 : (Jvm.Cond.native ({ cls := "java/lang/Throwable", name := "fillInStackTrace", desc := "(I)Ljava/lang/Throwable;" } : Jvm.MethodName)) ∈ lw_all := lw_g (lw_at lw_m1 221 rfl) rfl
theorem q285 : (Jvm.Cond.instanceMethod ({ cls := "java/lang/Throwable", name := "<init>", desc := "(Ljava/lang/String;Ljava/lang/Throwable;ZZ)V" } : Jvm.MethodName)) ∈ lw_all := lw_g (lw_at lw_m1 229 rfl) rfl
theorem q286 : (Jvm.Cond.code ({ cls := "java/lang/Throwable", name := "<init>", desc := "(Ljava/lang/String;Ljava/lang/Throwable;ZZ)V" } : Jvm.MethodName) prog_38_method_5_code (5 : Nat) (Option.none : Option Jvm.ClassFile.FieldType)) ∈ lw_all := lw_g (lw_at lw_m1 230 rfl) rfl
theorem q289 : (Jvm.Cond.fieldLink "java/lang/Throwable" (198 : Nat) "java/lang/Throwable" "backtrace" "Ljava/lang/Object;") ∈ lw_all := lw_g (lw_at lw_m1 233 rfl) rfl
theorem q290 : (Jvm.Cond.fieldLink "java/lang/Throwable" (31 : Nat) "java/lang/Throwable" "detailMessage" "Ljava/lang/String;") ∈ lw_all := lw_g (lw_at lw_m1 234 rfl) rfl
theorem q291 : (Jvm.Cond.fieldLink "java/lang/Throwable" (7 : Nat) "java/lang/Throwable" "cause" "Ljava/lang/Throwable;") ∈ lw_all := lw_g (lw_at lw_m1 235 rfl) rfl
theorem q292 : (Jvm.Cond.fieldLink "java/lang/Throwable" (17 : Nat) "java/lang/Throwable" "stackTrace" "[Ljava/lang/StackTraceElement;") ∈ lw_all := lw_g (lw_at lw_m1 236 rfl) rfl
theorem q293 : (Jvm.Cond.fieldLink "java/lang/Throwable" (24 : Nat) "java/lang/Throwable" "suppressedExceptions" "Ljava/util/List;") ∈ lw_all := lw_g (lw_at lw_m1 237 rfl) rfl
theorem q296 : (Jvm.Cond.soleField "java/lang/Throwable" "backtrace") ∈ lw_all := lw_g (lw_at lw_m2 0 rfl) rfl
theorem q297 : (Jvm.Cond.soleField "java/lang/Throwable" "detailMessage") ∈ lw_all := lw_g (lw_at lw_m2 1 rfl) rfl
theorem q298 : (Jvm.Cond.soleField "java/lang/Throwable" "cause") ∈ lw_all := lw_g (lw_at lw_m2 2 rfl) rfl
theorem q299 : (Jvm.Cond.soleField "java/lang/Throwable" "stackTrace") ∈ lw_all := lw_g (lw_at lw_m2 3 rfl) rfl
theorem q301 : (Jvm.Cond.soleField "java/lang/Throwable" "depth") ∈ lw_all := lw_g (lw_at lw_m2 5 rfl) rfl
theorem q302 : (Jvm.Cond.soleField "java/lang/Throwable" "suppressedExceptions") ∈ lw_all := lw_g (lw_at lw_m2 6 rfl) rfl
theorem q357 : (Jvm.Cond.instanceMethod ({ cls := "java/lang/Throwable", name := "<init>", desc := "(Ljava/lang/String;)V" } : Jvm.MethodName)) ∈ lw_all := lw_g (lw_at lw_m2 61 rfl) rfl
theorem q358 : (Jvm.Cond.code ({ cls := "java/lang/Throwable", name := "<init>", desc := "(Ljava/lang/String;)V" } : Jvm.MethodName) prog_38_method_2_code (2 : Nat) (Option.none : Option Jvm.ClassFile.FieldType)) ∈ lw_all := lw_g (lw_at lw_m2 62 rfl) rfl
theorem q1959 : (Jvm.Cond.sameMethod "java/lang/Throwable" "java/lang/Throwable" "fillInStackTrace" "(I)Ljava/lang/Throwable;") ∈ lw_all := lw_g (lw_at lw_m8 223 rfl) rfl
theorem q2000 : (Jvm.Cond.castable "java/lang/Throwable" "java/lang/Object") ∈ lw_tbl := lw_at lw_m9 24 rfl
theorem in_J3 : ∀ w ∈ wsJ30, w ∈ lw_all := lw_in wsJ30 [247, 249, 251, 253, 255] (by decide +kernel) (by decide +kernel)

/-! java/lang/Exception -/
set_option maxRecDepth 100000
def RJ4 : String := "java/lang/Exception"
abbrev cJ4_init : ByteArray := prog_26_method_5_code
def yJ4_init : MethodName := ⟨RJ4, "<init>", "(Ljava/lang/String;Ljava/lang/Throwable;ZZ)V"⟩
def dkwJ4_init_0 : List UInt8 := [42, 43, 44, 29, 21, 4, 183, 0, 16, 177]
abbrev dktJ4_init_0 : List UInt8 := dkwJ4_init_0 ++ []
theorem dksJ4_init_0 : cJ4_init.data.toList.drop 0 = dktJ4_init_0 := by decide +kernel
theorem dJ4_init_0 : decode cJ4_init 0 = .ok (.aload_n 0, 1) := dk_42 (dk_at dksJ4_init_0 0 rfl rfl)
theorem dJ4_init_1 : decode cJ4_init 1 = .ok (.aload_n 1, 1) := dk_43 (dk_at dksJ4_init_0 1 rfl rfl)
theorem dJ4_init_2 : decode cJ4_init 2 = .ok (.aload_n 2, 1) := dk_44 (dk_at dksJ4_init_0 2 rfl rfl)
theorem dJ4_init_3 : decode cJ4_init 3 = .ok (.iload_n 3, 1) := dk_29 (dk_at dksJ4_init_0 3 rfl rfl)
theorem dJ4_init_4 : decode cJ4_init 4 = .ok (.iload 4, 2) := dk_21 4 (dk_at dksJ4_init_0 4 rfl rfl)
theorem dJ4_init_6 : decode cJ4_init 6 = .ok (.invokespecial 16, 3) := dk_183 0 16 (dk_at dksJ4_init_0 6 rfl rfl)
theorem dJ4_init_9 : decode cJ4_init 9 = .ok (.return_, 1) := dk_177 (dk_at dksJ4_init_0 9 rfl rfl)
abbrev cJ4_init_2 : ByteArray := prog_26_method_2_code
def yJ4_init_2 : MethodName := ⟨RJ4, "<init>", "(Ljava/lang/String;)V"⟩
def dkwJ4_init_2_0 : List UInt8 := [42, 43, 183, 0, 7, 177]
abbrev dktJ4_init_2_0 : List UInt8 := dkwJ4_init_2_0 ++ []
theorem dksJ4_init_2_0 : cJ4_init_2.data.toList.drop 0 = dktJ4_init_2_0 := by decide +kernel
theorem dJ4_init_2_0 : decode cJ4_init_2 0 = .ok (.aload_n 0, 1) := dk_42 (dk_at dksJ4_init_2_0 0 rfl rfl)
theorem dJ4_init_2_1 : decode cJ4_init_2 1 = .ok (.aload_n 1, 1) := dk_43 (dk_at dksJ4_init_2_0 1 rfl rfl)
theorem dJ4_init_2_2 : decode cJ4_init_2 2 = .ok (.invokespecial 7, 3) := dk_183 0 7 (dk_at dksJ4_init_2_0 2 rfl rfl)
theorem dJ4_init_2_5 : decode cJ4_init_2 5 = .ok (.return_, 1) := dk_177 (dk_at dksJ4_init_2_0 5 rfl rfl)
theorem q64 : (Jvm.Cond.initialized "java/lang/Exception") ∈ lw_all := lw_g (lw_at lw_m1 8 rfl) rfl
theorem q240 : (Jvm.Cond.declares ({ cls := "java/lang/Exception", name := "<init>", desc := "()V" } : Jvm.MethodName)) ∈ lw_tbl := lw_at lw_m1 184 rfl
theorem q241 : (Jvm.Cond.declares ({ cls := "java/lang/Exception", name := "<init>", desc := "(Ljava/lang/String;)V" } : Jvm.MethodName)) ∈ lw_tbl := lw_at lw_m1 185 rfl
theorem q282 : (Jvm.Cond.instanceMethod ({ cls := "java/lang/Exception", name := "<init>", desc := "(Ljava/lang/String;Ljava/lang/Throwable;ZZ)V" } : Jvm.MethodName)) ∈ lw_all := lw_g (lw_at lw_m1 226 rfl) rfl
theorem q283 : (Jvm.Cond.code ({ cls := "java/lang/Exception", name := "<init>", desc := "(Ljava/lang/String;Ljava/lang/Throwable;ZZ)V" } : Jvm.MethodName) prog_26_method_5_code (5 : Nat) (Option.none : Option Jvm.ClassFile.FieldType)) ∈ lw_all := lw_g (lw_at lw_m1 227 rfl) rfl
theorem q284 : (Jvm.Cond.methodLink "java/lang/Exception" (16 : Nat) ({ cls := "java/lang/Throwable", name := "<init>", desc := "(Ljava/lang/String;Ljava/lang/Throwable;ZZ)V" } : Jvm.MethodName)) ∈ lw_all := lw_g (lw_at lw_m1 228 rfl) rfl
theorem q354 : (Jvm.Cond.instanceMethod ({ cls := "java/lang/Exception", name := "<init>", desc := "(Ljava/lang/String;)V" } : Jvm.MethodName)) ∈ lw_all := lw_g (lw_at lw_m2 58 rfl) rfl
theorem q355 : (Jvm.Cond.code ({ cls := "java/lang/Exception", name := "<init>", desc := "(Ljava/lang/String;)V" } : Jvm.MethodName) prog_26_method_2_code (2 : Nat) (Option.none : Option Jvm.ClassFile.FieldType)) ∈ lw_all := lw_g (lw_at lw_m2 59 rfl) rfl
theorem q356 : (Jvm.Cond.methodLink "java/lang/Exception" (7 : Nat) ({ cls := "java/lang/Throwable", name := "<init>", desc := "(Ljava/lang/String;)V" } : Jvm.MethodName)) ∈ lw_all := lw_g (lw_at lw_m2 60 rfl) rfl

/-! java/lang/RuntimeException -/
set_option maxRecDepth 100000
def RJ5 : String := "java/lang/RuntimeException"
abbrev cJ5_init : ByteArray := prog_32_method_2_code
def yJ5_init : MethodName := ⟨RJ5, "<init>", "(Ljava/lang/String;)V"⟩
def dkwJ5_init_0 : List UInt8 := [42, 43, 183, 0, 7, 177]
abbrev dktJ5_init_0 : List UInt8 := dkwJ5_init_0 ++ []
theorem dksJ5_init_0 : cJ5_init.data.toList.drop 0 = dktJ5_init_0 := by decide +kernel
theorem dJ5_init_0 : decode cJ5_init 0 = .ok (.aload_n 0, 1) := dk_42 (dk_at dksJ5_init_0 0 rfl rfl)
theorem dJ5_init_1 : decode cJ5_init 1 = .ok (.aload_n 1, 1) := dk_43 (dk_at dksJ5_init_0 1 rfl rfl)
theorem dJ5_init_2 : decode cJ5_init 2 = .ok (.invokespecial 7, 3) := dk_183 0 7 (dk_at dksJ5_init_0 2 rfl rfl)
theorem dJ5_init_5 : decode cJ5_init 5 = .ok (.return_, 1) := dk_177 (dk_at dksJ5_init_0 5 rfl rfl)
theorem q67 : (Jvm.Cond.initialized "java/lang/RuntimeException") ∈ lw_all := lw_g (lw_at lw_m1 11 rfl) rfl
theorem q351 : (Jvm.Cond.instanceMethod ({ cls := "java/lang/RuntimeException", name := "<init>", desc := "(Ljava/lang/String;)V" } : Jvm.MethodName)) ∈ lw_all := lw_g (lw_at lw_m2 55 rfl) rfl
theorem q352 : (Jvm.Cond.code ({ cls := "java/lang/RuntimeException", name := "<init>", desc := "(Ljava/lang/String;)V" } : Jvm.MethodName) prog_32_method_2_code (2 : Nat) (Option.none : Option Jvm.ClassFile.FieldType)) ∈ lw_all := lw_g (lw_at lw_m2 56 rfl) rfl
theorem q353 : (Jvm.Cond.methodLink "java/lang/RuntimeException" (7 : Nat) ({ cls := "java/lang/Exception", name := "<init>", desc := "(Ljava/lang/String;)V" } : Jvm.MethodName)) ∈ lw_all := lw_g (lw_at lw_m2 57 rfl) rfl
theorem q369 : (Jvm.Cond.declares ({ cls := "java/lang/RuntimeException", name := "<init>", desc := "()V" } : Jvm.MethodName)) ∈ lw_tbl := lw_at lw_m2 73 rfl
theorem q370 : (Jvm.Cond.declares ({ cls := "java/lang/RuntimeException", name := "<init>", desc := "(Ljava/lang/String;)V" } : Jvm.MethodName)) ∈ lw_tbl := lw_at lw_m2 74 rfl

/-! java/lang/IndexOutOfBoundsException -/
set_option maxRecDepth 100000
def RJ6 : String := "java/lang/IndexOutOfBoundsException"
def TJ6 : u_T := fun k => match k with
  | 0 => ("java/lang/Throwable", "cause", "Ljava/lang/Throwable;", false)
  | 1 => ("java/lang/Throwable", "stackTrace", "[Ljava/lang/StackTraceElement;", false)
  | 2 => ("java/lang/Throwable", "suppressedExceptions", "Ljava/util/List;", false)
  | 3 => ("java/lang/Throwable", "detailMessage", "Ljava/lang/String;", false)
  | 4 => ("java/lang/Throwable", "backtrace", "Ljava/lang/Object;", false)
  | _ => ("java/lang/Throwable", "depth", "I", false)
def tyJ6 : Nat → FieldType := fun k => match k with
  | 0 => .object "java/lang/Throwable"
  | 1 => .array (.object "java/lang/StackTraceElement")
  | 2 => .object "java/util/List"
  | 3 => .object "java/lang/String"
  | 4 => .object "java/lang/Object"
  | _ => .int
abbrev wsJ60 : List Cond := u_ws RJ6 TJ6 6
theorem nmJ6 : ∀ a, a < 6 → ∀ b, b < 6 → a ≠ b → (TJ6 a).2.1 ≠ (TJ6 b).2.1 := by decide +kernel
theorem tyJ6_ok : ∀ k, k < 6 → parseFieldDescriptor (TJ6 k).2.2.1 = some (tyJ6 k) := by decide +kernel
abbrev cJ6_init : ByteArray := prog_27_method_2_code
def yJ6_init : MethodName := ⟨RJ6, "<init>", "(Ljava/lang/String;)V"⟩
def dkwJ6_init_0 : List UInt8 := [42, 43, 183, 0, 7, 177]
abbrev dktJ6_init_0 : List UInt8 := dkwJ6_init_0 ++ []
theorem dksJ6_init_0 : cJ6_init.data.toList.drop 0 = dktJ6_init_0 := by decide +kernel
theorem dJ6_init_0 : decode cJ6_init 0 = .ok (.aload_n 0, 1) := dk_42 (dk_at dksJ6_init_0 0 rfl rfl)
theorem dJ6_init_1 : decode cJ6_init 1 = .ok (.aload_n 1, 1) := dk_43 (dk_at dksJ6_init_0 1 rfl rfl)
theorem dJ6_init_2 : decode cJ6_init 2 = .ok (.invokespecial 7, 3) := dk_183 0 7 (dk_at dksJ6_init_0 2 rfl rfl)
theorem dJ6_init_5 : decode cJ6_init 5 = .ok (.return_, 1) := dk_177 (dk_at dksJ6_init_0 5 rfl rfl)
theorem q68 : (Jvm.Cond.initialized "java/lang/IndexOutOfBoundsException") ∈ lw_all := lw_g (lw_at lw_m1 12 rfl) rfl
theorem q271 : (Jvm.Cond.selects "java/lang/IndexOutOfBoundsException" ({ cls := "java/lang/Throwable", name := "fillInStackTrace", desc := "()Ljava/lang/Throwable;" } : Jvm.MethodName) ({ cls := "java/lang/Throwable", name := "fillInStackTrace", desc := "()Ljava/lang/Throwable;" } : Jvm.MethodName)) ∈ lw_all := lw_g (lw_at lw_m1 215 rfl) rfl
theorem q348 : (Jvm.Cond.instanceMethod ({ cls := "java/lang/IndexOutOfBoundsException", name := "<init>", desc := "(Ljava/lang/String;)V" } : Jvm.MethodName)) ∈ lw_all := lw_g (lw_at lw_m2 52 rfl) rfl
theorem q349 : (Jvm.Cond.code ({ cls := "java/lang/IndexOutOfBoundsException", name := "<init>", desc := "(Ljava/lang/String;)V" } : Jvm.MethodName) prog_27_method_2_code (2 : Nat) (Option.none : Option Jvm.ClassFile.FieldType)) ∈ lw_all := lw_g (lw_at lw_m2 53 rfl) rfl
theorem q350 : (Jvm.Cond.methodLink "java/lang/IndexOutOfBoundsException" (7 : Nat) ({ cls := "java/lang/RuntimeException", name := "<init>", desc := "(Ljava/lang/String;)V" } : Jvm.MethodName)) ∈ lw_all := lw_g (lw_at lw_m2 54 rfl) rfl
theorem q367 : (Jvm.Cond.declares ({ cls := "java/lang/IndexOutOfBoundsException", name := "<init>", desc := "()V" } : Jvm.MethodName)) ∈ lw_tbl := lw_at lw_m2 71 rfl
theorem q368 : (Jvm.Cond.declares ({ cls := "java/lang/IndexOutOfBoundsException", name := "<init>", desc := "(Ljava/lang/String;)V" } : Jvm.MethodName)) ∈ lw_tbl := lw_at lw_m2 72 rfl
theorem q782 : (Jvm.Cond.selects "java/lang/IndexOutOfBoundsException" ({ cls := "java/lang/Object", name := "getClass", desc := "()Ljava/lang/Class;" } : Jvm.MethodName) ({ cls := "java/lang/Object", name := "getClass", desc := "()Ljava/lang/Class;" } : Jvm.MethodName)) ∈ lw_all := lw_g (lw_at lw_m4 6 rfl) rfl
theorem q922 : (Jvm.Cond.instantiable "java/lang/IndexOutOfBoundsException" (6 : Nat)) ∈ lw_all := lw_g (lw_at lw_m4 146 rfl) rfl
theorem q923 : (Jvm.Cond.castable "java/lang/IndexOutOfBoundsException" "java/lang/IndexOutOfBoundsException") ∈ lw_tbl := lw_at lw_m4 147 rfl
theorem q924 : (Jvm.Cond.selects "java/lang/IndexOutOfBoundsException" ({ cls := "java/lang/Throwable", name := "fillInStackTrace", desc := "(I)Ljava/lang/Throwable;" } : Jvm.MethodName) ({ cls := "java/lang/Throwable", name := "fillInStackTrace", desc := "(I)Ljava/lang/Throwable;" } : Jvm.MethodName)) ∈ lw_all := lw_g (lw_at lw_m4 148 rfl) rfl
theorem q925 : (Jvm.Cond.lays "java/lang/IndexOutOfBoundsException" "java/lang/Throwable" "cause" "Ljava/lang/Throwable;") ∈ lw_all := lw_g (lw_at lw_m4 149 rfl) rfl
theorem q926 : (Jvm.Cond.lays "java/lang/IndexOutOfBoundsException" "java/lang/Throwable" "stackTrace" "[Ljava/lang/StackTraceElement;") ∈ lw_all := lw_g (lw_at lw_m4 150 rfl) rfl
theorem q927 : (Jvm.Cond.lays "java/lang/IndexOutOfBoundsException" "java/lang/Throwable" "suppressedExceptions" "Ljava/util/List;") ∈ lw_all := lw_g (lw_at lw_m4 151 rfl) rfl
theorem q928 : (Jvm.Cond.lays "java/lang/IndexOutOfBoundsException" "java/lang/Throwable" "detailMessage" "Ljava/lang/String;") ∈ lw_all := lw_g (lw_at lw_m4 152 rfl) rfl
theorem q929 : (Jvm.Cond.lays "java/lang/IndexOutOfBoundsException" "java/lang/Throwable" "backtrace" "Ljava/lang/Object;") ∈ lw_all := lw_g (lw_at lw_m4 153 rfl) rfl
theorem q1011 : (Jvm.Cond.lays "java/lang/IndexOutOfBoundsException" "java/lang/Throwable" "depth" "I") ∈ lw_all := lw_g (lw_at lw_m4 235 rfl) rfl
theorem q1012 : (Jvm.Cond.superclass "java/lang/IndexOutOfBoundsException" "java/lang/RuntimeException") ∈ lw_all := lw_g (lw_at lw_m4 236 rfl) rfl
theorem q1992 : (Jvm.Cond.castable "java/lang/IndexOutOfBoundsException" "java/lang/Object") ∈ lw_tbl := lw_at lw_m9 16 rfl
theorem in_J6 : ∀ w ∈ wsJ60, w ∈ lw_all := lw_in wsJ60 [925, 926, 927, 928, 929, 1011] (by decide +kernel) (by decide +kernel)

/-! java/lang/ArrayIndexOutOfBoundsException -/
set_option maxRecDepth 100000
def RJ7 : String := "java/lang/ArrayIndexOutOfBoundsException"
def TJ7 : u_T := fun k => match k with
  | 0 => ("java/lang/Throwable", "backtrace", "Ljava/lang/Object;", false)
  | 1 => ("java/lang/Throwable", "detailMessage", "Ljava/lang/String;", false)
  | 2 => ("java/lang/Throwable", "cause", "Ljava/lang/Throwable;", false)
  | 3 => ("java/lang/Throwable", "stackTrace", "[Ljava/lang/StackTraceElement;", false)
  | 4 => ("java/lang/Throwable", "depth", "I", false)
  | _ => ("java/lang/Throwable", "suppressedExceptions", "Ljava/util/List;", false)
def tyJ7 : Nat → FieldType := fun k => match k with
  | 0 => .object "java/lang/Object"
  | 1 => .object "java/lang/String"
  | 2 => .object "java/lang/Throwable"
  | 3 => .array (.object "java/lang/StackTraceElement")
  | 4 => .int
  | _ => .object "java/util/List"
abbrev wsJ70 : List Cond := u_ws RJ7 TJ7 6
theorem nmJ7 : ∀ a, a < 6 → ∀ b, b < 6 → a ≠ b → (TJ7 a).2.1 ≠ (TJ7 b).2.1 := by decide +kernel
theorem tyJ7_ok : ∀ k, k < 6 → parseFieldDescriptor (TJ7 k).2.2.1 = some (tyJ7 k) := by decide +kernel
abbrev cJ7_init : ByteArray := prog_21_method_2_code
def yJ7_init : MethodName := ⟨RJ7, "<init>", "(Ljava/lang/String;)V"⟩
def dkwJ7_init_0 : List UInt8 := [42, 43, 183, 0, 7, 177]
abbrev dktJ7_init_0 : List UInt8 := dkwJ7_init_0 ++ []
theorem dksJ7_init_0 : cJ7_init.data.toList.drop 0 = dktJ7_init_0 := by decide +kernel
theorem dJ7_init_0 : decode cJ7_init 0 = .ok (.aload_n 0, 1) := dk_42 (dk_at dksJ7_init_0 0 rfl rfl)
theorem dJ7_init_1 : decode cJ7_init 1 = .ok (.aload_n 1, 1) := dk_43 (dk_at dksJ7_init_0 1 rfl rfl)
theorem dJ7_init_2 : decode cJ7_init 2 = .ok (.invokespecial 7, 3) := dk_183 0 7 (dk_at dksJ7_init_0 2 rfl rfl)
theorem dJ7_init_5 : decode cJ7_init 5 = .ok (.return_, 1) := dk_177 (dk_at dksJ7_init_0 5 rfl rfl)
theorem q69 : (Jvm.Cond.initialized "java/lang/ArrayIndexOutOfBoundsException") ∈ lw_all := lw_g (lw_at lw_m1 13 rfl) rfl
theorem q269 : (Jvm.Cond.selects "java/lang/ArrayIndexOutOfBoundsException" ({ cls := "java/lang/Throwable", name := "fillInStackTrace", desc := "()Ljava/lang/Throwable;" } : Jvm.MethodName) ({ cls := "java/lang/Throwable", name := "fillInStackTrace", desc := "()Ljava/lang/Throwable;" } : Jvm.MethodName)) ∈ lw_all := lw_g (lw_at lw_m1 213 rfl) rfl
theorem q344 : (Jvm.Cond.instantiable "java/lang/ArrayIndexOutOfBoundsException" (6 : Nat)) ∈ lw_all := lw_g (lw_at lw_m2 48 rfl) rfl
theorem q345 : (Jvm.Cond.instanceMethod ({ cls := "java/lang/ArrayIndexOutOfBoundsException", name := "<init>", desc := "(Ljava/lang/String;)V" } : Jvm.MethodName)) ∈ lw_all := lw_g (lw_at lw_m2 49 rfl) rfl
theorem q346 : (Jvm.Cond.code ({ cls := "java/lang/ArrayIndexOutOfBoundsException", name := "<init>", desc := "(Ljava/lang/String;)V" } : Jvm.MethodName) prog_21_method_2_code (2 : Nat) (Option.none : Option Jvm.ClassFile.FieldType)) ∈ lw_all := lw_g (lw_at lw_m2 50 rfl) rfl
theorem q347 : (Jvm.Cond.methodLink "java/lang/ArrayIndexOutOfBoundsException" (7 : Nat) ({ cls := "java/lang/IndexOutOfBoundsException", name := "<init>", desc := "(Ljava/lang/String;)V" } : Jvm.MethodName)) ∈ lw_all := lw_g (lw_at lw_m2 51 rfl) rfl
theorem q359 : (Jvm.Cond.lays "java/lang/ArrayIndexOutOfBoundsException" "java/lang/Throwable" "backtrace" "Ljava/lang/Object;") ∈ lw_all := lw_g (lw_at lw_m2 63 rfl) rfl
theorem q360 : (Jvm.Cond.lays "java/lang/ArrayIndexOutOfBoundsException" "java/lang/Throwable" "detailMessage" "Ljava/lang/String;") ∈ lw_all := lw_g (lw_at lw_m2 64 rfl) rfl
theorem q361 : (Jvm.Cond.lays "java/lang/ArrayIndexOutOfBoundsException" "java/lang/Throwable" "cause" "Ljava/lang/Throwable;") ∈ lw_all := lw_g (lw_at lw_m2 65 rfl) rfl
theorem q362 : (Jvm.Cond.lays "java/lang/ArrayIndexOutOfBoundsException" "java/lang/Throwable" "stackTrace" "[Ljava/lang/StackTraceElement;") ∈ lw_all := lw_g (lw_at lw_m2 66 rfl) rfl
theorem q363 : (Jvm.Cond.lays "java/lang/ArrayIndexOutOfBoundsException" "java/lang/Throwable" "depth" "I") ∈ lw_all := lw_g (lw_at lw_m2 67 rfl) rfl
theorem q364 : (Jvm.Cond.lays "java/lang/ArrayIndexOutOfBoundsException" "java/lang/Throwable" "suppressedExceptions" "Ljava/util/List;") ∈ lw_all := lw_g (lw_at lw_m2 68 rfl) rfl
theorem q365 : (Jvm.Cond.superclass "java/lang/ArrayIndexOutOfBoundsException" "java/lang/IndexOutOfBoundsException") ∈ lw_all := lw_g (lw_at lw_m2 69 rfl) rfl
theorem q366 : (Jvm.Cond.castable "java/lang/ArrayIndexOutOfBoundsException" "java/lang/ArrayIndexOutOfBoundsException") ∈ lw_tbl := lw_at lw_m2 70 rfl
theorem q371 : (Jvm.Cond.selects "java/lang/ArrayIndexOutOfBoundsException" ({ cls := "java/lang/Throwable", name := "fillInStackTrace", desc := "(I)Ljava/lang/Throwable;" } : Jvm.MethodName) ({ cls := "java/lang/Throwable", name := "fillInStackTrace", desc := "(I)Ljava/lang/Throwable;" } : Jvm.MethodName)) ∈ lw_all := lw_g (lw_at lw_m2 75 rfl) rfl
theorem q780 : (Jvm.Cond.selects "java/lang/ArrayIndexOutOfBoundsException" ({ cls := "java/lang/Object", name := "getClass", desc := "()Ljava/lang/Class;" } : Jvm.MethodName) ({ cls := "java/lang/Object", name := "getClass", desc := "()Ljava/lang/Class;" } : Jvm.MethodName)) ∈ lw_all := lw_g (lw_at lw_m4 4 rfl) rfl
theorem q1973 : (Jvm.Cond.castable "java/lang/ArrayIndexOutOfBoundsException" "java/lang/IndexOutOfBoundsException") ∈ lw_tbl := lw_at lw_m8 237 rfl
theorem q1986 : (Jvm.Cond.castable "java/lang/ArrayIndexOutOfBoundsException" "java/lang/Object") ∈ lw_tbl := lw_at lw_m9 10 rfl
theorem in_J7 : ∀ w ∈ wsJ70, w ∈ lw_all := lw_in wsJ70 [359, 360, 361, 362, 363, 364] (by decide +kernel) (by decide +kernel)

/-! java/lang/String -/
set_option maxRecDepth 100000
def RJ8 : String := "java/lang/String"
def TJ8 : u_T := fun k => match k with
  | 0 => ("java/lang/String", "value", "[B", true)
  | 1 => ("java/lang/String", "coder", "B", true)
  | 2 => ("java/lang/String", "hash", "I", false)
  | _ => ("java/lang/String", "hashIsZero", "Z", false)
def tyJ8 : Nat → FieldType := fun k => match k with
  | 0 => .array .byte
  | 1 => .byte
  | 2 => .int
  | _ => .boolean
abbrev wsJ80 : List Cond := u_ws RJ8 TJ8 4
theorem nmJ8 : ∀ a, a < 4 → ∀ b, b < 4 → a ≠ b → (TJ8 a).2.1 ≠ (TJ8 b).2.1 := by decide +kernel
theorem tyJ8_ok : ∀ k, k < 4 → parseFieldDescriptor (TJ8 k).2.2.1 = some (tyJ8 k) := by decide +kernel
abbrev cJ8_checkBoundsOffCount : ByteArray := prog_33_method_157_code
def yJ8_checkBoundsOffCount : MethodName := ⟨RJ8, "checkBoundsOffCount", "(III)I"⟩
def dkwJ8_checkBoundsOffCount_0 : List UInt8 := [26, 27, 28, 178, 4, 29, 184, 4, 41, 172]
abbrev dktJ8_checkBoundsOffCount_0 : List UInt8 := dkwJ8_checkBoundsOffCount_0 ++ []
theorem dksJ8_checkBoundsOffCount_0 : cJ8_checkBoundsOffCount.data.toList.drop 0 = dktJ8_checkBoundsOffCount_0 := by decide +kernel
theorem dJ8_checkBoundsOffCount_0 : decode cJ8_checkBoundsOffCount 0 = .ok (.iload_n 0, 1) := dk_26 (dk_at dksJ8_checkBoundsOffCount_0 0 rfl rfl)
theorem dJ8_checkBoundsOffCount_1 : decode cJ8_checkBoundsOffCount 1 = .ok (.iload_n 1, 1) := dk_27 (dk_at dksJ8_checkBoundsOffCount_0 1 rfl rfl)
theorem dJ8_checkBoundsOffCount_2 : decode cJ8_checkBoundsOffCount 2 = .ok (.iload_n 2, 1) := dk_28 (dk_at dksJ8_checkBoundsOffCount_0 2 rfl rfl)
theorem dJ8_checkBoundsOffCount_3 : decode cJ8_checkBoundsOffCount 3 = .ok (.getstatic 1053, 3) := dk_178 4 29 (dk_at dksJ8_checkBoundsOffCount_0 3 rfl rfl)
theorem dJ8_checkBoundsOffCount_6 : decode cJ8_checkBoundsOffCount 6 = .ok (.invokestatic 1065, 3) := dk_184 4 41 (dk_at dksJ8_checkBoundsOffCount_0 6 rfl rfl)
theorem dJ8_checkBoundsOffCount_9 : decode cJ8_checkBoundsOffCount 9 = .ok (.ireturn, 1) := dk_172 (dk_at dksJ8_checkBoundsOffCount_0 9 rfl rfl)
abbrev cJ8_checkIndex : ByteArray := prog_33_method_155_code
def yJ8_checkIndex : MethodName := ⟨RJ8, "checkIndex", "(II)V"⟩
def dkwJ8_checkIndex_0 : List UInt8 := [26, 27, 178, 4, 29, 184, 4, 35, 87, 177]
abbrev dktJ8_checkIndex_0 : List UInt8 := dkwJ8_checkIndex_0 ++ []
theorem dksJ8_checkIndex_0 : cJ8_checkIndex.data.toList.drop 0 = dktJ8_checkIndex_0 := by decide +kernel
theorem dJ8_checkIndex_0 : decode cJ8_checkIndex 0 = .ok (.iload_n 0, 1) := dk_26 (dk_at dksJ8_checkIndex_0 0 rfl rfl)
theorem dJ8_checkIndex_1 : decode cJ8_checkIndex 1 = .ok (.iload_n 1, 1) := dk_27 (dk_at dksJ8_checkIndex_0 1 rfl rfl)
theorem dJ8_checkIndex_2 : decode cJ8_checkIndex 2 = .ok (.getstatic 1053, 3) := dk_178 4 29 (dk_at dksJ8_checkIndex_0 2 rfl rfl)
theorem dJ8_checkIndex_5 : decode cJ8_checkIndex 5 = .ok (.invokestatic 1059, 3) := dk_184 4 35 (dk_at dksJ8_checkIndex_0 5 rfl rfl)
theorem dJ8_checkIndex_8 : decode cJ8_checkIndex 8 = .ok (.pop, 1) := dk_87 (dk_at dksJ8_checkIndex_0 8 rfl rfl)
theorem dJ8_checkIndex_9 : decode cJ8_checkIndex 9 = .ok (.return_, 1) := dk_177 (dk_at dksJ8_checkIndex_0 9 rfl rfl)
abbrev cJ8_init : ByteArray := prog_33_method_53_code
def yJ8_init : MethodName := ⟨RJ8, "<init>", "(Ljava/lang/StringBuilder;)V"⟩
def dkwJ8_init_0 : List UInt8 := [42, 43, 1, 183, 1, 233, 177]
abbrev dktJ8_init_0 : List UInt8 := dkwJ8_init_0 ++ []
theorem dksJ8_init_0 : cJ8_init.data.toList.drop 0 = dktJ8_init_0 := by decide +kernel
theorem dJ8_init_0 : decode cJ8_init 0 = .ok (.aload_n 0, 1) := dk_42 (dk_at dksJ8_init_0 0 rfl rfl)
theorem dJ8_init_1 : decode cJ8_init 1 = .ok (.aload_n 1, 1) := dk_43 (dk_at dksJ8_init_0 1 rfl rfl)
theorem dJ8_init_2 : decode cJ8_init 2 = .ok (.aconst_null, 1) := dk_1 (dk_at dksJ8_init_0 2 rfl rfl)
theorem dJ8_init_3 : decode cJ8_init 3 = .ok (.invokespecial 489, 3) := dk_183 1 233 (dk_at dksJ8_init_0 3 rfl rfl)
theorem dJ8_init_6 : decode cJ8_init 6 = .ok (.return_, 1) := dk_177 (dk_at dksJ8_init_0 6 rfl rfl)
abbrev cJ8_init_2 : ByteArray := prog_33_method_150_code
def yJ8_init_2 : MethodName := ⟨RJ8, "<init>", "(Ljava/lang/AbstractStringBuilder;Ljava/lang/Void;)V"⟩
def dkwJ8_init_2_4 : List UInt8 := [181, 0, 9, 177]
abbrev dktJ8_init_2_4 : List UInt8 := dkwJ8_init_2_4 ++ []
def dkwJ8_init_2_3 : List UInt8 := [184, 0, 47, 181, 0, 15, 177, 42, 4, 181, 0, 15, 42, 45, 3, 21, 4, 4, 120, 184, 0, 54]
abbrev dktJ8_init_2_3 : List UInt8 := dkwJ8_init_2_3 ++ dktJ8_init_2_4
def dkwJ8_init_2_2 : List UInt8 := [180, 4, 24, 153, 0, 28, 42, 45, 3, 21, 4, 184, 4, 27, 181, 0, 9, 42, 42, 180, 0, 9, 21, 4]
abbrev dktJ8_init_2_2 : List UInt8 := dkwJ8_init_2_2 ++ dktJ8_init_2_3
def dkwJ8_init_2_1 : List UInt8 := [181, 0, 15, 42, 45, 3, 21, 4, 184, 0, 54, 181, 0, 9, 167, 0, 59, 178, 0, 38, 153, 0, 35, 43]
abbrev dktJ8_init_2_1 : List UInt8 := dkwJ8_init_2_1 ++ dktJ8_init_2_2
def dkwJ8_init_2_0 : List UInt8 := [42, 183, 0, 1, 43, 182, 2, 40, 78, 43, 182, 2, 37, 54, 4, 43, 182, 4, 23, 153, 0, 22, 42, 3]
abbrev dktJ8_init_2_0 : List UInt8 := dkwJ8_init_2_0 ++ dktJ8_init_2_1
theorem dksJ8_init_2_0 : cJ8_init_2.data.toList.drop 0 = dktJ8_init_2_0 := by decide +kernel
theorem dksJ8_init_2_1 : cJ8_init_2.data.toList.drop 24 = dktJ8_init_2_1 := dk_seg dksJ8_init_2_0 24 rfl rfl
theorem dksJ8_init_2_2 : cJ8_init_2.data.toList.drop 48 = dktJ8_init_2_2 := dk_seg dksJ8_init_2_1 24 rfl rfl
theorem dksJ8_init_2_3 : cJ8_init_2.data.toList.drop 72 = dktJ8_init_2_3 := dk_seg dksJ8_init_2_2 24 rfl rfl
theorem dksJ8_init_2_4 : cJ8_init_2.data.toList.drop 94 = dktJ8_init_2_4 := dk_seg dksJ8_init_2_3 22 rfl rfl
theorem dJ8_init_2_0 : decode cJ8_init_2 0 = .ok (.aload_n 0, 1) := dk_42 (dk_at dksJ8_init_2_0 0 rfl rfl)
theorem dJ8_init_2_1 : decode cJ8_init_2 1 = .ok (.invokespecial 1, 3) := dk_183 0 1 (dk_at dksJ8_init_2_0 1 rfl rfl)
theorem dJ8_init_2_4 : decode cJ8_init_2 4 = .ok (.aload_n 1, 1) := dk_43 (dk_at dksJ8_init_2_0 4 rfl rfl)
theorem dJ8_init_2_5 : decode cJ8_init_2 5 = .ok (.invokevirtual 552, 3) := dk_182 2 40 (dk_at dksJ8_init_2_0 5 rfl rfl)
theorem dJ8_init_2_8 : decode cJ8_init_2 8 = .ok (.astore_n 3, 1) := dk_78 (dk_at dksJ8_init_2_0 8 rfl rfl)
theorem dJ8_init_2_9 : decode cJ8_init_2 9 = .ok (.aload_n 1, 1) := dk_43 (dk_at dksJ8_init_2_0 9 rfl rfl)
theorem dJ8_init_2_10 : decode cJ8_init_2 10 = .ok (.invokevirtual 549, 3) := dk_182 2 37 (dk_at dksJ8_init_2_0 10 rfl rfl)
theorem dJ8_init_2_13 : decode cJ8_init_2 13 = .ok (.istore 4, 2) := dk_54 4 (dk_at dksJ8_init_2_0 13 rfl rfl)
theorem dJ8_init_2_15 : decode cJ8_init_2 15 = .ok (.aload_n 1, 1) := dk_43 (dk_at dksJ8_init_2_0 15 rfl rfl)
theorem dJ8_init_2_16 : decode cJ8_init_2 16 = .ok (.invokevirtual 1047, 3) := dk_182 4 23 (dk_at dksJ8_init_2_0 16 rfl rfl)
theorem dJ8_init_2_19 : decode cJ8_init_2 19 = .ok (.ifCond .eq 22, 3) := dk_153 0 22 (dk_at dksJ8_init_2_0 19 rfl rfl)
theorem dJ8_init_2_22 : decode cJ8_init_2 22 = .ok (.aload_n 0, 1) := dk_42 (dk_at dksJ8_init_2_0 22 rfl rfl)
theorem dJ8_init_2_23 : decode cJ8_init_2 23 = .ok (.iconst 0, 1) := dk_3 (dk_at dksJ8_init_2_0 23 rfl rfl)
theorem dJ8_init_2_24 : decode cJ8_init_2 24 = .ok (.putfield 15, 3) := dk_181 0 15 (dk_at dksJ8_init_2_1 0 rfl rfl)
theorem dJ8_init_2_27 : decode cJ8_init_2 27 = .ok (.aload_n 0, 1) := dk_42 (dk_at dksJ8_init_2_1 3 rfl rfl)
theorem dJ8_init_2_28 : decode cJ8_init_2 28 = .ok (.aload_n 3, 1) := dk_45 (dk_at dksJ8_init_2_1 4 rfl rfl)
theorem dJ8_init_2_29 : decode cJ8_init_2 29 = .ok (.iconst 0, 1) := dk_3 (dk_at dksJ8_init_2_1 5 rfl rfl)
theorem dJ8_init_2_30 : decode cJ8_init_2 30 = .ok (.iload 4, 2) := dk_21 4 (dk_at dksJ8_init_2_1 6 rfl rfl)
theorem dJ8_init_2_32 : decode cJ8_init_2 32 = .ok (.invokestatic 54, 3) := dk_184 0 54 (dk_at dksJ8_init_2_1 8 rfl rfl)
theorem dJ8_init_2_35 : decode cJ8_init_2 35 = .ok (.putfield 9, 3) := dk_181 0 9 (dk_at dksJ8_init_2_1 11 rfl rfl)
theorem dJ8_init_2_38 : decode cJ8_init_2 38 = .ok (.goto 59, 3) := dk_167 0 59 (dk_at dksJ8_init_2_1 14 rfl rfl)
theorem dJ8_init_2_41 : decode cJ8_init_2 41 = .ok (.getstatic 38, 3) := dk_178 0 38 (dk_at dksJ8_init_2_1 17 rfl rfl)
theorem dJ8_init_2_44 : decode cJ8_init_2 44 = .ok (.ifCond .eq 35, 3) := dk_153 0 35 (dk_at dksJ8_init_2_1 20 rfl rfl)
theorem dJ8_init_2_47 : decode cJ8_init_2 47 = .ok (.aload_n 1, 1) := dk_43 (dk_at dksJ8_init_2_1 23 rfl rfl)
theorem dJ8_init_2_48 : decode cJ8_init_2 48 = .ok (.getfield 1048, 3) := dk_180 4 24 (dk_at dksJ8_init_2_2 0 rfl rfl)
theorem dJ8_init_2_51 : decode cJ8_init_2 51 = .ok (.ifCond .eq 28, 3) := dk_153 0 28 (dk_at dksJ8_init_2_2 3 rfl rfl)
theorem dJ8_init_2_54 : decode cJ8_init_2 54 = .ok (.aload_n 0, 1) := dk_42 (dk_at dksJ8_init_2_2 6 rfl rfl)
theorem dJ8_init_2_55 : decode cJ8_init_2 55 = .ok (.aload_n 3, 1) := dk_45 (dk_at dksJ8_init_2_2 7 rfl rfl)
theorem dJ8_init_2_56 : decode cJ8_init_2 56 = .ok (.iconst 0, 1) := dk_3 (dk_at dksJ8_init_2_2 8 rfl rfl)
theorem dJ8_init_2_57 : decode cJ8_init_2 57 = .ok (.iload 4, 2) := dk_21 4 (dk_at dksJ8_init_2_2 9 rfl rfl)
theorem dJ8_init_2_59 : decode cJ8_init_2 59 = .ok (.invokestatic 1051, 3) := dk_184 4 27 (dk_at dksJ8_init_2_2 11 rfl rfl)
theorem dJ8_init_2_62 : decode cJ8_init_2 62 = .ok (.putfield 9, 3) := dk_181 0 9 (dk_at dksJ8_init_2_2 14 rfl rfl)
theorem dJ8_init_2_65 : decode cJ8_init_2 65 = .ok (.aload_n 0, 1) := dk_42 (dk_at dksJ8_init_2_2 17 rfl rfl)
theorem dJ8_init_2_66 : decode cJ8_init_2 66 = .ok (.aload_n 0, 1) := dk_42 (dk_at dksJ8_init_2_2 18 rfl rfl)
theorem dJ8_init_2_67 : decode cJ8_init_2 67 = .ok (.getfield 9, 3) := dk_180 0 9 (dk_at dksJ8_init_2_2 19 rfl rfl)
theorem dJ8_init_2_70 : decode cJ8_init_2 70 = .ok (.iload 4, 2) := dk_21 4 (dk_at dksJ8_init_2_2 22 rfl rfl)
theorem dJ8_init_2_72 : decode cJ8_init_2 72 = .ok (.invokestatic 47, 3) := dk_184 0 47 (dk_at dksJ8_init_2_3 0 rfl rfl)
theorem dJ8_init_2_75 : decode cJ8_init_2 75 = .ok (.putfield 15, 3) := dk_181 0 15 (dk_at dksJ8_init_2_3 3 rfl rfl)
theorem dJ8_init_2_78 : decode cJ8_init_2 78 = .ok (.return_, 1) := dk_177 (dk_at dksJ8_init_2_3 6 rfl rfl)
theorem dJ8_init_2_79 : decode cJ8_init_2 79 = .ok (.aload_n 0, 1) := dk_42 (dk_at dksJ8_init_2_3 7 rfl rfl)
theorem dJ8_init_2_80 : decode cJ8_init_2 80 = .ok (.iconst 1, 1) := dk_4 (dk_at dksJ8_init_2_3 8 rfl rfl)
theorem dJ8_init_2_81 : decode cJ8_init_2 81 = .ok (.putfield 15, 3) := dk_181 0 15 (dk_at dksJ8_init_2_3 9 rfl rfl)
theorem dJ8_init_2_84 : decode cJ8_init_2 84 = .ok (.aload_n 0, 1) := dk_42 (dk_at dksJ8_init_2_3 12 rfl rfl)
theorem dJ8_init_2_85 : decode cJ8_init_2 85 = .ok (.aload_n 3, 1) := dk_45 (dk_at dksJ8_init_2_3 13 rfl rfl)
theorem dJ8_init_2_86 : decode cJ8_init_2 86 = .ok (.iconst 0, 1) := dk_3 (dk_at dksJ8_init_2_3 14 rfl rfl)
theorem dJ8_init_2_87 : decode cJ8_init_2 87 = .ok (.iload 4, 2) := dk_21 4 (dk_at dksJ8_init_2_3 15 rfl rfl)
theorem dJ8_init_2_89 : decode cJ8_init_2 89 = .ok (.iconst 1, 1) := dk_4 (dk_at dksJ8_init_2_3 17 rfl rfl)
theorem dJ8_init_2_90 : decode cJ8_init_2 90 = .ok (.ishl, 1) := dk_120 (dk_at dksJ8_init_2_3 18 rfl rfl)
theorem dJ8_init_2_91 : decode cJ8_init_2 91 = .ok (.invokestatic 54, 3) := dk_184 0 54 (dk_at dksJ8_init_2_3 19 rfl rfl)
theorem dJ8_init_2_94 : decode cJ8_init_2 94 = .ok (.putfield 9, 3) := dk_181 0 9 (dk_at dksJ8_init_2_4 0 rfl rfl)
theorem dJ8_init_2_97 : decode cJ8_init_2 97 = .ok (.return_, 1) := dk_177 (dk_at dksJ8_init_2_4 3 rfl rfl)
abbrev cJ8_equals : ByteArray := prog_33_method_66_code
def yJ8_equals : MethodName := ⟨RJ8, "equals", "(Ljava/lang/Object;)Z"⟩
def dkwJ8_equals_2 : List UInt8 := [184, 2, 29, 153, 0, 7, 4, 167, 0, 4, 3, 172]
abbrev dktJ8_equals_2 : List UInt8 := dkwJ8_equals_2 ++ []
def dkwJ8_equals_1 : List UInt8 := [153, 0, 14, 42, 180, 0, 15, 44, 180, 0, 15, 160, 0, 21, 42, 180, 0, 9, 44, 180, 0, 9]
abbrev dktJ8_equals_1 : List UInt8 := dkwJ8_equals_1 ++ dktJ8_equals_2
def dkwJ8_equals_0 : List UInt8 := [42, 43, 166, 0, 5, 4, 172, 43, 193, 0, 10, 153, 0, 43, 43, 192, 0, 10, 77, 178, 0, 38]
abbrev dktJ8_equals_0 : List UInt8 := dkwJ8_equals_0 ++ dktJ8_equals_1
theorem dksJ8_equals_0 : cJ8_equals.data.toList.drop 0 = dktJ8_equals_0 := by decide +kernel
theorem dksJ8_equals_1 : cJ8_equals.data.toList.drop 22 = dktJ8_equals_1 := dk_seg dksJ8_equals_0 22 rfl rfl
theorem dksJ8_equals_2 : cJ8_equals.data.toList.drop 44 = dktJ8_equals_2 := dk_seg dksJ8_equals_1 22 rfl rfl
theorem dJ8_equals_0 : decode cJ8_equals 0 = .ok (.aload_n 0, 1) := dk_42 (dk_at dksJ8_equals_0 0 rfl rfl)
theorem dJ8_equals_1 : decode cJ8_equals 1 = .ok (.aload_n 1, 1) := dk_43 (dk_at dksJ8_equals_0 1 rfl rfl)
theorem dJ8_equals_2 : decode cJ8_equals 2 = .ok (.if_acmp .ne 5, 3) := dk_166 0 5 (dk_at dksJ8_equals_0 2 rfl rfl)
theorem dJ8_equals_5 : decode cJ8_equals 5 = .ok (.iconst 1, 1) := dk_4 (dk_at dksJ8_equals_0 5 rfl rfl)
theorem dJ8_equals_6 : decode cJ8_equals 6 = .ok (.ireturn, 1) := dk_172 (dk_at dksJ8_equals_0 6 rfl rfl)
theorem dJ8_equals_7 : decode cJ8_equals 7 = .ok (.aload_n 1, 1) := dk_43 (dk_at dksJ8_equals_0 7 rfl rfl)
theorem dJ8_equals_8 : decode cJ8_equals 8 = .ok (.instanceof 10, 3) := dk_193 0 10 (dk_at dksJ8_equals_0 8 rfl rfl)
theorem dJ8_equals_11 : decode cJ8_equals 11 = .ok (.ifCond .eq 43, 3) := dk_153 0 43 (dk_at dksJ8_equals_0 11 rfl rfl)
theorem dJ8_equals_14 : decode cJ8_equals 14 = .ok (.aload_n 1, 1) := dk_43 (dk_at dksJ8_equals_0 14 rfl rfl)
theorem dJ8_equals_15 : decode cJ8_equals 15 = .ok (.checkcast 10, 3) := dk_192 0 10 (dk_at dksJ8_equals_0 15 rfl rfl)
theorem dJ8_equals_18 : decode cJ8_equals 18 = .ok (.astore_n 2, 1) := dk_77 (dk_at dksJ8_equals_0 18 rfl rfl)
theorem dJ8_equals_19 : decode cJ8_equals 19 = .ok (.getstatic 38, 3) := dk_178 0 38 (dk_at dksJ8_equals_0 19 rfl rfl)
theorem dJ8_equals_22 : decode cJ8_equals 22 = .ok (.ifCond .eq 14, 3) := dk_153 0 14 (dk_at dksJ8_equals_1 0 rfl rfl)
theorem dJ8_equals_25 : decode cJ8_equals 25 = .ok (.aload_n 0, 1) := dk_42 (dk_at dksJ8_equals_1 3 rfl rfl)
theorem dJ8_equals_26 : decode cJ8_equals 26 = .ok (.getfield 15, 3) := dk_180 0 15 (dk_at dksJ8_equals_1 4 rfl rfl)
theorem dJ8_equals_29 : decode cJ8_equals 29 = .ok (.aload_n 2, 1) := dk_44 (dk_at dksJ8_equals_1 7 rfl rfl)
theorem dJ8_equals_30 : decode cJ8_equals 30 = .ok (.getfield 15, 3) := dk_180 0 15 (dk_at dksJ8_equals_1 8 rfl rfl)
theorem dJ8_equals_33 : decode cJ8_equals 33 = .ok (.if_icmp .ne 21, 3) := dk_160 0 21 (dk_at dksJ8_equals_1 11 rfl rfl)
theorem dJ8_equals_36 : decode cJ8_equals 36 = .ok (.aload_n 0, 1) := dk_42 (dk_at dksJ8_equals_1 14 rfl rfl)
theorem dJ8_equals_37 : decode cJ8_equals 37 = .ok (.getfield 9, 3) := dk_180 0 9 (dk_at dksJ8_equals_1 15 rfl rfl)
theorem dJ8_equals_40 : decode cJ8_equals 40 = .ok (.aload_n 2, 1) := dk_44 (dk_at dksJ8_equals_1 18 rfl rfl)
theorem dJ8_equals_41 : decode cJ8_equals 41 = .ok (.getfield 9, 3) := dk_180 0 9 (dk_at dksJ8_equals_1 19 rfl rfl)
theorem dJ8_equals_44 : decode cJ8_equals 44 = .ok (.invokestatic 541, 3) := dk_184 2 29 (dk_at dksJ8_equals_2 0 rfl rfl)
theorem dJ8_equals_47 : decode cJ8_equals 47 = .ok (.ifCond .eq 7, 3) := dk_153 0 7 (dk_at dksJ8_equals_2 3 rfl rfl)
theorem dJ8_equals_50 : decode cJ8_equals 50 = .ok (.iconst 1, 1) := dk_4 (dk_at dksJ8_equals_2 6 rfl rfl)
theorem dJ8_equals_51 : decode cJ8_equals 51 = .ok (.goto 4, 3) := dk_167 0 4 (dk_at dksJ8_equals_2 7 rfl rfl)
theorem dJ8_equals_54 : decode cJ8_equals 54 = .ok (.iconst 0, 1) := dk_3 (dk_at dksJ8_equals_2 10 rfl rfl)
theorem dJ8_equals_55 : decode cJ8_equals 55 = .ok (.ireturn, 1) := dk_172 (dk_at dksJ8_equals_2 11 rfl rfl)
abbrev cJ8_checkBoundsBeginEnd : ByteArray := prog_33_method_158_code
def yJ8_checkBoundsBeginEnd : MethodName := ⟨RJ8, "checkBoundsBeginEnd", "(III)V"⟩
def dkwJ8_checkBoundsBeginEnd_0 : List UInt8 := [26, 27, 28, 178, 4, 29, 184, 4, 38, 87, 177]
abbrev dktJ8_checkBoundsBeginEnd_0 : List UInt8 := dkwJ8_checkBoundsBeginEnd_0 ++ []
theorem dksJ8_checkBoundsBeginEnd_0 : cJ8_checkBoundsBeginEnd.data.toList.drop 0 = dktJ8_checkBoundsBeginEnd_0 := by decide +kernel
theorem dJ8_checkBoundsBeginEnd_0 : decode cJ8_checkBoundsBeginEnd 0 = .ok (.iload_n 0, 1) := dk_26 (dk_at dksJ8_checkBoundsBeginEnd_0 0 rfl rfl)
theorem dJ8_checkBoundsBeginEnd_1 : decode cJ8_checkBoundsBeginEnd 1 = .ok (.iload_n 1, 1) := dk_27 (dk_at dksJ8_checkBoundsBeginEnd_0 1 rfl rfl)
theorem dJ8_checkBoundsBeginEnd_2 : decode cJ8_checkBoundsBeginEnd 2 = .ok (.iload_n 2, 1) := dk_28 (dk_at dksJ8_checkBoundsBeginEnd_0 2 rfl rfl)
theorem dJ8_checkBoundsBeginEnd_3 : decode cJ8_checkBoundsBeginEnd 3 = .ok (.getstatic 1053, 3) := dk_178 4 29 (dk_at dksJ8_checkBoundsBeginEnd_0 3 rfl rfl)
theorem dJ8_checkBoundsBeginEnd_6 : decode cJ8_checkBoundsBeginEnd 6 = .ok (.invokestatic 1062, 3) := dk_184 4 38 (dk_at dksJ8_checkBoundsBeginEnd_0 6 rfl rfl)
theorem dJ8_checkBoundsBeginEnd_9 : decode cJ8_checkBoundsBeginEnd 9 = .ok (.pop, 1) := dk_87 (dk_at dksJ8_checkBoundsBeginEnd_0 9 rfl rfl)
theorem dJ8_checkBoundsBeginEnd_10 : decode cJ8_checkBoundsBeginEnd 10 = .ok (.return_, 1) := dk_177 (dk_at dksJ8_checkBoundsBeginEnd_0 10 rfl rfl)
abbrev cJ8_length : ByteArray := prog_33_method_54_code
def yJ8_length : MethodName := ⟨RJ8, "length", "()I"⟩
def dkwJ8_length_0 : List UInt8 := [42, 180, 0, 9, 190, 42, 182, 1, 79, 122, 172]
abbrev dktJ8_length_0 : List UInt8 := dkwJ8_length_0 ++ []
theorem dksJ8_length_0 : cJ8_length.data.toList.drop 0 = dktJ8_length_0 := by decide +kernel
theorem dJ8_length_0 : decode cJ8_length 0 = .ok (.aload_n 0, 1) := dk_42 (dk_at dksJ8_length_0 0 rfl rfl)
theorem dJ8_length_1 : decode cJ8_length 1 = .ok (.getfield 9, 3) := dk_180 0 9 (dk_at dksJ8_length_0 1 rfl rfl)
theorem dJ8_length_4 : decode cJ8_length 4 = .ok (.arraylength, 1) := dk_190 (dk_at dksJ8_length_0 4 rfl rfl)
theorem dJ8_length_5 : decode cJ8_length 5 = .ok (.aload_n 0, 1) := dk_42 (dk_at dksJ8_length_0 5 rfl rfl)
theorem dJ8_length_6 : decode cJ8_length 6 = .ok (.invokevirtual 335, 3) := dk_182 1 79 (dk_at dksJ8_length_0 6 rfl rfl)
theorem dJ8_length_9 : decode cJ8_length 9 = .ok (.ishr, 1) := dk_122 (dk_at dksJ8_length_0 9 rfl rfl)
theorem dJ8_length_10 : decode cJ8_length 10 = .ok (.ireturn, 1) := dk_172 (dk_at dksJ8_length_0 10 rfl rfl)
abbrev cJ8_coder : ByteArray := prog_33_method_152_code
def yJ8_coder : MethodName := ⟨RJ8, "coder", "()B"⟩
def dkwJ8_coder_0 : List UInt8 := [178, 0, 38, 153, 0, 10, 42, 180, 0, 15, 167, 0, 4, 4, 172]
abbrev dktJ8_coder_0 : List UInt8 := dkwJ8_coder_0 ++ []
theorem dksJ8_coder_0 : cJ8_coder.data.toList.drop 0 = dktJ8_coder_0 := by decide +kernel
theorem dJ8_coder_0 : decode cJ8_coder 0 = .ok (.getstatic 38, 3) := dk_178 0 38 (dk_at dksJ8_coder_0 0 rfl rfl)
theorem dJ8_coder_3 : decode cJ8_coder 3 = .ok (.ifCond .eq 10, 3) := dk_153 0 10 (dk_at dksJ8_coder_0 3 rfl rfl)
theorem dJ8_coder_6 : decode cJ8_coder 6 = .ok (.aload_n 0, 1) := dk_42 (dk_at dksJ8_coder_0 6 rfl rfl)
theorem dJ8_coder_7 : decode cJ8_coder 7 = .ok (.getfield 15, 3) := dk_180 0 15 (dk_at dksJ8_coder_0 7 rfl rfl)
theorem dJ8_coder_10 : decode cJ8_coder 10 = .ok (.goto 4, 3) := dk_167 0 4 (dk_at dksJ8_coder_0 10 rfl rfl)
theorem dJ8_coder_13 : decode cJ8_coder 13 = .ok (.iconst 1, 1) := dk_4 (dk_at dksJ8_coder_0 13 rfl rfl)
theorem dJ8_coder_14 : decode cJ8_coder 14 = .ok (.ireturn, 1) := dk_172 (dk_at dksJ8_coder_0 14 rfl rfl)
abbrev cJ8_getBytes : ByteArray := prog_33_method_147_code
def yJ8_getBytes : MethodName := ⟨RJ8, "getBytes", "([BIB)V"⟩
def dkwJ8_getBytes_1 : List UInt8 := [184, 0, 212, 167, 0, 18, 42, 180, 0, 9, 3, 43, 28, 42, 180, 0, 9, 190, 184, 0, 106, 177]
abbrev dktJ8_getBytes_1 : List UInt8 := dkwJ8_getBytes_1 ++ []
def dkwJ8_getBytes_0 : List UInt8 := [42, 182, 1, 79, 29, 160, 0, 23, 42, 180, 0, 9, 3, 43, 28, 29, 120, 42, 180, 0, 9, 190]
abbrev dktJ8_getBytes_0 : List UInt8 := dkwJ8_getBytes_0 ++ dktJ8_getBytes_1
theorem dksJ8_getBytes_0 : cJ8_getBytes.data.toList.drop 0 = dktJ8_getBytes_0 := by decide +kernel
theorem dksJ8_getBytes_1 : cJ8_getBytes.data.toList.drop 22 = dktJ8_getBytes_1 := dk_seg dksJ8_getBytes_0 22 rfl rfl
theorem dJ8_getBytes_0 : decode cJ8_getBytes 0 = .ok (.aload_n 0, 1) := dk_42 (dk_at dksJ8_getBytes_0 0 rfl rfl)
theorem dJ8_getBytes_1 : decode cJ8_getBytes 1 = .ok (.invokevirtual 335, 3) := dk_182 1 79 (dk_at dksJ8_getBytes_0 1 rfl rfl)
theorem dJ8_getBytes_4 : decode cJ8_getBytes 4 = .ok (.iload_n 3, 1) := dk_29 (dk_at dksJ8_getBytes_0 4 rfl rfl)
theorem dJ8_getBytes_5 : decode cJ8_getBytes 5 = .ok (.if_icmp .ne 23, 3) := dk_160 0 23 (dk_at dksJ8_getBytes_0 5 rfl rfl)
theorem dJ8_getBytes_8 : decode cJ8_getBytes 8 = .ok (.aload_n 0, 1) := dk_42 (dk_at dksJ8_getBytes_0 8 rfl rfl)
theorem dJ8_getBytes_9 : decode cJ8_getBytes 9 = .ok (.getfield 9, 3) := dk_180 0 9 (dk_at dksJ8_getBytes_0 9 rfl rfl)
theorem dJ8_getBytes_12 : decode cJ8_getBytes 12 = .ok (.iconst 0, 1) := dk_3 (dk_at dksJ8_getBytes_0 12 rfl rfl)
theorem dJ8_getBytes_13 : decode cJ8_getBytes 13 = .ok (.aload_n 1, 1) := dk_43 (dk_at dksJ8_getBytes_0 13 rfl rfl)
theorem dJ8_getBytes_14 : decode cJ8_getBytes 14 = .ok (.iload_n 2, 1) := dk_28 (dk_at dksJ8_getBytes_0 14 rfl rfl)
theorem dJ8_getBytes_15 : decode cJ8_getBytes 15 = .ok (.iload_n 3, 1) := dk_29 (dk_at dksJ8_getBytes_0 15 rfl rfl)
theorem dJ8_getBytes_16 : decode cJ8_getBytes 16 = .ok (.ishl, 1) := dk_120 (dk_at dksJ8_getBytes_0 16 rfl rfl)
theorem dJ8_getBytes_17 : decode cJ8_getBytes 17 = .ok (.aload_n 0, 1) := dk_42 (dk_at dksJ8_getBytes_0 17 rfl rfl)
theorem dJ8_getBytes_18 : decode cJ8_getBytes 18 = .ok (.getfield 9, 3) := dk_180 0 9 (dk_at dksJ8_getBytes_0 18 rfl rfl)
theorem dJ8_getBytes_21 : decode cJ8_getBytes 21 = .ok (.arraylength, 1) := dk_190 (dk_at dksJ8_getBytes_0 21 rfl rfl)
theorem dJ8_getBytes_22 : decode cJ8_getBytes 22 = .ok (.invokestatic 212, 3) := dk_184 0 212 (dk_at dksJ8_getBytes_1 0 rfl rfl)
theorem dJ8_getBytes_25 : decode cJ8_getBytes 25 = .ok (.goto 18, 3) := dk_167 0 18 (dk_at dksJ8_getBytes_1 3 rfl rfl)
theorem dJ8_getBytes_28 : decode cJ8_getBytes 28 = .ok (.aload_n 0, 1) := dk_42 (dk_at dksJ8_getBytes_1 6 rfl rfl)
theorem dJ8_getBytes_29 : decode cJ8_getBytes 29 = .ok (.getfield 9, 3) := dk_180 0 9 (dk_at dksJ8_getBytes_1 7 rfl rfl)
theorem dJ8_getBytes_32 : decode cJ8_getBytes 32 = .ok (.iconst 0, 1) := dk_3 (dk_at dksJ8_getBytes_1 10 rfl rfl)
theorem dJ8_getBytes_33 : decode cJ8_getBytes 33 = .ok (.aload_n 1, 1) := dk_43 (dk_at dksJ8_getBytes_1 11 rfl rfl)
theorem dJ8_getBytes_34 : decode cJ8_getBytes 34 = .ok (.iload_n 2, 1) := dk_28 (dk_at dksJ8_getBytes_1 12 rfl rfl)
theorem dJ8_getBytes_35 : decode cJ8_getBytes 35 = .ok (.aload_n 0, 1) := dk_42 (dk_at dksJ8_getBytes_1 13 rfl rfl)
theorem dJ8_getBytes_36 : decode cJ8_getBytes 36 = .ok (.getfield 9, 3) := dk_180 0 9 (dk_at dksJ8_getBytes_1 14 rfl rfl)
theorem dJ8_getBytes_39 : decode cJ8_getBytes 39 = .ok (.arraylength, 1) := dk_190 (dk_at dksJ8_getBytes_1 17 rfl rfl)
theorem dJ8_getBytes_40 : decode cJ8_getBytes 40 = .ok (.invokestatic 106, 3) := dk_184 0 106 (dk_at dksJ8_getBytes_1 18 rfl rfl)
theorem dJ8_getBytes_43 : decode cJ8_getBytes 43 = .ok (.return_, 1) := dk_177 (dk_at dksJ8_getBytes_1 21 rfl rfl)
theorem q70 : (Jvm.Cond.initialized "java/lang/String") ∈ lw_all := lw_g (lw_at lw_m1 14 rfl) rfl
theorem q372 : (Jvm.Cond.instantiable "java/lang/String" (4 : Nat)) ∈ lw_all := lw_g (lw_at lw_m2 76 rfl) rfl
theorem q373 : (Jvm.Cond.laysFinal "java/lang/String" "java/lang/String" "value" "[B") ∈ lw_all := lw_g (lw_at lw_m2 77 rfl) rfl
theorem q374 : (Jvm.Cond.soleField "java/lang/String" "value") ∈ lw_all := lw_g (lw_at lw_m2 78 rfl) rfl
theorem q375 : (Jvm.Cond.laysFinal "java/lang/String" "java/lang/String" "coder" "B") ∈ lw_all := lw_g (lw_at lw_m2 79 rfl) rfl
theorem q376 : (Jvm.Cond.soleField "java/lang/String" "coder") ∈ lw_all := lw_g (lw_at lw_m2 80 rfl) rfl
theorem q490 : (Jvm.Cond.laysStatic "java/lang/String" "COMPACT_STRINGS" "Z") ∈ lw_tbl := lw_at lw_m2 194 rfl
theorem q500 : (Jvm.Cond.fieldLink "java/lang/String" (1048 : Nat) "java/lang/AbstractStringBuilder" "maybeLatin1" "Z") ∈ lw_all := lw_g (lw_at lw_m2 204 rfl) rfl
theorem q576 : (Jvm.Cond.static ({ cls := "java/lang/String", name := "checkBoundsOffCount", desc := "(III)I" } : Jvm.MethodName)) ∈ lw_all := lw_g (lw_at lw_m3 40 rfl) rfl
theorem q577 : (Jvm.Cond.code ({ cls := "java/lang/String", name := "checkBoundsOffCount", desc := "(III)I" } : Jvm.MethodName) prog_33_method_157_code (3 : Nat) (Option.some Jvm.ClassFile.FieldType.int)) ∈ lw_all := lw_g (lw_at lw_m3 41 rfl) rfl
theorem q578 : (Jvm.Cond.fieldLink "java/lang/String" (1053 : Nat) "jdk/internal/util/Preconditions" "SIOOBE_FORMATTER" "Ljava/util/function/BiFunction;") ∈ lw_all := lw_g (lw_at lw_m3 42 rfl) rfl
theorem q580 : (Jvm.Cond.methodLink "java/lang/String" (1065 : Nat) ({ cls := "jdk/internal/util/Preconditions", name := "checkFromIndexSize", desc := "(IIILjava/util/function/BiFunction;)I" } : Jvm.MethodName)) ∈ lw_all := lw_g (lw_at lw_m3 44 rfl) rfl
theorem q599 : (Jvm.Cond.static ({ cls := "java/lang/String", name := "checkIndex", desc := "(II)V" } : Jvm.MethodName)) ∈ lw_all := lw_g (lw_at lw_m3 63 rfl) rfl
theorem q600 : (Jvm.Cond.code ({ cls := "java/lang/String", name := "checkIndex", desc := "(II)V" } : Jvm.MethodName) prog_33_method_155_code (2 : Nat) (Option.none : Option Jvm.ClassFile.FieldType)) ∈ lw_all := lw_g (lw_at lw_m3 64 rfl) rfl
theorem q601 : (Jvm.Cond.methodLink "java/lang/String" (1059 : Nat) ({ cls := "jdk/internal/util/Preconditions", name := "checkIndex", desc := "(IILjava/util/function/BiFunction;)I" } : Jvm.MethodName)) ∈ lw_all := lw_g (lw_at lw_m3 65 rfl) rfl
theorem q610 : (Jvm.Cond.instanceMethod ({ cls := "java/lang/String", name := "<init>", desc := "(Ljava/lang/StringBuilder;)V" } : Jvm.MethodName)) ∈ lw_all := lw_g (lw_at lw_m3 74 rfl) rfl
theorem q611 : (Jvm.Cond.code ({ cls := "java/lang/String", name := "<init>", desc := "(Ljava/lang/StringBuilder;)V" } : Jvm.MethodName) prog_33_method_53_code (2 : Nat) (Option.none : Option Jvm.ClassFile.FieldType)) ∈ lw_all := lw_g (lw_at lw_m3 75 rfl) rfl
theorem q612 : (Jvm.Cond.methodLink "java/lang/String" (489 : Nat) ({ cls := "java/lang/String", name := "<init>", desc := "(Ljava/lang/AbstractStringBuilder;Ljava/lang/Void;)V" } : Jvm.MethodName)) ∈ lw_all := lw_g (lw_at lw_m3 76 rfl) rfl
theorem q613 : (Jvm.Cond.instanceMethod ({ cls := "java/lang/String", name := "<init>", desc := "(Ljava/lang/AbstractStringBuilder;Ljava/lang/Void;)V" } : Jvm.MethodName)) ∈ lw_all := lw_g (lw_at lw_m3 77 rfl) rfl
theorem q614 : (Jvm.Cond.code ({ cls := "java/lang/String", name := "<init>", desc := "(Ljava/lang/AbstractStringBuilder;Ljava/lang/Void;)V" } : Jvm.MethodName) prog_33_method_150_code (5 : Nat) (Option.none : Option Jvm.ClassFile.FieldType)) ∈ lw_all := lw_g (lw_at lw_m3 78 rfl) rfl
theorem q615 : (Jvm.Cond.methodLink "java/lang/String" (1 : Nat) ({ cls := "java/lang/Object", name := "<init>", desc := "()V" } : Jvm.MethodName)) ∈ lw_all := lw_g (lw_at lw_m3 79 rfl) rfl
theorem q616 : (Jvm.Cond.methodLink "java/lang/String" (552 : Nat) ({ cls := "java/lang/AbstractStringBuilder", name := "getValue", desc := "()[B" } : Jvm.MethodName)) ∈ lw_all := lw_g (lw_at lw_m3 80 rfl) rfl
theorem q621 : (Jvm.Cond.methodLink "java/lang/String" (549 : Nat) ({ cls := "java/lang/AbstractStringBuilder", name := "length", desc := "()I" } : Jvm.MethodName)) ∈ lw_all := lw_g (lw_at lw_m3 85 rfl) rfl
theorem q629 : (Jvm.Cond.methodLink "java/lang/String" (1047 : Nat) ({ cls := "java/lang/AbstractStringBuilder", name := "isLatin1", desc := "()Z" } : Jvm.MethodName)) ∈ lw_all := lw_g (lw_at lw_m3 93 rfl) rfl
theorem q630 : (Jvm.Cond.methodLink "java/lang/String" (54 : Nat) ({ cls := "java/util/Arrays", name := "copyOfRange", desc := "([BII)[B" } : Jvm.MethodName)) ∈ lw_all := lw_g (lw_at lw_m3 94 rfl) rfl
theorem q639 : (Jvm.Cond.fieldLink "java/lang/String" (38 : Nat) "java/lang/String" "COMPACT_STRINGS" "Z") ∈ lw_all := lw_g (lw_at lw_m3 103 rfl) rfl
theorem q640 : (Jvm.Cond.methodLink "java/lang/String" (1051 : Nat) ({ cls := "java/lang/StringUTF16", name := "compress", desc := "([BII)[B" } : Jvm.MethodName)) ∈ lw_all := lw_g (lw_at lw_m3 104 rfl) rfl
theorem q650 : (Jvm.Cond.methodLink "java/lang/String" (47 : Nat) ({ cls := "java/lang/StringUTF16", name := "coderFromArrayLen", desc := "([BI)B" } : Jvm.MethodName)) ∈ lw_all := lw_g (lw_at lw_m3 114 rfl) rfl
theorem q653 : (Jvm.Cond.fieldLink "java/lang/String" (9 : Nat) "java/lang/String" "value" "[B") ∈ lw_all := lw_g (lw_at lw_m3 117 rfl) rfl
theorem q654 : (Jvm.Cond.fieldLink "java/lang/String" (15 : Nat) "java/lang/String" "coder" "B") ∈ lw_all := lw_g (lw_at lw_m3 118 rfl) rfl
theorem q655 : (Jvm.Cond.lays "java/lang/String" "java/lang/String" "hash" "I") ∈ lw_all := lw_g (lw_at lw_m3 119 rfl) rfl
theorem q656 : (Jvm.Cond.soleField "java/lang/String" "hash") ∈ lw_all := lw_g (lw_at lw_m3 120 rfl) rfl
theorem q657 : (Jvm.Cond.lays "java/lang/String" "java/lang/String" "hashIsZero" "Z") ∈ lw_all := lw_g (lw_at lw_m3 121 rfl) rfl
theorem q658 : (Jvm.Cond.soleField "java/lang/String" "hashIsZero") ∈ lw_all := lw_g (lw_at lw_m3 122 rfl) rfl
theorem q659 : (Jvm.Cond.superclass "java/lang/String" "java/lang/Object") ∈ lw_all := lw_g (lw_at lw_m3 123 rfl) rfl
theorem q664 : (Jvm.Cond.instanceMethod ({ cls := "java/lang/String", name := "equals", desc := "(Ljava/lang/Object;)Z" } : Jvm.MethodName)) ∈ lw_all := lw_g (lw_at lw_m3 128 rfl) rfl
theorem q665 : (Jvm.Cond.selects "java/lang/String" ({ cls := "java/lang/String", name := "equals", desc := "(Ljava/lang/Object;)Z" } : Jvm.MethodName) ({ cls := "java/lang/String", name := "equals", desc := "(Ljava/lang/Object;)Z" } : Jvm.MethodName)) ∈ lw_all := lw_g (lw_at lw_m3 129 rfl) rfl
theorem q666 : (Jvm.Cond.code ({ cls := "java/lang/String", name := "equals", desc := "(Ljava/lang/Object;)Z" } : Jvm.MethodName) prog_33_method_66_code (3 : Nat) (Option.some Jvm.ClassFile.FieldType.boolean)) ∈ lw_all := lw_g (lw_at lw_m3 130 rfl) rfl
theorem q667 : (Jvm.Cond.classLink "java/lang/String" (10 : Nat) "java/lang/String") ∈ lw_all := lw_g (lw_at lw_m3 131 rfl) rfl
theorem q668 : (Jvm.Cond.methodLink "java/lang/String" (541 : Nat) ({ cls := "java/lang/StringLatin1", name := "equals", desc := "([B[B)Z" } : Jvm.MethodName)) ∈ lw_all := lw_g (lw_at lw_m3 132 rfl) rfl
theorem q783 : (Jvm.Cond.selects "java/lang/String" ({ cls := "java/lang/Object", name := "getClass", desc := "()Ljava/lang/Class;" } : Jvm.MethodName) ({ cls := "java/lang/Object", name := "getClass", desc := "()Ljava/lang/Class;" } : Jvm.MethodName)) ∈ lw_all := lw_g (lw_at lw_m4 7 rfl) rfl
theorem q955 : (Jvm.Cond.static ({ cls := "java/lang/String", name := "checkBoundsBeginEnd", desc := "(III)V" } : Jvm.MethodName)) ∈ lw_all := lw_g (lw_at lw_m4 179 rfl) rfl
theorem q956 : (Jvm.Cond.code ({ cls := "java/lang/String", name := "checkBoundsBeginEnd", desc := "(III)V" } : Jvm.MethodName) prog_33_method_158_code (3 : Nat) (Option.none : Option Jvm.ClassFile.FieldType)) ∈ lw_all := lw_g (lw_at lw_m4 180 rfl) rfl
theorem q957 : (Jvm.Cond.methodLink "java/lang/String" (1062 : Nat) ({ cls := "jdk/internal/util/Preconditions", name := "checkFromToIndex", desc := "(IIILjava/util/function/BiFunction;)I" } : Jvm.MethodName)) ∈ lw_all := lw_g (lw_at lw_m4 181 rfl) rfl
theorem q961 : (Jvm.Cond.instanceMethod ({ cls := "java/lang/String", name := "length", desc := "()I" } : Jvm.MethodName)) ∈ lw_all := lw_g (lw_at lw_m4 185 rfl) rfl
theorem q962 : (Jvm.Cond.selects "java/lang/String" ({ cls := "java/lang/String", name := "length", desc := "()I" } : Jvm.MethodName) ({ cls := "java/lang/String", name := "length", desc := "()I" } : Jvm.MethodName)) ∈ lw_all := lw_g (lw_at lw_m4 186 rfl) rfl
theorem q963 : (Jvm.Cond.code ({ cls := "java/lang/String", name := "length", desc := "()I" } : Jvm.MethodName) prog_33_method_54_code (1 : Nat) (Option.some Jvm.ClassFile.FieldType.int)) ∈ lw_all := lw_g (lw_at lw_m4 187 rfl) rfl
theorem q964 : (Jvm.Cond.methodLink "java/lang/String" (335 : Nat) ({ cls := "java/lang/String", name := "coder", desc := "()B" } : Jvm.MethodName)) ∈ lw_all := lw_g (lw_at lw_m4 188 rfl) rfl
theorem q965 : (Jvm.Cond.instanceMethod ({ cls := "java/lang/String", name := "coder", desc := "()B" } : Jvm.MethodName)) ∈ lw_all := lw_g (lw_at lw_m4 189 rfl) rfl
theorem q966 : (Jvm.Cond.selects "java/lang/String" ({ cls := "java/lang/String", name := "coder", desc := "()B" } : Jvm.MethodName) ({ cls := "java/lang/String", name := "coder", desc := "()B" } : Jvm.MethodName)) ∈ lw_all := lw_g (lw_at lw_m4 190 rfl) rfl
theorem q967 : (Jvm.Cond.code ({ cls := "java/lang/String", name := "coder", desc := "()B" } : Jvm.MethodName) prog_33_method_152_code (1 : Nat) (Option.some Jvm.ClassFile.FieldType.byte)) ∈ lw_all := lw_g (lw_at lw_m4 191 rfl) rfl
theorem q978 : (Jvm.Cond.instanceMethod ({ cls := "java/lang/String", name := "getBytes", desc := "([BIB)V" } : Jvm.MethodName)) ∈ lw_all := lw_g (lw_at lw_m4 202 rfl) rfl
theorem q979 : (Jvm.Cond.selects "java/lang/String" ({ cls := "java/lang/String", name := "getBytes", desc := "([BIB)V" } : Jvm.MethodName) ({ cls := "java/lang/String", name := "getBytes", desc := "([BIB)V" } : Jvm.MethodName)) ∈ lw_all := lw_g (lw_at lw_m4 203 rfl) rfl
theorem q980 : (Jvm.Cond.code ({ cls := "java/lang/String", name := "getBytes", desc := "([BIB)V" } : Jvm.MethodName) prog_33_method_147_code (4 : Nat) (Option.none : Option Jvm.ClassFile.FieldType)) ∈ lw_all := lw_g (lw_at lw_m4 204 rfl) rfl
theorem q981 : (Jvm.Cond.methodLink "java/lang/String" (212 : Nat) ({ cls := "java/lang/System", name := "arraycopy", desc := "(Ljava/lang/Object;ILjava/lang/Object;II)V" } : Jvm.MethodName)) ∈ lw_all := lw_g (lw_at lw_m4 205 rfl) rfl
theorem q982 : (Jvm.Cond.methodLink "java/lang/String" (106 : Nat) ({ cls := "java/lang/StringLatin1", name := "inflate", desc := "([BI[BII)V" } : Jvm.MethodName)) ∈ lw_all := lw_g (lw_at lw_m4 206 rfl) rfl
theorem q1980 : (Jvm.Cond.castable "java/lang/String" "java/lang/Object") ∈ lw_tbl := lw_at lw_m9 4 rfl
theorem in_J8 : ∀ w ∈ wsJ80, w ∈ lw_all := lw_in wsJ80 [373, 375, 655, 657] (by decide +kernel) (by decide +kernel)

/-! java/lang/AbstractStringBuilder -/
set_option maxRecDepth 100000
def RJ9 : String := "java/lang/AbstractStringBuilder"
abbrev cJ9_init : ByteArray := prog_19_method_2_code
def yJ9_init : MethodName := ⟨RJ9, "<init>", "(I)V"⟩
def dkwJ9_init_1 : List UInt8 := [167, 0, 16, 42, 27, 184, 0, 26, 181, 0, 15, 42, 4, 181, 0, 22, 177]
abbrev dktJ9_init_1 : List UInt8 := dkwJ9_init_1 ++ []
def dkwJ9_init_0 : List UInt8 := [42, 183, 0, 3, 178, 0, 18, 153, 0, 18, 42, 27, 188, 8, 181, 0, 15, 42, 3, 181, 0, 22]
abbrev dktJ9_init_0 : List UInt8 := dkwJ9_init_0 ++ dktJ9_init_1
theorem dksJ9_init_0 : cJ9_init.data.toList.drop 0 = dktJ9_init_0 := by decide +kernel
theorem dksJ9_init_1 : cJ9_init.data.toList.drop 22 = dktJ9_init_1 := dk_seg dksJ9_init_0 22 rfl rfl
theorem dJ9_init_0 : decode cJ9_init 0 = .ok (.aload_n 0, 1) := dk_42 (dk_at dksJ9_init_0 0 rfl rfl)
theorem dJ9_init_1 : decode cJ9_init 1 = .ok (.invokespecial 3, 3) := dk_183 0 3 (dk_at dksJ9_init_0 1 rfl rfl)
theorem dJ9_init_4 : decode cJ9_init 4 = .ok (.getstatic 18, 3) := dk_178 0 18 (dk_at dksJ9_init_0 4 rfl rfl)
theorem dJ9_init_7 : decode cJ9_init 7 = .ok (.ifCond .eq 18, 3) := dk_153 0 18 (dk_at dksJ9_init_0 7 rfl rfl)
theorem dJ9_init_10 : decode cJ9_init 10 = .ok (.aload_n 0, 1) := dk_42 (dk_at dksJ9_init_0 10 rfl rfl)
theorem dJ9_init_11 : decode cJ9_init 11 = .ok (.iload_n 1, 1) := dk_27 (dk_at dksJ9_init_0 11 rfl rfl)
theorem dJ9_init_12 : decode cJ9_init 12 = .ok (.newarray .byte, 2) := dk_188_8 (dk_at dksJ9_init_0 12 rfl rfl)
theorem dJ9_init_14 : decode cJ9_init 14 = .ok (.putfield 15, 3) := dk_181 0 15 (dk_at dksJ9_init_0 14 rfl rfl)
theorem dJ9_init_17 : decode cJ9_init 17 = .ok (.aload_n 0, 1) := dk_42 (dk_at dksJ9_init_0 17 rfl rfl)
theorem dJ9_init_18 : decode cJ9_init 18 = .ok (.iconst 0, 1) := dk_3 (dk_at dksJ9_init_0 18 rfl rfl)
theorem dJ9_init_19 : decode cJ9_init 19 = .ok (.putfield 22, 3) := dk_181 0 22 (dk_at dksJ9_init_0 19 rfl rfl)
theorem dJ9_init_22 : decode cJ9_init 22 = .ok (.goto 16, 3) := dk_167 0 16 (dk_at dksJ9_init_1 0 rfl rfl)
theorem dJ9_init_25 : decode cJ9_init 25 = .ok (.aload_n 0, 1) := dk_42 (dk_at dksJ9_init_1 3 rfl rfl)
theorem dJ9_init_26 : decode cJ9_init 26 = .ok (.iload_n 1, 1) := dk_27 (dk_at dksJ9_init_1 4 rfl rfl)
theorem dJ9_init_27 : decode cJ9_init 27 = .ok (.invokestatic 26, 3) := dk_184 0 26 (dk_at dksJ9_init_1 5 rfl rfl)
theorem dJ9_init_30 : decode cJ9_init 30 = .ok (.putfield 15, 3) := dk_181 0 15 (dk_at dksJ9_init_1 8 rfl rfl)
theorem dJ9_init_33 : decode cJ9_init 33 = .ok (.aload_n 0, 1) := dk_42 (dk_at dksJ9_init_1 11 rfl rfl)
theorem dJ9_init_34 : decode cJ9_init 34 = .ok (.iconst 1, 1) := dk_4 (dk_at dksJ9_init_1 12 rfl rfl)
theorem dJ9_init_35 : decode cJ9_init 35 = .ok (.putfield 22, 3) := dk_181 0 22 (dk_at dksJ9_init_1 13 rfl rfl)
theorem dJ9_init_38 : decode cJ9_init 38 = .ok (.return_, 1) := dk_177 (dk_at dksJ9_init_1 16 rfl rfl)
abbrev cJ9_append : ByteArray := prog_19_method_31_code
def yJ9_append : MethodName := ⟨RJ9, "append", "(C)Ljava/lang/AbstractStringBuilder;"⟩
def dkwJ9_append_3 : List UInt8 := [181, 0, 79, 27, 184, 0, 197, 42, 176]
abbrev dktJ9_append_3 : List UInt8 := dkwJ9_append_3 ++ []
def dkwJ9_append_2 : List UInt8 := [182, 0, 83, 153, 0, 7, 42, 182, 0, 195, 42, 180, 0, 15, 42, 89, 180, 0, 79, 90, 4, 96]
abbrev dktJ9_append_2 : List UInt8 := dkwJ9_append_2 ++ dktJ9_append_3
def dkwJ9_append_1 : List UInt8 := [42, 180, 0, 15, 42, 89, 180, 0, 79, 90, 4, 96, 181, 0, 79, 27, 145, 84, 167, 0, 33, 42]
abbrev dktJ9_append_1 : List UInt8 := dkwJ9_append_1 ++ dktJ9_append_2
def dkwJ9_append_0 : List UInt8 := [42, 42, 180, 0, 79, 4, 96, 182, 0, 100, 42, 182, 0, 83, 153, 0, 31, 27, 184, 0, 191, 153, 0, 24]
abbrev dktJ9_append_0 : List UInt8 := dkwJ9_append_0 ++ dktJ9_append_1
theorem dksJ9_append_0 : cJ9_append.data.toList.drop 0 = dktJ9_append_0 := by decide +kernel
theorem dksJ9_append_1 : cJ9_append.data.toList.drop 24 = dktJ9_append_1 := dk_seg dksJ9_append_0 24 rfl rfl
theorem dksJ9_append_2 : cJ9_append.data.toList.drop 46 = dktJ9_append_2 := dk_seg dksJ9_append_1 22 rfl rfl
theorem dksJ9_append_3 : cJ9_append.data.toList.drop 68 = dktJ9_append_3 := dk_seg dksJ9_append_2 22 rfl rfl
theorem dJ9_append_0 : decode cJ9_append 0 = .ok (.aload_n 0, 1) := dk_42 (dk_at dksJ9_append_0 0 rfl rfl)
theorem dJ9_append_1 : decode cJ9_append 1 = .ok (.aload_n 0, 1) := dk_42 (dk_at dksJ9_append_0 1 rfl rfl)
theorem dJ9_append_2 : decode cJ9_append 2 = .ok (.getfield 79, 3) := dk_180 0 79 (dk_at dksJ9_append_0 2 rfl rfl)
theorem dJ9_append_5 : decode cJ9_append 5 = .ok (.iconst 1, 1) := dk_4 (dk_at dksJ9_append_0 5 rfl rfl)
theorem dJ9_append_6 : decode cJ9_append 6 = .ok (.iadd, 1) := dk_96 (dk_at dksJ9_append_0 6 rfl rfl)
theorem dJ9_append_7 : decode cJ9_append 7 = .ok (.invokevirtual 100, 3) := dk_182 0 100 (dk_at dksJ9_append_0 7 rfl rfl)
theorem dJ9_append_10 : decode cJ9_append 10 = .ok (.aload_n 0, 1) := dk_42 (dk_at dksJ9_append_0 10 rfl rfl)
theorem dJ9_append_11 : decode cJ9_append 11 = .ok (.invokevirtual 83, 3) := dk_182 0 83 (dk_at dksJ9_append_0 11 rfl rfl)
theorem dJ9_append_14 : decode cJ9_append 14 = .ok (.ifCond .eq 31, 3) := dk_153 0 31 (dk_at dksJ9_append_0 14 rfl rfl)
theorem dJ9_append_17 : decode cJ9_append 17 = .ok (.iload_n 1, 1) := dk_27 (dk_at dksJ9_append_0 17 rfl rfl)
theorem dJ9_append_18 : decode cJ9_append 18 = .ok (.invokestatic 191, 3) := dk_184 0 191 (dk_at dksJ9_append_0 18 rfl rfl)
theorem dJ9_append_21 : decode cJ9_append 21 = .ok (.ifCond .eq 24, 3) := dk_153 0 24 (dk_at dksJ9_append_0 21 rfl rfl)
theorem dJ9_append_24 : decode cJ9_append 24 = .ok (.aload_n 0, 1) := dk_42 (dk_at dksJ9_append_1 0 rfl rfl)
theorem dJ9_append_25 : decode cJ9_append 25 = .ok (.getfield 15, 3) := dk_180 0 15 (dk_at dksJ9_append_1 1 rfl rfl)
theorem dJ9_append_28 : decode cJ9_append 28 = .ok (.aload_n 0, 1) := dk_42 (dk_at dksJ9_append_1 4 rfl rfl)
theorem dJ9_append_29 : decode cJ9_append 29 = .ok (.dup, 1) := dk_89 (dk_at dksJ9_append_1 5 rfl rfl)
theorem dJ9_append_30 : decode cJ9_append 30 = .ok (.getfield 79, 3) := dk_180 0 79 (dk_at dksJ9_append_1 6 rfl rfl)
theorem dJ9_append_33 : decode cJ9_append 33 = .ok (.dup_x1, 1) := dk_90 (dk_at dksJ9_append_1 9 rfl rfl)
theorem dJ9_append_34 : decode cJ9_append 34 = .ok (.iconst 1, 1) := dk_4 (dk_at dksJ9_append_1 10 rfl rfl)
theorem dJ9_append_35 : decode cJ9_append 35 = .ok (.iadd, 1) := dk_96 (dk_at dksJ9_append_1 11 rfl rfl)
theorem dJ9_append_36 : decode cJ9_append 36 = .ok (.putfield 79, 3) := dk_181 0 79 (dk_at dksJ9_append_1 12 rfl rfl)
theorem dJ9_append_39 : decode cJ9_append 39 = .ok (.iload_n 1, 1) := dk_27 (dk_at dksJ9_append_1 15 rfl rfl)
theorem dJ9_append_40 : decode cJ9_append 40 = .ok (.i2b, 1) := dk_145 (dk_at dksJ9_append_1 16 rfl rfl)
theorem dJ9_append_41 : decode cJ9_append 41 = .ok (.bastore, 1) := dk_84 (dk_at dksJ9_append_1 17 rfl rfl)
theorem dJ9_append_42 : decode cJ9_append 42 = .ok (.goto 33, 3) := dk_167 0 33 (dk_at dksJ9_append_1 18 rfl rfl)
theorem dJ9_append_45 : decode cJ9_append 45 = .ok (.aload_n 0, 1) := dk_42 (dk_at dksJ9_append_1 21 rfl rfl)
theorem dJ9_append_46 : decode cJ9_append 46 = .ok (.invokevirtual 83, 3) := dk_182 0 83 (dk_at dksJ9_append_2 0 rfl rfl)
theorem dJ9_append_49 : decode cJ9_append 49 = .ok (.ifCond .eq 7, 3) := dk_153 0 7 (dk_at dksJ9_append_2 3 rfl rfl)
theorem dJ9_append_52 : decode cJ9_append 52 = .ok (.aload_n 0, 1) := dk_42 (dk_at dksJ9_append_2 6 rfl rfl)
theorem dJ9_append_53 : decode cJ9_append 53 = .ok (.invokevirtual 195, 3) := dk_182 0 195 (dk_at dksJ9_append_2 7 rfl rfl)
theorem dJ9_append_56 : decode cJ9_append 56 = .ok (.aload_n 0, 1) := dk_42 (dk_at dksJ9_append_2 10 rfl rfl)
theorem dJ9_append_57 : decode cJ9_append 57 = .ok (.getfield 15, 3) := dk_180 0 15 (dk_at dksJ9_append_2 11 rfl rfl)
theorem dJ9_append_60 : decode cJ9_append 60 = .ok (.aload_n 0, 1) := dk_42 (dk_at dksJ9_append_2 14 rfl rfl)
theorem dJ9_append_61 : decode cJ9_append 61 = .ok (.dup, 1) := dk_89 (dk_at dksJ9_append_2 15 rfl rfl)
theorem dJ9_append_62 : decode cJ9_append 62 = .ok (.getfield 79, 3) := dk_180 0 79 (dk_at dksJ9_append_2 16 rfl rfl)
theorem dJ9_append_65 : decode cJ9_append 65 = .ok (.dup_x1, 1) := dk_90 (dk_at dksJ9_append_2 19 rfl rfl)
theorem dJ9_append_66 : decode cJ9_append 66 = .ok (.iconst 1, 1) := dk_4 (dk_at dksJ9_append_2 20 rfl rfl)
theorem dJ9_append_67 : decode cJ9_append 67 = .ok (.iadd, 1) := dk_96 (dk_at dksJ9_append_2 21 rfl rfl)
theorem dJ9_append_68 : decode cJ9_append 68 = .ok (.putfield 79, 3) := dk_181 0 79 (dk_at dksJ9_append_3 0 rfl rfl)
theorem dJ9_append_71 : decode cJ9_append 71 = .ok (.iload_n 1, 1) := dk_27 (dk_at dksJ9_append_3 3 rfl rfl)
theorem dJ9_append_72 : decode cJ9_append 72 = .ok (.invokestatic 197, 3) := dk_184 0 197 (dk_at dksJ9_append_3 4 rfl rfl)
theorem dJ9_append_75 : decode cJ9_append 75 = .ok (.aload_n 0, 1) := dk_42 (dk_at dksJ9_append_3 7 rfl rfl)
theorem dJ9_append_76 : decode cJ9_append 76 = .ok (.areturn, 1) := dk_176 (dk_at dksJ9_append_3 8 rfl rfl)
abbrev cJ9_ensureCapacityInternal : ByteArray := prog_19_method_9_code
def yJ9_ensureCapacityInternal : MethodName := ⟨RJ9, "ensureCapacityInternal", "(I)V"⟩
def dkwJ9_ensureCapacityInternal_1 : List UInt8 := [182, 0, 104, 42, 180, 0, 22, 120, 184, 0, 108, 181, 0, 15, 177]
abbrev dktJ9_ensureCapacityInternal_1 : List UInt8 := dkwJ9_ensureCapacityInternal_1 ++ []
def dkwJ9_ensureCapacityInternal_0 : List UInt8 := [42, 180, 0, 15, 190, 42, 180, 0, 22, 122, 61, 27, 28, 100, 158, 0, 24, 42, 42, 180, 0, 15, 42, 27]
abbrev dktJ9_ensureCapacityInternal_0 : List UInt8 := dkwJ9_ensureCapacityInternal_0 ++ dktJ9_ensureCapacityInternal_1
theorem dksJ9_ensureCapacityInternal_0 : cJ9_ensureCapacityInternal.data.toList.drop 0 = dktJ9_ensureCapacityInternal_0 := by decide +kernel
theorem dksJ9_ensureCapacityInternal_1 : cJ9_ensureCapacityInternal.data.toList.drop 24 = dktJ9_ensureCapacityInternal_1 := dk_seg dksJ9_ensureCapacityInternal_0 24 rfl rfl
theorem dJ9_ensureCapacityInternal_0 : decode cJ9_ensureCapacityInternal 0 = .ok (.aload_n 0, 1) := dk_42 (dk_at dksJ9_ensureCapacityInternal_0 0 rfl rfl)
theorem dJ9_ensureCapacityInternal_1 : decode cJ9_ensureCapacityInternal 1 = .ok (.getfield 15, 3) := dk_180 0 15 (dk_at dksJ9_ensureCapacityInternal_0 1 rfl rfl)
theorem dJ9_ensureCapacityInternal_4 : decode cJ9_ensureCapacityInternal 4 = .ok (.arraylength, 1) := dk_190 (dk_at dksJ9_ensureCapacityInternal_0 4 rfl rfl)
theorem dJ9_ensureCapacityInternal_5 : decode cJ9_ensureCapacityInternal 5 = .ok (.aload_n 0, 1) := dk_42 (dk_at dksJ9_ensureCapacityInternal_0 5 rfl rfl)
theorem dJ9_ensureCapacityInternal_6 : decode cJ9_ensureCapacityInternal 6 = .ok (.getfield 22, 3) := dk_180 0 22 (dk_at dksJ9_ensureCapacityInternal_0 6 rfl rfl)
theorem dJ9_ensureCapacityInternal_9 : decode cJ9_ensureCapacityInternal 9 = .ok (.ishr, 1) := dk_122 (dk_at dksJ9_ensureCapacityInternal_0 9 rfl rfl)
theorem dJ9_ensureCapacityInternal_10 : decode cJ9_ensureCapacityInternal 10 = .ok (.istore_n 2, 1) := dk_61 (dk_at dksJ9_ensureCapacityInternal_0 10 rfl rfl)
theorem dJ9_ensureCapacityInternal_11 : decode cJ9_ensureCapacityInternal 11 = .ok (.iload_n 1, 1) := dk_27 (dk_at dksJ9_ensureCapacityInternal_0 11 rfl rfl)
theorem dJ9_ensureCapacityInternal_12 : decode cJ9_ensureCapacityInternal 12 = .ok (.iload_n 2, 1) := dk_28 (dk_at dksJ9_ensureCapacityInternal_0 12 rfl rfl)
theorem dJ9_ensureCapacityInternal_13 : decode cJ9_ensureCapacityInternal 13 = .ok (.isub, 1) := dk_100 (dk_at dksJ9_ensureCapacityInternal_0 13 rfl rfl)
theorem dJ9_ensureCapacityInternal_14 : decode cJ9_ensureCapacityInternal 14 = .ok (.ifCond .le 24, 3) := dk_158 0 24 (dk_at dksJ9_ensureCapacityInternal_0 14 rfl rfl)
theorem dJ9_ensureCapacityInternal_17 : decode cJ9_ensureCapacityInternal 17 = .ok (.aload_n 0, 1) := dk_42 (dk_at dksJ9_ensureCapacityInternal_0 17 rfl rfl)
theorem dJ9_ensureCapacityInternal_18 : decode cJ9_ensureCapacityInternal 18 = .ok (.aload_n 0, 1) := dk_42 (dk_at dksJ9_ensureCapacityInternal_0 18 rfl rfl)
theorem dJ9_ensureCapacityInternal_19 : decode cJ9_ensureCapacityInternal 19 = .ok (.getfield 15, 3) := dk_180 0 15 (dk_at dksJ9_ensureCapacityInternal_0 19 rfl rfl)
theorem dJ9_ensureCapacityInternal_22 : decode cJ9_ensureCapacityInternal 22 = .ok (.aload_n 0, 1) := dk_42 (dk_at dksJ9_ensureCapacityInternal_0 22 rfl rfl)
theorem dJ9_ensureCapacityInternal_23 : decode cJ9_ensureCapacityInternal 23 = .ok (.iload_n 1, 1) := dk_27 (dk_at dksJ9_ensureCapacityInternal_0 23 rfl rfl)
theorem dJ9_ensureCapacityInternal_24 : decode cJ9_ensureCapacityInternal 24 = .ok (.invokevirtual 104, 3) := dk_182 0 104 (dk_at dksJ9_ensureCapacityInternal_1 0 rfl rfl)
theorem dJ9_ensureCapacityInternal_27 : decode cJ9_ensureCapacityInternal 27 = .ok (.aload_n 0, 1) := dk_42 (dk_at dksJ9_ensureCapacityInternal_1 3 rfl rfl)
theorem dJ9_ensureCapacityInternal_28 : decode cJ9_ensureCapacityInternal 28 = .ok (.getfield 22, 3) := dk_180 0 22 (dk_at dksJ9_ensureCapacityInternal_1 4 rfl rfl)
theorem dJ9_ensureCapacityInternal_31 : decode cJ9_ensureCapacityInternal 31 = .ok (.ishl, 1) := dk_120 (dk_at dksJ9_ensureCapacityInternal_1 7 rfl rfl)
theorem dJ9_ensureCapacityInternal_32 : decode cJ9_ensureCapacityInternal 32 = .ok (.invokestatic 108, 3) := dk_184 0 108 (dk_at dksJ9_ensureCapacityInternal_1 8 rfl rfl)
theorem dJ9_ensureCapacityInternal_35 : decode cJ9_ensureCapacityInternal 35 = .ok (.putfield 15, 3) := dk_181 0 15 (dk_at dksJ9_ensureCapacityInternal_1 11 rfl rfl)
theorem dJ9_ensureCapacityInternal_38 : decode cJ9_ensureCapacityInternal 38 = .ok (.return_, 1) := dk_177 (dk_at dksJ9_ensureCapacityInternal_1 14 rfl rfl)
abbrev cJ9_newCapacity : ByteArray := prog_19_method_10_code
def yJ9_newCapacity : MethodName := ⟨RJ9, "newCapacity", "(I)I"⟩
def dkwJ9_newCapacity_2 : List UInt8 := [183, 0, 124, 191, 21, 5, 42, 180, 0, 22, 122, 172]
abbrev dktJ9_newCapacity_2 : List UInt8 := dkwJ9_newCapacity_2 ++ []
def dkwJ9_newCapacity_1 : List UInt8 := [180, 0, 22, 120, 96, 184, 0, 114, 54, 5, 21, 5, 18, 39, 160, 0, 13, 187, 0, 120, 89, 18, 122]
abbrev dktJ9_newCapacity_1 : List UInt8 := dkwJ9_newCapacity_1 ++ dktJ9_newCapacity_2
def dkwJ9_newCapacity_0 : List UInt8 := [42, 180, 0, 15, 190, 61, 27, 42, 180, 0, 22, 120, 62, 29, 28, 100, 54, 4, 28, 21, 4, 28, 5, 42]
abbrev dktJ9_newCapacity_0 : List UInt8 := dkwJ9_newCapacity_0 ++ dktJ9_newCapacity_1
theorem dksJ9_newCapacity_0 : cJ9_newCapacity.data.toList.drop 0 = dktJ9_newCapacity_0 := by decide +kernel
theorem dksJ9_newCapacity_1 : cJ9_newCapacity.data.toList.drop 24 = dktJ9_newCapacity_1 := dk_seg dksJ9_newCapacity_0 24 rfl rfl
theorem dksJ9_newCapacity_2 : cJ9_newCapacity.data.toList.drop 47 = dktJ9_newCapacity_2 := dk_seg dksJ9_newCapacity_1 23 rfl rfl
theorem dJ9_newCapacity_0 : decode cJ9_newCapacity 0 = .ok (.aload_n 0, 1) := dk_42 (dk_at dksJ9_newCapacity_0 0 rfl rfl)
theorem dJ9_newCapacity_1 : decode cJ9_newCapacity 1 = .ok (.getfield 15, 3) := dk_180 0 15 (dk_at dksJ9_newCapacity_0 1 rfl rfl)
theorem dJ9_newCapacity_4 : decode cJ9_newCapacity 4 = .ok (.arraylength, 1) := dk_190 (dk_at dksJ9_newCapacity_0 4 rfl rfl)
theorem dJ9_newCapacity_5 : decode cJ9_newCapacity 5 = .ok (.istore_n 2, 1) := dk_61 (dk_at dksJ9_newCapacity_0 5 rfl rfl)
theorem dJ9_newCapacity_6 : decode cJ9_newCapacity 6 = .ok (.iload_n 1, 1) := dk_27 (dk_at dksJ9_newCapacity_0 6 rfl rfl)
theorem dJ9_newCapacity_7 : decode cJ9_newCapacity 7 = .ok (.aload_n 0, 1) := dk_42 (dk_at dksJ9_newCapacity_0 7 rfl rfl)
theorem dJ9_newCapacity_8 : decode cJ9_newCapacity 8 = .ok (.getfield 22, 3) := dk_180 0 22 (dk_at dksJ9_newCapacity_0 8 rfl rfl)
theorem dJ9_newCapacity_11 : decode cJ9_newCapacity 11 = .ok (.ishl, 1) := dk_120 (dk_at dksJ9_newCapacity_0 11 rfl rfl)
theorem dJ9_newCapacity_12 : decode cJ9_newCapacity 12 = .ok (.istore_n 3, 1) := dk_62 (dk_at dksJ9_newCapacity_0 12 rfl rfl)
theorem dJ9_newCapacity_13 : decode cJ9_newCapacity 13 = .ok (.iload_n 3, 1) := dk_29 (dk_at dksJ9_newCapacity_0 13 rfl rfl)
theorem dJ9_newCapacity_14 : decode cJ9_newCapacity 14 = .ok (.iload_n 2, 1) := dk_28 (dk_at dksJ9_newCapacity_0 14 rfl rfl)
theorem dJ9_newCapacity_15 : decode cJ9_newCapacity 15 = .ok (.isub, 1) := dk_100 (dk_at dksJ9_newCapacity_0 15 rfl rfl)
theorem dJ9_newCapacity_16 : decode cJ9_newCapacity 16 = .ok (.istore 4, 2) := dk_54 4 (dk_at dksJ9_newCapacity_0 16 rfl rfl)
theorem dJ9_newCapacity_18 : decode cJ9_newCapacity 18 = .ok (.iload_n 2, 1) := dk_28 (dk_at dksJ9_newCapacity_0 18 rfl rfl)
theorem dJ9_newCapacity_19 : decode cJ9_newCapacity 19 = .ok (.iload 4, 2) := dk_21 4 (dk_at dksJ9_newCapacity_0 19 rfl rfl)
theorem dJ9_newCapacity_21 : decode cJ9_newCapacity 21 = .ok (.iload_n 2, 1) := dk_28 (dk_at dksJ9_newCapacity_0 21 rfl rfl)
theorem dJ9_newCapacity_22 : decode cJ9_newCapacity 22 = .ok (.iconst 2, 1) := dk_5 (dk_at dksJ9_newCapacity_0 22 rfl rfl)
theorem dJ9_newCapacity_23 : decode cJ9_newCapacity 23 = .ok (.aload_n 0, 1) := dk_42 (dk_at dksJ9_newCapacity_0 23 rfl rfl)
theorem dJ9_newCapacity_24 : decode cJ9_newCapacity 24 = .ok (.getfield 22, 3) := dk_180 0 22 (dk_at dksJ9_newCapacity_1 0 rfl rfl)
theorem dJ9_newCapacity_27 : decode cJ9_newCapacity 27 = .ok (.ishl, 1) := dk_120 (dk_at dksJ9_newCapacity_1 3 rfl rfl)
theorem dJ9_newCapacity_28 : decode cJ9_newCapacity 28 = .ok (.iadd, 1) := dk_96 (dk_at dksJ9_newCapacity_1 4 rfl rfl)
theorem dJ9_newCapacity_29 : decode cJ9_newCapacity 29 = .ok (.invokestatic 114, 3) := dk_184 0 114 (dk_at dksJ9_newCapacity_1 5 rfl rfl)
theorem dJ9_newCapacity_32 : decode cJ9_newCapacity 32 = .ok (.istore 5, 2) := dk_54 5 (dk_at dksJ9_newCapacity_1 8 rfl rfl)
theorem dJ9_newCapacity_34 : decode cJ9_newCapacity 34 = .ok (.iload 5, 2) := dk_21 5 (dk_at dksJ9_newCapacity_1 10 rfl rfl)
theorem dJ9_newCapacity_36 : decode cJ9_newCapacity 36 = .ok (.ldc 39, 2) := dk_18 39 (dk_at dksJ9_newCapacity_1 12 rfl rfl)
theorem dJ9_newCapacity_38 : decode cJ9_newCapacity 38 = .ok (.if_icmp .ne 13, 3) := dk_160 0 13 (dk_at dksJ9_newCapacity_1 14 rfl rfl)
theorem dJ9_newCapacity_41 : decode cJ9_newCapacity 41 = .ok (.new 120, 3) := dk_187 0 120 (dk_at dksJ9_newCapacity_1 17 rfl rfl)
theorem dJ9_newCapacity_44 : decode cJ9_newCapacity 44 = .ok (.dup, 1) := dk_89 (dk_at dksJ9_newCapacity_1 20 rfl rfl)
theorem dJ9_newCapacity_45 : decode cJ9_newCapacity 45 = .ok (.ldc 122, 2) := dk_18 122 (dk_at dksJ9_newCapacity_1 21 rfl rfl)
theorem dJ9_newCapacity_47 : decode cJ9_newCapacity 47 = .ok (.invokespecial 124, 3) := dk_183 0 124 (dk_at dksJ9_newCapacity_2 0 rfl rfl)
theorem dJ9_newCapacity_50 : decode cJ9_newCapacity 50 = .ok (.athrow, 1) := dk_191 (dk_at dksJ9_newCapacity_2 3 rfl rfl)
theorem dJ9_newCapacity_51 : decode cJ9_newCapacity 51 = .ok (.iload 5, 2) := dk_21 5 (dk_at dksJ9_newCapacity_2 4 rfl rfl)
theorem dJ9_newCapacity_53 : decode cJ9_newCapacity 53 = .ok (.aload_n 0, 1) := dk_42 (dk_at dksJ9_newCapacity_2 6 rfl rfl)
theorem dJ9_newCapacity_54 : decode cJ9_newCapacity 54 = .ok (.getfield 22, 3) := dk_180 0 22 (dk_at dksJ9_newCapacity_2 7 rfl rfl)
theorem dJ9_newCapacity_57 : decode cJ9_newCapacity 57 = .ok (.ishr, 1) := dk_122 (dk_at dksJ9_newCapacity_2 10 rfl rfl)
theorem dJ9_newCapacity_58 : decode cJ9_newCapacity 58 = .ok (.ireturn, 1) := dk_172 (dk_at dksJ9_newCapacity_2 11 rfl rfl)
abbrev cJ9_isLatin1 : ByteArray := prog_19_method_68_code
def yJ9_isLatin1 : MethodName := ⟨RJ9, "isLatin1", "()Z"⟩
def dkwJ9_isLatin1_0 : List UInt8 := [178, 0, 18, 153, 0, 14, 42, 180, 0, 22, 154, 0, 7, 4, 167, 0, 4, 3, 172]
abbrev dktJ9_isLatin1_0 : List UInt8 := dkwJ9_isLatin1_0 ++ []
theorem dksJ9_isLatin1_0 : cJ9_isLatin1.data.toList.drop 0 = dktJ9_isLatin1_0 := by decide +kernel
theorem dJ9_isLatin1_0 : decode cJ9_isLatin1 0 = .ok (.getstatic 18, 3) := dk_178 0 18 (dk_at dksJ9_isLatin1_0 0 rfl rfl)
theorem dJ9_isLatin1_3 : decode cJ9_isLatin1 3 = .ok (.ifCond .eq 14, 3) := dk_153 0 14 (dk_at dksJ9_isLatin1_0 3 rfl rfl)
theorem dJ9_isLatin1_6 : decode cJ9_isLatin1 6 = .ok (.aload_n 0, 1) := dk_42 (dk_at dksJ9_isLatin1_0 6 rfl rfl)
theorem dJ9_isLatin1_7 : decode cJ9_isLatin1 7 = .ok (.getfield 22, 3) := dk_180 0 22 (dk_at dksJ9_isLatin1_0 7 rfl rfl)
theorem dJ9_isLatin1_10 : decode cJ9_isLatin1 10 = .ok (.ifCond .ne 7, 3) := dk_154 0 7 (dk_at dksJ9_isLatin1_0 10 rfl rfl)
theorem dJ9_isLatin1_13 : decode cJ9_isLatin1 13 = .ok (.iconst 1, 1) := dk_4 (dk_at dksJ9_isLatin1_0 13 rfl rfl)
theorem dJ9_isLatin1_14 : decode cJ9_isLatin1 14 = .ok (.goto 4, 3) := dk_167 0 4 (dk_at dksJ9_isLatin1_0 14 rfl rfl)
theorem dJ9_isLatin1_17 : decode cJ9_isLatin1 17 = .ok (.iconst 0, 1) := dk_3 (dk_at dksJ9_isLatin1_0 17 rfl rfl)
theorem dJ9_isLatin1_18 : decode cJ9_isLatin1 18 = .ok (.ireturn, 1) := dk_172 (dk_at dksJ9_isLatin1_0 18 rfl rfl)
abbrev cJ9_inflate : ByteArray := prog_19_method_11_code
def yJ9_inflate : MethodName := ⟨RJ9, "inflate", "()V"⟩
def dkwJ9_inflate_1 : List UInt8 := [42, 180, 0, 79, 184, 0, 125, 42, 43, 181, 0, 15, 42, 4, 181, 0, 22, 177]
abbrev dktJ9_inflate_1 : List UInt8 := dkwJ9_inflate_1 ++ []
def dkwJ9_inflate_0 : List UInt8 := [42, 182, 0, 83, 154, 0, 4, 177, 42, 180, 0, 15, 190, 184, 0, 26, 76, 42, 180, 0, 15, 3, 43, 3]
abbrev dktJ9_inflate_0 : List UInt8 := dkwJ9_inflate_0 ++ dktJ9_inflate_1
theorem dksJ9_inflate_0 : cJ9_inflate.data.toList.drop 0 = dktJ9_inflate_0 := by decide +kernel
theorem dksJ9_inflate_1 : cJ9_inflate.data.toList.drop 24 = dktJ9_inflate_1 := dk_seg dksJ9_inflate_0 24 rfl rfl
theorem dJ9_inflate_0 : decode cJ9_inflate 0 = .ok (.aload_n 0, 1) := dk_42 (dk_at dksJ9_inflate_0 0 rfl rfl)
theorem dJ9_inflate_1 : decode cJ9_inflate 1 = .ok (.invokevirtual 83, 3) := dk_182 0 83 (dk_at dksJ9_inflate_0 1 rfl rfl)
theorem dJ9_inflate_4 : decode cJ9_inflate 4 = .ok (.ifCond .ne 4, 3) := dk_154 0 4 (dk_at dksJ9_inflate_0 4 rfl rfl)
theorem dJ9_inflate_7 : decode cJ9_inflate 7 = .ok (.return_, 1) := dk_177 (dk_at dksJ9_inflate_0 7 rfl rfl)
theorem dJ9_inflate_8 : decode cJ9_inflate 8 = .ok (.aload_n 0, 1) := dk_42 (dk_at dksJ9_inflate_0 8 rfl rfl)
theorem dJ9_inflate_9 : decode cJ9_inflate 9 = .ok (.getfield 15, 3) := dk_180 0 15 (dk_at dksJ9_inflate_0 9 rfl rfl)
theorem dJ9_inflate_12 : decode cJ9_inflate 12 = .ok (.arraylength, 1) := dk_190 (dk_at dksJ9_inflate_0 12 rfl rfl)
theorem dJ9_inflate_13 : decode cJ9_inflate 13 = .ok (.invokestatic 26, 3) := dk_184 0 26 (dk_at dksJ9_inflate_0 13 rfl rfl)
theorem dJ9_inflate_16 : decode cJ9_inflate 16 = .ok (.astore_n 1, 1) := dk_76 (dk_at dksJ9_inflate_0 16 rfl rfl)
theorem dJ9_inflate_17 : decode cJ9_inflate 17 = .ok (.aload_n 0, 1) := dk_42 (dk_at dksJ9_inflate_0 17 rfl rfl)
theorem dJ9_inflate_18 : decode cJ9_inflate 18 = .ok (.getfield 15, 3) := dk_180 0 15 (dk_at dksJ9_inflate_0 18 rfl rfl)
theorem dJ9_inflate_21 : decode cJ9_inflate 21 = .ok (.iconst 0, 1) := dk_3 (dk_at dksJ9_inflate_0 21 rfl rfl)
theorem dJ9_inflate_22 : decode cJ9_inflate 22 = .ok (.aload_n 1, 1) := dk_43 (dk_at dksJ9_inflate_0 22 rfl rfl)
theorem dJ9_inflate_23 : decode cJ9_inflate 23 = .ok (.iconst 0, 1) := dk_3 (dk_at dksJ9_inflate_0 23 rfl rfl)
theorem dJ9_inflate_24 : decode cJ9_inflate 24 = .ok (.aload_n 0, 1) := dk_42 (dk_at dksJ9_inflate_1 0 rfl rfl)
theorem dJ9_inflate_25 : decode cJ9_inflate 25 = .ok (.getfield 79, 3) := dk_180 0 79 (dk_at dksJ9_inflate_1 1 rfl rfl)
theorem dJ9_inflate_28 : decode cJ9_inflate 28 = .ok (.invokestatic 125, 3) := dk_184 0 125 (dk_at dksJ9_inflate_1 4 rfl rfl)
theorem dJ9_inflate_31 : decode cJ9_inflate 31 = .ok (.aload_n 0, 1) := dk_42 (dk_at dksJ9_inflate_1 7 rfl rfl)
theorem dJ9_inflate_32 : decode cJ9_inflate 32 = .ok (.aload_n 1, 1) := dk_43 (dk_at dksJ9_inflate_1 8 rfl rfl)
theorem dJ9_inflate_33 : decode cJ9_inflate 33 = .ok (.putfield 15, 3) := dk_181 0 15 (dk_at dksJ9_inflate_1 9 rfl rfl)
theorem dJ9_inflate_36 : decode cJ9_inflate 36 = .ok (.aload_n 0, 1) := dk_42 (dk_at dksJ9_inflate_1 12 rfl rfl)
theorem dJ9_inflate_37 : decode cJ9_inflate 37 = .ok (.iconst 1, 1) := dk_4 (dk_at dksJ9_inflate_1 13 rfl rfl)
theorem dJ9_inflate_38 : decode cJ9_inflate 38 = .ok (.putfield 22, 3) := dk_181 0 22 (dk_at dksJ9_inflate_1 14 rfl rfl)
theorem dJ9_inflate_41 : decode cJ9_inflate 41 = .ok (.return_, 1) := dk_177 (dk_at dksJ9_inflate_1 17 rfl rfl)
abbrev cJ9_getValue : ByteArray := prog_19_method_64_code
def yJ9_getValue : MethodName := ⟨RJ9, "getValue", "()[B"⟩
theorem dJ9_getValue_0 : decode cJ9_getValue 0 = .ok (.aload_n 0, 1) := by decide +kernel
theorem dJ9_getValue_1 : decode cJ9_getValue 1 = .ok (.getfield 15, 3) := by decide +kernel
theorem dJ9_getValue_4 : decode cJ9_getValue 4 = .ok (.areturn, 1) := by decide +kernel
abbrev cJ9_length : ByteArray := prog_19_method_6_code
def yJ9_length : MethodName := ⟨RJ9, "length", "()I"⟩
theorem dJ9_length_0 : decode cJ9_length 0 = .ok (.aload_n 0, 1) := by decide +kernel
theorem dJ9_length_1 : decode cJ9_length 1 = .ok (.getfield 79, 3) := by decide +kernel
theorem dJ9_length_4 : decode cJ9_length 4 = .ok (.ireturn, 1) := by decide +kernel
abbrev cJ9_append_2 : ByteArray := prog_19_method_22_code
def yJ9_append_2 : MethodName := ⟨RJ9, "append", "(Ljava/lang/String;)Ljava/lang/AbstractStringBuilder;"⟩
def dkwJ9_append_2_1 : List UInt8 := [42, 42, 180, 0, 79, 43, 182, 0, 208, 42, 89, 180, 0, 79, 28, 96, 181, 0, 79, 42, 176]
abbrev dktJ9_append_2_1 : List UInt8 := dkwJ9_append_2_1 ++ []
def dkwJ9_append_2_0 : List UInt8 := [43, 199, 0, 8, 42, 182, 0, 204, 176, 43, 182, 0, 32, 61, 42, 42, 180, 0, 79, 28, 96, 182, 0, 100]
abbrev dktJ9_append_2_0 : List UInt8 := dkwJ9_append_2_0 ++ dktJ9_append_2_1
theorem dksJ9_append_2_0 : cJ9_append_2.data.toList.drop 0 = dktJ9_append_2_0 := by decide +kernel
theorem dksJ9_append_2_1 : cJ9_append_2.data.toList.drop 24 = dktJ9_append_2_1 := dk_seg dksJ9_append_2_0 24 rfl rfl
theorem dJ9_append_2_0 : decode cJ9_append_2 0 = .ok (.aload_n 1, 1) := dk_43 (dk_at dksJ9_append_2_0 0 rfl rfl)
theorem dJ9_append_2_1 : decode cJ9_append_2 1 = .ok (.ifnonnull 8, 3) := dk_199 0 8 (dk_at dksJ9_append_2_0 1 rfl rfl)
theorem dJ9_append_2_4 : decode cJ9_append_2 4 = .ok (.aload_n 0, 1) := dk_42 (dk_at dksJ9_append_2_0 4 rfl rfl)
theorem dJ9_append_2_5 : decode cJ9_append_2 5 = .ok (.invokevirtual 204, 3) := dk_182 0 204 (dk_at dksJ9_append_2_0 5 rfl rfl)
theorem dJ9_append_2_8 : decode cJ9_append_2 8 = .ok (.areturn, 1) := dk_176 (dk_at dksJ9_append_2_0 8 rfl rfl)
theorem dJ9_append_2_9 : decode cJ9_append_2 9 = .ok (.aload_n 1, 1) := dk_43 (dk_at dksJ9_append_2_0 9 rfl rfl)
theorem dJ9_append_2_10 : decode cJ9_append_2 10 = .ok (.invokevirtual 32, 3) := dk_182 0 32 (dk_at dksJ9_append_2_0 10 rfl rfl)
theorem dJ9_append_2_13 : decode cJ9_append_2 13 = .ok (.istore_n 2, 1) := dk_61 (dk_at dksJ9_append_2_0 13 rfl rfl)
theorem dJ9_append_2_14 : decode cJ9_append_2 14 = .ok (.aload_n 0, 1) := dk_42 (dk_at dksJ9_append_2_0 14 rfl rfl)
theorem dJ9_append_2_15 : decode cJ9_append_2 15 = .ok (.aload_n 0, 1) := dk_42 (dk_at dksJ9_append_2_0 15 rfl rfl)
theorem dJ9_append_2_16 : decode cJ9_append_2 16 = .ok (.getfield 79, 3) := dk_180 0 79 (dk_at dksJ9_append_2_0 16 rfl rfl)
theorem dJ9_append_2_19 : decode cJ9_append_2 19 = .ok (.iload_n 2, 1) := dk_28 (dk_at dksJ9_append_2_0 19 rfl rfl)
theorem dJ9_append_2_20 : decode cJ9_append_2 20 = .ok (.iadd, 1) := dk_96 (dk_at dksJ9_append_2_0 20 rfl rfl)
theorem dJ9_append_2_21 : decode cJ9_append_2 21 = .ok (.invokevirtual 100, 3) := dk_182 0 100 (dk_at dksJ9_append_2_0 21 rfl rfl)
theorem dJ9_append_2_24 : decode cJ9_append_2 24 = .ok (.aload_n 0, 1) := dk_42 (dk_at dksJ9_append_2_1 0 rfl rfl)
theorem dJ9_append_2_25 : decode cJ9_append_2 25 = .ok (.aload_n 0, 1) := dk_42 (dk_at dksJ9_append_2_1 1 rfl rfl)
theorem dJ9_append_2_26 : decode cJ9_append_2 26 = .ok (.getfield 79, 3) := dk_180 0 79 (dk_at dksJ9_append_2_1 2 rfl rfl)
theorem dJ9_append_2_29 : decode cJ9_append_2 29 = .ok (.aload_n 1, 1) := dk_43 (dk_at dksJ9_append_2_1 5 rfl rfl)
theorem dJ9_append_2_30 : decode cJ9_append_2 30 = .ok (.invokevirtual 208, 3) := dk_182 0 208 (dk_at dksJ9_append_2_1 6 rfl rfl)
theorem dJ9_append_2_33 : decode cJ9_append_2 33 = .ok (.aload_n 0, 1) := dk_42 (dk_at dksJ9_append_2_1 9 rfl rfl)
theorem dJ9_append_2_34 : decode cJ9_append_2 34 = .ok (.dup, 1) := dk_89 (dk_at dksJ9_append_2_1 10 rfl rfl)
theorem dJ9_append_2_35 : decode cJ9_append_2 35 = .ok (.getfield 79, 3) := dk_180 0 79 (dk_at dksJ9_append_2_1 11 rfl rfl)
theorem dJ9_append_2_38 : decode cJ9_append_2 38 = .ok (.iload_n 2, 1) := dk_28 (dk_at dksJ9_append_2_1 14 rfl rfl)
theorem dJ9_append_2_39 : decode cJ9_append_2 39 = .ok (.iadd, 1) := dk_96 (dk_at dksJ9_append_2_1 15 rfl rfl)
theorem dJ9_append_2_40 : decode cJ9_append_2 40 = .ok (.putfield 79, 3) := dk_181 0 79 (dk_at dksJ9_append_2_1 16 rfl rfl)
theorem dJ9_append_2_43 : decode cJ9_append_2 43 = .ok (.aload_n 0, 1) := dk_42 (dk_at dksJ9_append_2_1 19 rfl rfl)
theorem dJ9_append_2_44 : decode cJ9_append_2 44 = .ok (.areturn, 1) := dk_176 (dk_at dksJ9_append_2_1 20 rfl rfl)
abbrev cJ9_appendNull : ByteArray := prog_19_method_26_code
def yJ9_appendNull : MethodName := ⟨RJ9, "appendNull", "()Ljava/lang/AbstractStringBuilder;"⟩
def dkwJ9_appendNull_3 : List UInt8 := [184, 0, 226, 60, 42, 27, 181, 0, 79, 42, 176]
abbrev dktJ9_appendNull_3 : List UInt8 := dkwJ9_appendNull_3 ++ []
def dkwJ9_appendNull_2 : List UInt8 := [16, 108, 84, 44, 27, 132, 1, 1, 16, 108, 84, 167, 0, 17, 44, 27, 16, 110, 16, 117, 16, 108, 16, 108]
abbrev dktJ9_appendNull_2 : List UInt8 := dkwJ9_appendNull_2 ++ dktJ9_appendNull_3
def dkwJ9_appendNull_1 : List UInt8 := [153, 0, 38, 44, 27, 132, 1, 1, 16, 110, 84, 44, 27, 132, 1, 1, 16, 117, 84, 44, 27, 132, 1, 1]
abbrev dktJ9_appendNull_1 : List UInt8 := dkwJ9_appendNull_1 ++ dktJ9_appendNull_2
def dkwJ9_appendNull_0 : List UInt8 := [42, 42, 180, 0, 79, 7, 96, 182, 0, 100, 42, 180, 0, 79, 60, 42, 180, 0, 15, 77, 42, 182, 0, 83]
abbrev dktJ9_appendNull_0 : List UInt8 := dkwJ9_appendNull_0 ++ dktJ9_appendNull_1
theorem dksJ9_appendNull_0 : cJ9_appendNull.data.toList.drop 0 = dktJ9_appendNull_0 := by decide +kernel
theorem dksJ9_appendNull_1 : cJ9_appendNull.data.toList.drop 24 = dktJ9_appendNull_1 := dk_seg dksJ9_appendNull_0 24 rfl rfl
theorem dksJ9_appendNull_2 : cJ9_appendNull.data.toList.drop 48 = dktJ9_appendNull_2 := dk_seg dksJ9_appendNull_1 24 rfl rfl
theorem dksJ9_appendNull_3 : cJ9_appendNull.data.toList.drop 72 = dktJ9_appendNull_3 := dk_seg dksJ9_appendNull_2 24 rfl rfl
theorem dJ9_appendNull_0 : decode cJ9_appendNull 0 = .ok (.aload_n 0, 1) := dk_42 (dk_at dksJ9_appendNull_0 0 rfl rfl)
theorem dJ9_appendNull_1 : decode cJ9_appendNull 1 = .ok (.aload_n 0, 1) := dk_42 (dk_at dksJ9_appendNull_0 1 rfl rfl)
theorem dJ9_appendNull_2 : decode cJ9_appendNull 2 = .ok (.getfield 79, 3) := dk_180 0 79 (dk_at dksJ9_appendNull_0 2 rfl rfl)
theorem dJ9_appendNull_5 : decode cJ9_appendNull 5 = .ok (.iconst 4, 1) := dk_7 (dk_at dksJ9_appendNull_0 5 rfl rfl)
theorem dJ9_appendNull_6 : decode cJ9_appendNull 6 = .ok (.iadd, 1) := dk_96 (dk_at dksJ9_appendNull_0 6 rfl rfl)
theorem dJ9_appendNull_7 : decode cJ9_appendNull 7 = .ok (.invokevirtual 100, 3) := dk_182 0 100 (dk_at dksJ9_appendNull_0 7 rfl rfl)
theorem dJ9_appendNull_10 : decode cJ9_appendNull 10 = .ok (.aload_n 0, 1) := dk_42 (dk_at dksJ9_appendNull_0 10 rfl rfl)
theorem dJ9_appendNull_11 : decode cJ9_appendNull 11 = .ok (.getfield 79, 3) := dk_180 0 79 (dk_at dksJ9_appendNull_0 11 rfl rfl)
theorem dJ9_appendNull_14 : decode cJ9_appendNull 14 = .ok (.istore_n 1, 1) := dk_60 (dk_at dksJ9_appendNull_0 14 rfl rfl)
theorem dJ9_appendNull_15 : decode cJ9_appendNull 15 = .ok (.aload_n 0, 1) := dk_42 (dk_at dksJ9_appendNull_0 15 rfl rfl)
theorem dJ9_appendNull_16 : decode cJ9_appendNull 16 = .ok (.getfield 15, 3) := dk_180 0 15 (dk_at dksJ9_appendNull_0 16 rfl rfl)
theorem dJ9_appendNull_19 : decode cJ9_appendNull 19 = .ok (.astore_n 2, 1) := dk_77 (dk_at dksJ9_appendNull_0 19 rfl rfl)
theorem dJ9_appendNull_20 : decode cJ9_appendNull 20 = .ok (.aload_n 0, 1) := dk_42 (dk_at dksJ9_appendNull_0 20 rfl rfl)
theorem dJ9_appendNull_21 : decode cJ9_appendNull 21 = .ok (.invokevirtual 83, 3) := dk_182 0 83 (dk_at dksJ9_appendNull_0 21 rfl rfl)
theorem dJ9_appendNull_24 : decode cJ9_appendNull 24 = .ok (.ifCond .eq 38, 3) := dk_153 0 38 (dk_at dksJ9_appendNull_1 0 rfl rfl)
theorem dJ9_appendNull_27 : decode cJ9_appendNull 27 = .ok (.aload_n 2, 1) := dk_44 (dk_at dksJ9_appendNull_1 3 rfl rfl)
theorem dJ9_appendNull_28 : decode cJ9_appendNull 28 = .ok (.iload_n 1, 1) := dk_27 (dk_at dksJ9_appendNull_1 4 rfl rfl)
theorem dJ9_appendNull_29 : decode cJ9_appendNull 29 = .ok (.iinc 1 1, 3) := dk_132 1 1 (dk_at dksJ9_appendNull_1 5 rfl rfl)
theorem dJ9_appendNull_32 : decode cJ9_appendNull 32 = .ok (.bipush 110, 2) := dk_16 110 (dk_at dksJ9_appendNull_1 8 rfl rfl)
theorem dJ9_appendNull_34 : decode cJ9_appendNull 34 = .ok (.bastore, 1) := dk_84 (dk_at dksJ9_appendNull_1 10 rfl rfl)
theorem dJ9_appendNull_35 : decode cJ9_appendNull 35 = .ok (.aload_n 2, 1) := dk_44 (dk_at dksJ9_appendNull_1 11 rfl rfl)
theorem dJ9_appendNull_36 : decode cJ9_appendNull 36 = .ok (.iload_n 1, 1) := dk_27 (dk_at dksJ9_appendNull_1 12 rfl rfl)
theorem dJ9_appendNull_37 : decode cJ9_appendNull 37 = .ok (.iinc 1 1, 3) := dk_132 1 1 (dk_at dksJ9_appendNull_1 13 rfl rfl)
theorem dJ9_appendNull_40 : decode cJ9_appendNull 40 = .ok (.bipush 117, 2) := dk_16 117 (dk_at dksJ9_appendNull_1 16 rfl rfl)
theorem dJ9_appendNull_42 : decode cJ9_appendNull 42 = .ok (.bastore, 1) := dk_84 (dk_at dksJ9_appendNull_1 18 rfl rfl)
theorem dJ9_appendNull_43 : decode cJ9_appendNull 43 = .ok (.aload_n 2, 1) := dk_44 (dk_at dksJ9_appendNull_1 19 rfl rfl)
theorem dJ9_appendNull_44 : decode cJ9_appendNull 44 = .ok (.iload_n 1, 1) := dk_27 (dk_at dksJ9_appendNull_1 20 rfl rfl)
theorem dJ9_appendNull_45 : decode cJ9_appendNull 45 = .ok (.iinc 1 1, 3) := dk_132 1 1 (dk_at dksJ9_appendNull_1 21 rfl rfl)
theorem dJ9_appendNull_48 : decode cJ9_appendNull 48 = .ok (.bipush 108, 2) := dk_16 108 (dk_at dksJ9_appendNull_2 0 rfl rfl)
theorem dJ9_appendNull_50 : decode cJ9_appendNull 50 = .ok (.bastore, 1) := dk_84 (dk_at dksJ9_appendNull_2 2 rfl rfl)
theorem dJ9_appendNull_51 : decode cJ9_appendNull 51 = .ok (.aload_n 2, 1) := dk_44 (dk_at dksJ9_appendNull_2 3 rfl rfl)
theorem dJ9_appendNull_52 : decode cJ9_appendNull 52 = .ok (.iload_n 1, 1) := dk_27 (dk_at dksJ9_appendNull_2 4 rfl rfl)
theorem dJ9_appendNull_53 : decode cJ9_appendNull 53 = .ok (.iinc 1 1, 3) := dk_132 1 1 (dk_at dksJ9_appendNull_2 5 rfl rfl)
theorem dJ9_appendNull_56 : decode cJ9_appendNull 56 = .ok (.bipush 108, 2) := dk_16 108 (dk_at dksJ9_appendNull_2 8 rfl rfl)
theorem dJ9_appendNull_58 : decode cJ9_appendNull 58 = .ok (.bastore, 1) := dk_84 (dk_at dksJ9_appendNull_2 10 rfl rfl)
theorem dJ9_appendNull_59 : decode cJ9_appendNull 59 = .ok (.goto 17, 3) := dk_167 0 17 (dk_at dksJ9_appendNull_2 11 rfl rfl)
theorem dJ9_appendNull_62 : decode cJ9_appendNull 62 = .ok (.aload_n 2, 1) := dk_44 (dk_at dksJ9_appendNull_2 14 rfl rfl)
theorem dJ9_appendNull_63 : decode cJ9_appendNull 63 = .ok (.iload_n 1, 1) := dk_27 (dk_at dksJ9_appendNull_2 15 rfl rfl)
theorem dJ9_appendNull_64 : decode cJ9_appendNull 64 = .ok (.bipush 110, 2) := dk_16 110 (dk_at dksJ9_appendNull_2 16 rfl rfl)
theorem dJ9_appendNull_66 : decode cJ9_appendNull 66 = .ok (.bipush 117, 2) := dk_16 117 (dk_at dksJ9_appendNull_2 18 rfl rfl)
theorem dJ9_appendNull_68 : decode cJ9_appendNull 68 = .ok (.bipush 108, 2) := dk_16 108 (dk_at dksJ9_appendNull_2 20 rfl rfl)
theorem dJ9_appendNull_70 : decode cJ9_appendNull 70 = .ok (.bipush 108, 2) := dk_16 108 (dk_at dksJ9_appendNull_2 22 rfl rfl)
theorem dJ9_appendNull_72 : decode cJ9_appendNull 72 = .ok (.invokestatic 226, 3) := dk_184 0 226 (dk_at dksJ9_appendNull_3 0 rfl rfl)
theorem dJ9_appendNull_75 : decode cJ9_appendNull 75 = .ok (.istore_n 1, 1) := dk_60 (dk_at dksJ9_appendNull_3 3 rfl rfl)
theorem dJ9_appendNull_76 : decode cJ9_appendNull 76 = .ok (.aload_n 0, 1) := dk_42 (dk_at dksJ9_appendNull_3 4 rfl rfl)
theorem dJ9_appendNull_77 : decode cJ9_appendNull 77 = .ok (.iload_n 1, 1) := dk_27 (dk_at dksJ9_appendNull_3 5 rfl rfl)
theorem dJ9_appendNull_78 : decode cJ9_appendNull 78 = .ok (.putfield 79, 3) := dk_181 0 79 (dk_at dksJ9_appendNull_3 6 rfl rfl)
theorem dJ9_appendNull_81 : decode cJ9_appendNull 81 = .ok (.aload_n 0, 1) := dk_42 (dk_at dksJ9_appendNull_3 9 rfl rfl)
theorem dJ9_appendNull_82 : decode cJ9_appendNull 82 = .ok (.areturn, 1) := dk_176 (dk_at dksJ9_appendNull_3 10 rfl rfl)
abbrev cJ9_putStringAt : ByteArray := prog_19_method_73_code
def yJ9_putStringAt : MethodName := ⟨RJ9, "putStringAt", "(ILjava/lang/String;)V"⟩
def dkwJ9_putStringAt_0 : List UInt8 := [42, 44, 182, 1, 141, 44, 42, 180, 0, 15, 27, 42, 180, 0, 22, 182, 1, 143, 177]
abbrev dktJ9_putStringAt_0 : List UInt8 := dkwJ9_putStringAt_0 ++ []
theorem dksJ9_putStringAt_0 : cJ9_putStringAt.data.toList.drop 0 = dktJ9_putStringAt_0 := by decide +kernel
theorem dJ9_putStringAt_0 : decode cJ9_putStringAt 0 = .ok (.aload_n 0, 1) := dk_42 (dk_at dksJ9_putStringAt_0 0 rfl rfl)
theorem dJ9_putStringAt_1 : decode cJ9_putStringAt 1 = .ok (.aload_n 2, 1) := dk_44 (dk_at dksJ9_putStringAt_0 1 rfl rfl)
theorem dJ9_putStringAt_2 : decode cJ9_putStringAt 2 = .ok (.invokevirtual 397, 3) := dk_182 1 141 (dk_at dksJ9_putStringAt_0 2 rfl rfl)
theorem dJ9_putStringAt_5 : decode cJ9_putStringAt 5 = .ok (.aload_n 2, 1) := dk_44 (dk_at dksJ9_putStringAt_0 5 rfl rfl)
theorem dJ9_putStringAt_6 : decode cJ9_putStringAt 6 = .ok (.aload_n 0, 1) := dk_42 (dk_at dksJ9_putStringAt_0 6 rfl rfl)
theorem dJ9_putStringAt_7 : decode cJ9_putStringAt 7 = .ok (.getfield 15, 3) := dk_180 0 15 (dk_at dksJ9_putStringAt_0 7 rfl rfl)
theorem dJ9_putStringAt_10 : decode cJ9_putStringAt 10 = .ok (.iload_n 1, 1) := dk_27 (dk_at dksJ9_putStringAt_0 10 rfl rfl)
theorem dJ9_putStringAt_11 : decode cJ9_putStringAt 11 = .ok (.aload_n 0, 1) := dk_42 (dk_at dksJ9_putStringAt_0 11 rfl rfl)
theorem dJ9_putStringAt_12 : decode cJ9_putStringAt 12 = .ok (.getfield 22, 3) := dk_180 0 22 (dk_at dksJ9_putStringAt_0 12 rfl rfl)
theorem dJ9_putStringAt_15 : decode cJ9_putStringAt 15 = .ok (.invokevirtual 399, 3) := dk_182 1 143 (dk_at dksJ9_putStringAt_0 15 rfl rfl)
theorem dJ9_putStringAt_18 : decode cJ9_putStringAt 18 = .ok (.return_, 1) := dk_177 (dk_at dksJ9_putStringAt_0 18 rfl rfl)
abbrev cJ9_inflateIfNeededFor : ByteArray := prog_19_method_71_code
def yJ9_inflateIfNeededFor : MethodName := ⟨RJ9, "inflateIfNeededFor", "(Ljava/lang/String;)V"⟩
def dkwJ9_inflateIfNeededFor_0 : List UInt8 := [178, 0, 18, 153, 0, 18, 42, 180, 0, 22, 43, 182, 0, 40, 159, 0, 7, 42, 182, 0, 195, 177]
abbrev dktJ9_inflateIfNeededFor_0 : List UInt8 := dkwJ9_inflateIfNeededFor_0 ++ []
theorem dksJ9_inflateIfNeededFor_0 : cJ9_inflateIfNeededFor.data.toList.drop 0 = dktJ9_inflateIfNeededFor_0 := by decide +kernel
theorem dJ9_inflateIfNeededFor_0 : decode cJ9_inflateIfNeededFor 0 = .ok (.getstatic 18, 3) := dk_178 0 18 (dk_at dksJ9_inflateIfNeededFor_0 0 rfl rfl)
theorem dJ9_inflateIfNeededFor_3 : decode cJ9_inflateIfNeededFor 3 = .ok (.ifCond .eq 18, 3) := dk_153 0 18 (dk_at dksJ9_inflateIfNeededFor_0 3 rfl rfl)
theorem dJ9_inflateIfNeededFor_6 : decode cJ9_inflateIfNeededFor 6 = .ok (.aload_n 0, 1) := dk_42 (dk_at dksJ9_inflateIfNeededFor_0 6 rfl rfl)
theorem dJ9_inflateIfNeededFor_7 : decode cJ9_inflateIfNeededFor 7 = .ok (.getfield 22, 3) := dk_180 0 22 (dk_at dksJ9_inflateIfNeededFor_0 7 rfl rfl)
theorem dJ9_inflateIfNeededFor_10 : decode cJ9_inflateIfNeededFor 10 = .ok (.aload_n 1, 1) := dk_43 (dk_at dksJ9_inflateIfNeededFor_0 10 rfl rfl)
theorem dJ9_inflateIfNeededFor_11 : decode cJ9_inflateIfNeededFor 11 = .ok (.invokevirtual 40, 3) := dk_182 0 40 (dk_at dksJ9_inflateIfNeededFor_0 11 rfl rfl)
theorem dJ9_inflateIfNeededFor_14 : decode cJ9_inflateIfNeededFor 14 = .ok (.if_icmp .eq 7, 3) := dk_159 0 7 (dk_at dksJ9_inflateIfNeededFor_0 14 rfl rfl)
theorem dJ9_inflateIfNeededFor_17 : decode cJ9_inflateIfNeededFor 17 = .ok (.aload_n 0, 1) := dk_42 (dk_at dksJ9_inflateIfNeededFor_0 17 rfl rfl)
theorem dJ9_inflateIfNeededFor_18 : decode cJ9_inflateIfNeededFor 18 = .ok (.invokevirtual 195, 3) := dk_182 0 195 (dk_at dksJ9_inflateIfNeededFor_0 18 rfl rfl)
theorem dJ9_inflateIfNeededFor_21 : decode cJ9_inflateIfNeededFor 21 = .ok (.return_, 1) := dk_177 (dk_at dksJ9_inflateIfNeededFor_0 21 rfl rfl)
abbrev cJ9_append_3 : ByteArray := prog_19_method_32_code
def yJ9_append_3 : MethodName := ⟨RJ9, "append", "(I)Ljava/lang/AbstractStringBuilder;"⟩
def dkwJ9_append_3_2 : List UInt8 := [42, 29, 181, 0, 79, 42, 176]
abbrev dktJ9_append_3_2 : List UInt8 := dkwJ9_append_3_2 ++ []
def dkwJ9_append_3_1 : List UInt8 := [27, 29, 42, 180, 0, 15, 184, 0, 248, 87, 167, 0, 14, 27, 28, 29, 42, 180, 0, 15, 184, 0, 251, 87]
abbrev dktJ9_append_3_1 : List UInt8 := dkwJ9_append_3_1 ++ dktJ9_append_3_2
def dkwJ9_append_3_0 : List UInt8 := [42, 180, 0, 79, 61, 28, 27, 184, 0, 245, 96, 62, 42, 29, 182, 0, 100, 42, 182, 0, 83, 153, 0, 16]
abbrev dktJ9_append_3_0 : List UInt8 := dkwJ9_append_3_0 ++ dktJ9_append_3_1
theorem dksJ9_append_3_0 : cJ9_append_3.data.toList.drop 0 = dktJ9_append_3_0 := by decide +kernel
theorem dksJ9_append_3_1 : cJ9_append_3.data.toList.drop 24 = dktJ9_append_3_1 := dk_seg dksJ9_append_3_0 24 rfl rfl
theorem dksJ9_append_3_2 : cJ9_append_3.data.toList.drop 48 = dktJ9_append_3_2 := dk_seg dksJ9_append_3_1 24 rfl rfl
theorem dJ9_append_3_0 : decode cJ9_append_3 0 = .ok (.aload_n 0, 1) := dk_42 (dk_at dksJ9_append_3_0 0 rfl rfl)
theorem dJ9_append_3_1 : decode cJ9_append_3 1 = .ok (.getfield 79, 3) := dk_180 0 79 (dk_at dksJ9_append_3_0 1 rfl rfl)
theorem dJ9_append_3_4 : decode cJ9_append_3 4 = .ok (.istore_n 2, 1) := dk_61 (dk_at dksJ9_append_3_0 4 rfl rfl)
theorem dJ9_append_3_5 : decode cJ9_append_3 5 = .ok (.iload_n 2, 1) := dk_28 (dk_at dksJ9_append_3_0 5 rfl rfl)
theorem dJ9_append_3_6 : decode cJ9_append_3 6 = .ok (.iload_n 1, 1) := dk_27 (dk_at dksJ9_append_3_0 6 rfl rfl)
theorem dJ9_append_3_7 : decode cJ9_append_3 7 = .ok (.invokestatic 245, 3) := dk_184 0 245 (dk_at dksJ9_append_3_0 7 rfl rfl)
theorem dJ9_append_3_10 : decode cJ9_append_3 10 = .ok (.iadd, 1) := dk_96 (dk_at dksJ9_append_3_0 10 rfl rfl)
theorem dJ9_append_3_11 : decode cJ9_append_3 11 = .ok (.istore_n 3, 1) := dk_62 (dk_at dksJ9_append_3_0 11 rfl rfl)
theorem dJ9_append_3_12 : decode cJ9_append_3 12 = .ok (.aload_n 0, 1) := dk_42 (dk_at dksJ9_append_3_0 12 rfl rfl)
theorem dJ9_append_3_13 : decode cJ9_append_3 13 = .ok (.iload_n 3, 1) := dk_29 (dk_at dksJ9_append_3_0 13 rfl rfl)
theorem dJ9_append_3_14 : decode cJ9_append_3 14 = .ok (.invokevirtual 100, 3) := dk_182 0 100 (dk_at dksJ9_append_3_0 14 rfl rfl)
theorem dJ9_append_3_17 : decode cJ9_append_3 17 = .ok (.aload_n 0, 1) := dk_42 (dk_at dksJ9_append_3_0 17 rfl rfl)
theorem dJ9_append_3_18 : decode cJ9_append_3 18 = .ok (.invokevirtual 83, 3) := dk_182 0 83 (dk_at dksJ9_append_3_0 18 rfl rfl)
theorem dJ9_append_3_21 : decode cJ9_append_3 21 = .ok (.ifCond .eq 16, 3) := dk_153 0 16 (dk_at dksJ9_append_3_0 21 rfl rfl)
theorem dJ9_append_3_24 : decode cJ9_append_3 24 = .ok (.iload_n 1, 1) := dk_27 (dk_at dksJ9_append_3_1 0 rfl rfl)
theorem dJ9_append_3_25 : decode cJ9_append_3 25 = .ok (.iload_n 3, 1) := dk_29 (dk_at dksJ9_append_3_1 1 rfl rfl)
theorem dJ9_append_3_26 : decode cJ9_append_3 26 = .ok (.aload_n 0, 1) := dk_42 (dk_at dksJ9_append_3_1 2 rfl rfl)
theorem dJ9_append_3_27 : decode cJ9_append_3 27 = .ok (.getfield 15, 3) := dk_180 0 15 (dk_at dksJ9_append_3_1 3 rfl rfl)
theorem dJ9_append_3_30 : decode cJ9_append_3 30 = .ok (.invokestatic 248, 3) := dk_184 0 248 (dk_at dksJ9_append_3_1 6 rfl rfl)
theorem dJ9_append_3_33 : decode cJ9_append_3 33 = .ok (.pop, 1) := dk_87 (dk_at dksJ9_append_3_1 9 rfl rfl)
theorem dJ9_append_3_34 : decode cJ9_append_3 34 = .ok (.goto 14, 3) := dk_167 0 14 (dk_at dksJ9_append_3_1 10 rfl rfl)
theorem dJ9_append_3_37 : decode cJ9_append_3 37 = .ok (.iload_n 1, 1) := dk_27 (dk_at dksJ9_append_3_1 13 rfl rfl)
theorem dJ9_append_3_38 : decode cJ9_append_3 38 = .ok (.iload_n 2, 1) := dk_28 (dk_at dksJ9_append_3_1 14 rfl rfl)
theorem dJ9_append_3_39 : decode cJ9_append_3 39 = .ok (.iload_n 3, 1) := dk_29 (dk_at dksJ9_append_3_1 15 rfl rfl)
theorem dJ9_append_3_40 : decode cJ9_append_3 40 = .ok (.aload_n 0, 1) := dk_42 (dk_at dksJ9_append_3_1 16 rfl rfl)
theorem dJ9_append_3_41 : decode cJ9_append_3 41 = .ok (.getfield 15, 3) := dk_180 0 15 (dk_at dksJ9_append_3_1 17 rfl rfl)
theorem dJ9_append_3_44 : decode cJ9_append_3 44 = .ok (.invokestatic 251, 3) := dk_184 0 251 (dk_at dksJ9_append_3_1 20 rfl rfl)
theorem dJ9_append_3_47 : decode cJ9_append_3 47 = .ok (.pop, 1) := dk_87 (dk_at dksJ9_append_3_1 23 rfl rfl)
theorem dJ9_append_3_48 : decode cJ9_append_3 48 = .ok (.aload_n 0, 1) := dk_42 (dk_at dksJ9_append_3_2 0 rfl rfl)
theorem dJ9_append_3_49 : decode cJ9_append_3 49 = .ok (.iload_n 3, 1) := dk_29 (dk_at dksJ9_append_3_2 1 rfl rfl)
theorem dJ9_append_3_50 : decode cJ9_append_3 50 = .ok (.putfield 79, 3) := dk_181 0 79 (dk_at dksJ9_append_3_2 2 rfl rfl)
theorem dJ9_append_3_53 : decode cJ9_append_3 53 = .ok (.aload_n 0, 1) := dk_42 (dk_at dksJ9_append_3_2 5 rfl rfl)
theorem dJ9_append_3_54 : decode cJ9_append_3 54 = .ok (.areturn, 1) := dk_176 (dk_at dksJ9_append_3_2 6 rfl rfl)
theorem q73 : (Jvm.Cond.initialized "java/lang/AbstractStringBuilder") ∈ lw_all := lw_g (lw_at lw_m1 17 rfl) rfl
theorem q486 : (Jvm.Cond.instanceMethod ({ cls := "java/lang/AbstractStringBuilder", name := "<init>", desc := "(I)V" } : Jvm.MethodName)) ∈ lw_all := lw_g (lw_at lw_m2 190 rfl) rfl
theorem q487 : (Jvm.Cond.code ({ cls := "java/lang/AbstractStringBuilder", name := "<init>", desc := "(I)V" } : Jvm.MethodName) prog_19_method_2_code (2 : Nat) (Option.none : Option Jvm.ClassFile.FieldType)) ∈ lw_all := lw_g (lw_at lw_m2 191 rfl) rfl
theorem q488 : (Jvm.Cond.methodLink "java/lang/AbstractStringBuilder" (3 : Nat) ({ cls := "java/lang/Object", name := "<init>", desc := "()V" } : Jvm.MethodName)) ∈ lw_all := lw_g (lw_at lw_m2 192 rfl) rfl
theorem q489 : (Jvm.Cond.fieldLink "java/lang/AbstractStringBuilder" (18 : Nat) "java/lang/String" "COMPACT_STRINGS" "Z") ∈ lw_all := lw_g (lw_at lw_m2 193 rfl) rfl
theorem q491 : (Jvm.Cond.methodLink "java/lang/AbstractStringBuilder" (26 : Nat) ({ cls := "java/lang/StringUTF16", name := "newBytesFor", desc := "(I)[B" } : Jvm.MethodName)) ∈ lw_all := lw_g (lw_at lw_m2 195 rfl) rfl
theorem q498 : (Jvm.Cond.fieldLink "java/lang/AbstractStringBuilder" (15 : Nat) "java/lang/AbstractStringBuilder" "value" "[B") ∈ lw_all := lw_g (lw_at lw_m2 202 rfl) rfl
theorem q499 : (Jvm.Cond.fieldLink "java/lang/AbstractStringBuilder" (22 : Nat) "java/lang/AbstractStringBuilder" "coder" "B") ∈ lw_all := lw_g (lw_at lw_m2 203 rfl) rfl
theorem q501 : (Jvm.Cond.fieldLink "java/lang/AbstractStringBuilder" (79 : Nat) "java/lang/AbstractStringBuilder" "count" "I") ∈ lw_all := lw_g (lw_at lw_m2 205 rfl) rfl
theorem q503 : (Jvm.Cond.soleField "java/lang/AbstractStringBuilder" "value") ∈ lw_all := lw_g (lw_at lw_m2 207 rfl) rfl
theorem q505 : (Jvm.Cond.soleField "java/lang/AbstractStringBuilder" "coder") ∈ lw_all := lw_g (lw_at lw_m2 209 rfl) rfl
theorem q507 : (Jvm.Cond.soleField "java/lang/AbstractStringBuilder" "maybeLatin1") ∈ lw_all := lw_g (lw_at lw_m2 211 rfl) rfl
theorem q509 : (Jvm.Cond.soleField "java/lang/AbstractStringBuilder" "count") ∈ lw_all := lw_g (lw_at lw_m2 213 rfl) rfl
theorem q516 : (Jvm.Cond.instanceMethod ({ cls := "java/lang/AbstractStringBuilder", name := "append", desc := "(C)Ljava/lang/AbstractStringBuilder;" } : Jvm.MethodName)) ∈ lw_all := lw_g (lw_at lw_m2 220 rfl) rfl
theorem q517 : (Jvm.Cond.code ({ cls := "java/lang/AbstractStringBuilder", name := "append", desc := "(C)Ljava/lang/AbstractStringBuilder;" } : Jvm.MethodName) prog_19_method_31_code (2 : Nat) (Option.some (Jvm.ClassFile.FieldType.object "java/lang/AbstractStringBuilder"))) ∈ lw_all := lw_g (lw_at lw_m2 221 rfl) rfl
theorem q518 : (Jvm.Cond.methodLink "java/lang/AbstractStringBuilder" (100 : Nat) ({ cls := "java/lang/AbstractStringBuilder", name := "ensureCapacityInternal", desc := "(I)V" } : Jvm.MethodName)) ∈ lw_all := lw_g (lw_at lw_m2 222 rfl) rfl
theorem q519 : (Jvm.Cond.privateMethod ({ cls := "java/lang/AbstractStringBuilder", name := "ensureCapacityInternal", desc := "(I)V" } : Jvm.MethodName)) ∈ lw_tbl := lw_at lw_m2 223 rfl
theorem q520 : (Jvm.Cond.instanceMethod ({ cls := "java/lang/AbstractStringBuilder", name := "ensureCapacityInternal", desc := "(I)V" } : Jvm.MethodName)) ∈ lw_all := lw_g (lw_at lw_m2 224 rfl) rfl
theorem q521 : (Jvm.Cond.code ({ cls := "java/lang/AbstractStringBuilder", name := "ensureCapacityInternal", desc := "(I)V" } : Jvm.MethodName) prog_19_method_9_code (3 : Nat) (Option.none : Option Jvm.ClassFile.FieldType)) ∈ lw_all := lw_g (lw_at lw_m2 225 rfl) rfl
theorem q522 : (Jvm.Cond.methodLink "java/lang/AbstractStringBuilder" (104 : Nat) ({ cls := "java/lang/AbstractStringBuilder", name := "newCapacity", desc := "(I)I" } : Jvm.MethodName)) ∈ lw_all := lw_g (lw_at lw_m2 226 rfl) rfl
theorem q523 : (Jvm.Cond.privateMethod ({ cls := "java/lang/AbstractStringBuilder", name := "newCapacity", desc := "(I)I" } : Jvm.MethodName)) ∈ lw_tbl := lw_at lw_m2 227 rfl
theorem q524 : (Jvm.Cond.instanceMethod ({ cls := "java/lang/AbstractStringBuilder", name := "newCapacity", desc := "(I)I" } : Jvm.MethodName)) ∈ lw_all := lw_g (lw_at lw_m2 228 rfl) rfl
theorem q525 : (Jvm.Cond.code ({ cls := "java/lang/AbstractStringBuilder", name := "newCapacity", desc := "(I)I" } : Jvm.MethodName) prog_19_method_10_code (6 : Nat) (Option.some Jvm.ClassFile.FieldType.int)) ∈ lw_all := lw_g (lw_at lw_m2 229 rfl) rfl
theorem q526 : (Jvm.Cond.methodLink "java/lang/AbstractStringBuilder" (114 : Nat) ({ cls := "jdk/internal/util/ArraysSupport", name := "newLength", desc := "(III)I" } : Jvm.MethodName)) ∈ lw_all := lw_g (lw_at lw_m2 230 rfl) rfl
theorem q536 : (Jvm.Cond.constant "java/lang/AbstractStringBuilder" (39 : Nat) (2147483647 : Int32)) ∈ lw_all := lw_g (lw_at lw_m3 0 rfl) rfl
theorem q537 : (Jvm.Cond.methodLink "java/lang/AbstractStringBuilder" (108 : Nat) ({ cls := "java/util/Arrays", name := "copyOf", desc := "([BI)[B" } : Jvm.MethodName)) ∈ lw_all := lw_g (lw_at lw_m3 1 rfl) rfl
theorem q551 : (Jvm.Cond.methodLink "java/lang/AbstractStringBuilder" (83 : Nat) ({ cls := "java/lang/AbstractStringBuilder", name := "isLatin1", desc := "()Z" } : Jvm.MethodName)) ∈ lw_all := lw_g (lw_at lw_m3 15 rfl) rfl
theorem q552 : (Jvm.Cond.instanceMethod ({ cls := "java/lang/AbstractStringBuilder", name := "isLatin1", desc := "()Z" } : Jvm.MethodName)) ∈ lw_all := lw_g (lw_at lw_m3 16 rfl) rfl
theorem q553 : (Jvm.Cond.sameMethod "java/lang/AbstractStringBuilder" "java/lang/AbstractStringBuilder" "isLatin1" "()Z") ∈ lw_all := lw_g (lw_at lw_m3 17 rfl) rfl
theorem q555 : (Jvm.Cond.code ({ cls := "java/lang/AbstractStringBuilder", name := "isLatin1", desc := "()Z" } : Jvm.MethodName) prog_19_method_68_code (1 : Nat) (Option.some Jvm.ClassFile.FieldType.boolean)) ∈ lw_all := lw_g (lw_at lw_m3 19 rfl) rfl
theorem q556 : (Jvm.Cond.methodLink "java/lang/AbstractStringBuilder" (191 : Nat) ({ cls := "java/lang/StringLatin1", name := "canEncode", desc := "(C)Z" } : Jvm.MethodName)) ∈ lw_all := lw_g (lw_at lw_m3 20 rfl) rfl
theorem q559 : (Jvm.Cond.methodLink "java/lang/AbstractStringBuilder" (195 : Nat) ({ cls := "java/lang/AbstractStringBuilder", name := "inflate", desc := "()V" } : Jvm.MethodName)) ∈ lw_all := lw_g (lw_at lw_m3 23 rfl) rfl
theorem q560 : (Jvm.Cond.privateMethod ({ cls := "java/lang/AbstractStringBuilder", name := "inflate", desc := "()V" } : Jvm.MethodName)) ∈ lw_tbl := lw_at lw_m3 24 rfl
theorem q561 : (Jvm.Cond.instanceMethod ({ cls := "java/lang/AbstractStringBuilder", name := "inflate", desc := "()V" } : Jvm.MethodName)) ∈ lw_all := lw_g (lw_at lw_m3 25 rfl) rfl
theorem q562 : (Jvm.Cond.code ({ cls := "java/lang/AbstractStringBuilder", name := "inflate", desc := "()V" } : Jvm.MethodName) prog_19_method_11_code (2 : Nat) (Option.none : Option Jvm.ClassFile.FieldType)) ∈ lw_all := lw_g (lw_at lw_m3 26 rfl) rfl
theorem q563 : (Jvm.Cond.methodLink "java/lang/AbstractStringBuilder" (125 : Nat) ({ cls := "java/lang/StringLatin1", name := "inflate", desc := "([BI[BII)V" } : Jvm.MethodName)) ∈ lw_all := lw_g (lw_at lw_m3 27 rfl) rfl
theorem q592 : (Jvm.Cond.methodLink "java/lang/AbstractStringBuilder" (197 : Nat) ({ cls := "java/lang/StringUTF16", name := "putCharSB", desc := "([BII)V" } : Jvm.MethodName)) ∈ lw_all := lw_g (lw_at lw_m3 56 rfl) rfl
theorem q617 : (Jvm.Cond.instanceMethod ({ cls := "java/lang/AbstractStringBuilder", name := "getValue", desc := "()[B" } : Jvm.MethodName)) ∈ lw_all := lw_g (lw_at lw_m3 81 rfl) rfl
theorem q618 : (Jvm.Cond.sameMethod "java/lang/AbstractStringBuilder" "java/lang/AbstractStringBuilder" "getValue" "()[B") ∈ lw_all := lw_g (lw_at lw_m3 82 rfl) rfl
theorem q620 : (Jvm.Cond.code ({ cls := "java/lang/AbstractStringBuilder", name := "getValue", desc := "()[B" } : Jvm.MethodName) prog_19_method_64_code (1 : Nat) (Option.some (Jvm.ClassFile.FieldType.array Jvm.ClassFile.FieldType.byte))) ∈ lw_all := lw_g (lw_at lw_m3 84 rfl) rfl
theorem q622 : (Jvm.Cond.instanceMethod ({ cls := "java/lang/AbstractStringBuilder", name := "length", desc := "()I" } : Jvm.MethodName)) ∈ lw_all := lw_g (lw_at lw_m3 86 rfl) rfl
theorem q623 : (Jvm.Cond.sameMethod "java/lang/AbstractStringBuilder" "java/lang/AbstractStringBuilder" "length" "()I") ∈ lw_all := lw_g (lw_at lw_m3 87 rfl) rfl
theorem q628 : (Jvm.Cond.code ({ cls := "java/lang/AbstractStringBuilder", name := "length", desc := "()I" } : Jvm.MethodName) prog_19_method_6_code (1 : Nat) (Option.some Jvm.ClassFile.FieldType.int)) ∈ lw_all := lw_g (lw_at lw_m3 92 rfl) rfl
theorem q942 : (Jvm.Cond.instanceMethod ({ cls := "java/lang/AbstractStringBuilder", name := "append", desc := "(Ljava/lang/String;)Ljava/lang/AbstractStringBuilder;" } : Jvm.MethodName)) ∈ lw_all := lw_g (lw_at lw_m4 166 rfl) rfl
theorem q943 : (Jvm.Cond.code ({ cls := "java/lang/AbstractStringBuilder", name := "append", desc := "(Ljava/lang/String;)Ljava/lang/AbstractStringBuilder;" } : Jvm.MethodName) prog_19_method_22_code (3 : Nat) (Option.some (Jvm.ClassFile.FieldType.object "java/lang/AbstractStringBuilder"))) ∈ lw_all := lw_g (lw_at lw_m4 167 rfl) rfl
theorem q944 : (Jvm.Cond.methodLink "java/lang/AbstractStringBuilder" (204 : Nat) ({ cls := "java/lang/AbstractStringBuilder", name := "appendNull", desc := "()Ljava/lang/AbstractStringBuilder;" } : Jvm.MethodName)) ∈ lw_all := lw_g (lw_at lw_m4 168 rfl) rfl
theorem q945 : (Jvm.Cond.privateMethod ({ cls := "java/lang/AbstractStringBuilder", name := "appendNull", desc := "()Ljava/lang/AbstractStringBuilder;" } : Jvm.MethodName)) ∈ lw_tbl := lw_at lw_m4 169 rfl
theorem q946 : (Jvm.Cond.instanceMethod ({ cls := "java/lang/AbstractStringBuilder", name := "appendNull", desc := "()Ljava/lang/AbstractStringBuilder;" } : Jvm.MethodName)) ∈ lw_all := lw_g (lw_at lw_m4 170 rfl) rfl
theorem q947 : (Jvm.Cond.code ({ cls := "java/lang/AbstractStringBuilder", name := "appendNull", desc := "()Ljava/lang/AbstractStringBuilder;" } : Jvm.MethodName) prog_19_method_26_code (3 : Nat) (Option.some (Jvm.ClassFile.FieldType.object "java/lang/AbstractStringBuilder"))) ∈ lw_all := lw_g (lw_at lw_m4 171 rfl) rfl
theorem q948 : (Jvm.Cond.methodLink "java/lang/AbstractStringBuilder" (226 : Nat) ({ cls := "java/lang/StringUTF16", name := "putCharsAt", desc := "([BICCCC)I" } : Jvm.MethodName)) ∈ lw_all := lw_g (lw_at lw_m4 172 rfl) rfl
theorem q960 : (Jvm.Cond.methodLink "java/lang/AbstractStringBuilder" (32 : Nat) ({ cls := "java/lang/String", name := "length", desc := "()I" } : Jvm.MethodName)) ∈ lw_all := lw_g (lw_at lw_m4 184 rfl) rfl
theorem q968 : (Jvm.Cond.methodLink "java/lang/AbstractStringBuilder" (208 : Nat) ({ cls := "java/lang/AbstractStringBuilder", name := "putStringAt", desc := "(ILjava/lang/String;)V" } : Jvm.MethodName)) ∈ lw_all := lw_g (lw_at lw_m4 192 rfl) rfl
theorem q969 : (Jvm.Cond.privateMethod ({ cls := "java/lang/AbstractStringBuilder", name := "putStringAt", desc := "(ILjava/lang/String;)V" } : Jvm.MethodName)) ∈ lw_tbl := lw_at lw_m4 193 rfl
theorem q970 : (Jvm.Cond.instanceMethod ({ cls := "java/lang/AbstractStringBuilder", name := "putStringAt", desc := "(ILjava/lang/String;)V" } : Jvm.MethodName)) ∈ lw_all := lw_g (lw_at lw_m4 194 rfl) rfl
theorem q971 : (Jvm.Cond.code ({ cls := "java/lang/AbstractStringBuilder", name := "putStringAt", desc := "(ILjava/lang/String;)V" } : Jvm.MethodName) prog_19_method_73_code (3 : Nat) (Option.none : Option Jvm.ClassFile.FieldType)) ∈ lw_all := lw_g (lw_at lw_m4 195 rfl) rfl
theorem q972 : (Jvm.Cond.methodLink "java/lang/AbstractStringBuilder" (397 : Nat) ({ cls := "java/lang/AbstractStringBuilder", name := "inflateIfNeededFor", desc := "(Ljava/lang/String;)V" } : Jvm.MethodName)) ∈ lw_all := lw_g (lw_at lw_m4 196 rfl) rfl
theorem q973 : (Jvm.Cond.privateMethod ({ cls := "java/lang/AbstractStringBuilder", name := "inflateIfNeededFor", desc := "(Ljava/lang/String;)V" } : Jvm.MethodName)) ∈ lw_tbl := lw_at lw_m4 197 rfl
theorem q974 : (Jvm.Cond.instanceMethod ({ cls := "java/lang/AbstractStringBuilder", name := "inflateIfNeededFor", desc := "(Ljava/lang/String;)V" } : Jvm.MethodName)) ∈ lw_all := lw_g (lw_at lw_m4 198 rfl) rfl
theorem q975 : (Jvm.Cond.code ({ cls := "java/lang/AbstractStringBuilder", name := "inflateIfNeededFor", desc := "(Ljava/lang/String;)V" } : Jvm.MethodName) prog_19_method_71_code (2 : Nat) (Option.none : Option Jvm.ClassFile.FieldType)) ∈ lw_all := lw_g (lw_at lw_m4 199 rfl) rfl
theorem q976 : (Jvm.Cond.methodLink "java/lang/AbstractStringBuilder" (40 : Nat) ({ cls := "java/lang/String", name := "coder", desc := "()B" } : Jvm.MethodName)) ∈ lw_all := lw_g (lw_at lw_m4 200 rfl) rfl
theorem q977 : (Jvm.Cond.methodLink "java/lang/AbstractStringBuilder" (399 : Nat) ({ cls := "java/lang/String", name := "getBytes", desc := "([BIB)V" } : Jvm.MethodName)) ∈ lw_all := lw_g (lw_at lw_m4 201 rfl) rfl
theorem q988 : (Jvm.Cond.instanceMethod ({ cls := "java/lang/AbstractStringBuilder", name := "append", desc := "(I)Ljava/lang/AbstractStringBuilder;" } : Jvm.MethodName)) ∈ lw_all := lw_g (lw_at lw_m4 212 rfl) rfl
theorem q989 : (Jvm.Cond.code ({ cls := "java/lang/AbstractStringBuilder", name := "append", desc := "(I)Ljava/lang/AbstractStringBuilder;" } : Jvm.MethodName) prog_19_method_32_code (4 : Nat) (Option.some (Jvm.ClassFile.FieldType.object "java/lang/AbstractStringBuilder"))) ∈ lw_all := lw_g (lw_at lw_m4 213 rfl) rfl
theorem q990 : (Jvm.Cond.methodLink "java/lang/AbstractStringBuilder" (245 : Nat) ({ cls := "java/lang/Integer", name := "stringSize", desc := "(I)I" } : Jvm.MethodName)) ∈ lw_all := lw_g (lw_at lw_m4 214 rfl) rfl
theorem q993 : (Jvm.Cond.methodLink "java/lang/AbstractStringBuilder" (248 : Nat) ({ cls := "java/lang/Integer", name := "getChars", desc := "(II[B)I" } : Jvm.MethodName)) ∈ lw_all := lw_g (lw_at lw_m4 217 rfl) rfl
theorem q1000 : (Jvm.Cond.methodLink "java/lang/AbstractStringBuilder" (251 : Nat) ({ cls := "java/lang/StringUTF16", name := "getChars", desc := "(III[B)I" } : Jvm.MethodName)) ∈ lw_all := lw_g (lw_at lw_m4 224 rfl) rfl
theorem q1960 : (Jvm.Cond.sameMethod "java/lang/AbstractStringBuilder" "java/lang/AbstractStringBuilder" "append" "(C)Ljava/lang/AbstractStringBuilder;") ∈ lw_all := lw_g (lw_at lw_m8 224 rfl) rfl
theorem q1961 : (Jvm.Cond.sameMethod "java/lang/AbstractStringBuilder" "java/lang/AbstractStringBuilder" "ensureCapacityInternal" "(I)V") ∈ lw_all := lw_g (lw_at lw_m8 225 rfl) rfl
theorem q1962 : (Jvm.Cond.sameMethod "java/lang/AbstractStringBuilder" "java/lang/AbstractStringBuilder" "newCapacity" "(I)I") ∈ lw_all := lw_g (lw_at lw_m8 226 rfl) rfl
theorem q1963 : (Jvm.Cond.sameMethod "java/lang/AbstractStringBuilder" "java/lang/AbstractStringBuilder" "inflate" "()V") ∈ lw_all := lw_g (lw_at lw_m8 227 rfl) rfl
theorem q1964 : (Jvm.Cond.sameMethod "java/lang/AbstractStringBuilder" "java/lang/AbstractStringBuilder" "append" "(Ljava/lang/String;)Ljava/lang/AbstractStringBuilder;") ∈ lw_all := lw_g (lw_at lw_m8 228 rfl) rfl
theorem q1965 : (Jvm.Cond.sameMethod "java/lang/AbstractStringBuilder" "java/lang/AbstractStringBuilder" "appendNull" "()Ljava/lang/AbstractStringBuilder;") ∈ lw_all := lw_g (lw_at lw_m8 229 rfl) rfl
theorem q1966 : (Jvm.Cond.sameMethod "java/lang/AbstractStringBuilder" "java/lang/AbstractStringBuilder" "putStringAt" "(ILjava/lang/String;)V") ∈ lw_all := lw_g (lw_at lw_m8 230 rfl) rfl
theorem q1967 : (Jvm.Cond.sameMethod "java/lang/AbstractStringBuilder" "java/lang/AbstractStringBuilder" "inflateIfNeededFor" "(Ljava/lang/String;)V") ∈ lw_all := lw_g (lw_at lw_m8 231 rfl) rfl
theorem q1968 : (Jvm.Cond.sameMethod "java/lang/AbstractStringBuilder" "java/lang/AbstractStringBuilder" "append" "(I)Ljava/lang/AbstractStringBuilder;") ∈ lw_all := lw_g (lw_at lw_m8 232 rfl) rfl

/-! java/lang/StringBuilder -/
set_option maxRecDepth 100000
def RJ10 : String := "java/lang/StringBuilder"
def TJ10 : u_T := fun k => match k with
  | 0 => ("java/lang/AbstractStringBuilder", "value", "[B", false)
  | 1 => ("java/lang/AbstractStringBuilder", "coder", "B", false)
  | 2 => ("java/lang/AbstractStringBuilder", "maybeLatin1", "Z", false)
  | _ => ("java/lang/AbstractStringBuilder", "count", "I", false)
def tyJ10 : Nat → FieldType := fun k => match k with
  | 0 => .array .byte
  | 1 => .byte
  | 2 => .boolean
  | _ => .int
abbrev wsJ100 : List Cond := u_ws RJ10 TJ10 4
theorem nmJ10 : ∀ a, a < 4 → ∀ b, b < 4 → a ≠ b → (TJ10 a).2.1 ≠ (TJ10 b).2.1 := by decide +kernel
theorem tyJ10_ok : ∀ k, k < 4 → parseFieldDescriptor (TJ10 k).2.2.1 = some (tyJ10 k) := by decide +kernel
abbrev cJ10_init : ByteArray := prog_34_method_1_code
def yJ10_init : MethodName := ⟨RJ10, "<init>", "()V"⟩
def dkwJ10_init_0 : List UInt8 := [42, 16, 16, 183, 0, 1, 177]
abbrev dktJ10_init_0 : List UInt8 := dkwJ10_init_0 ++ []
theorem dksJ10_init_0 : cJ10_init.data.toList.drop 0 = dktJ10_init_0 := by decide +kernel
theorem dJ10_init_0 : decode cJ10_init 0 = .ok (.aload_n 0, 1) := dk_42 (dk_at dksJ10_init_0 0 rfl rfl)
theorem dJ10_init_1 : decode cJ10_init 1 = .ok (.bipush 16, 2) := dk_16 16 (dk_at dksJ10_init_0 1 rfl rfl)
theorem dJ10_init_3 : decode cJ10_init 3 = .ok (.invokespecial 1, 3) := dk_183 0 1 (dk_at dksJ10_init_0 3 rfl rfl)
theorem dJ10_init_6 : decode cJ10_init 6 = .ok (.return_, 1) := dk_177 (dk_at dksJ10_init_0 6 rfl rfl)
abbrev cJ10_append : ByteArray := prog_34_method_14_code
def yJ10_append : MethodName := ⟨RJ10, "append", "(C)Ljava/lang/StringBuilder;"⟩
def dkwJ10_append_0 : List UInt8 := [42, 27, 183, 0, 50, 87, 42, 176]
abbrev dktJ10_append_0 : List UInt8 := dkwJ10_append_0 ++ []
theorem dksJ10_append_0 : cJ10_append.data.toList.drop 0 = dktJ10_append_0 := by decide +kernel
theorem dJ10_append_0 : decode cJ10_append 0 = .ok (.aload_n 0, 1) := dk_42 (dk_at dksJ10_append_0 0 rfl rfl)
theorem dJ10_append_1 : decode cJ10_append 1 = .ok (.iload_n 1, 1) := dk_27 (dk_at dksJ10_append_0 1 rfl rfl)
theorem dJ10_append_2 : decode cJ10_append 2 = .ok (.invokespecial 50, 3) := dk_183 0 50 (dk_at dksJ10_append_0 2 rfl rfl)
theorem dJ10_append_5 : decode cJ10_append 5 = .ok (.pop, 1) := dk_87 (dk_at dksJ10_append_0 5 rfl rfl)
theorem dJ10_append_6 : decode cJ10_append 6 = .ok (.aload_n 0, 1) := dk_42 (dk_at dksJ10_append_0 6 rfl rfl)
theorem dJ10_append_7 : decode cJ10_append 7 = .ok (.areturn, 1) := dk_176 (dk_at dksJ10_append_0 7 rfl rfl)
abbrev cJ10_toString : ByteArray := prog_34_method_42_code
def yJ10_toString : MethodName := ⟨RJ10, "toString", "()Ljava/lang/String;"⟩
def dkwJ10_toString_0 : List UInt8 := [187, 0, 18, 89, 42, 183, 0, 137, 176]
abbrev dktJ10_toString_0 : List UInt8 := dkwJ10_toString_0 ++ []
theorem dksJ10_toString_0 : cJ10_toString.data.toList.drop 0 = dktJ10_toString_0 := by decide +kernel
theorem dJ10_toString_0 : decode cJ10_toString 0 = .ok (.new 18, 3) := dk_187 0 18 (dk_at dksJ10_toString_0 0 rfl rfl)
theorem dJ10_toString_3 : decode cJ10_toString 3 = .ok (.dup, 1) := dk_89 (dk_at dksJ10_toString_0 3 rfl rfl)
theorem dJ10_toString_4 : decode cJ10_toString 4 = .ok (.aload_n 0, 1) := dk_42 (dk_at dksJ10_toString_0 4 rfl rfl)
theorem dJ10_toString_5 : decode cJ10_toString 5 = .ok (.invokespecial 137, 3) := dk_183 0 137 (dk_at dksJ10_toString_0 5 rfl rfl)
theorem dJ10_toString_8 : decode cJ10_toString 8 = .ok (.areturn, 1) := dk_176 (dk_at dksJ10_toString_0 8 rfl rfl)
abbrev cJ10_length : ByteArray := prog_34_method_93_code
def yJ10_length : MethodName := ⟨RJ10, "length", "()I"⟩
theorem dJ10_length_0 : decode cJ10_length 0 = .ok (.aload_n 0, 1) := by decide +kernel
theorem dJ10_length_1 : decode cJ10_length 1 = .ok (.invokespecial 343, 3) := by decide +kernel
theorem dJ10_length_4 : decode cJ10_length 4 = .ok (.ireturn, 1) := by decide +kernel
abbrev cJ10_append_2 : ByteArray := prog_34_method_7_code
def yJ10_append_2 : MethodName := ⟨RJ10, "append", "(Ljava/lang/String;)Ljava/lang/StringBuilder;"⟩
def dkwJ10_append_2_0 : List UInt8 := [42, 43, 183, 0, 29, 87, 42, 176]
abbrev dktJ10_append_2_0 : List UInt8 := dkwJ10_append_2_0 ++ []
theorem dksJ10_append_2_0 : cJ10_append_2.data.toList.drop 0 = dktJ10_append_2_0 := by decide +kernel
theorem dJ10_append_2_0 : decode cJ10_append_2 0 = .ok (.aload_n 0, 1) := dk_42 (dk_at dksJ10_append_2_0 0 rfl rfl)
theorem dJ10_append_2_1 : decode cJ10_append_2 1 = .ok (.aload_n 1, 1) := dk_43 (dk_at dksJ10_append_2_0 1 rfl rfl)
theorem dJ10_append_2_2 : decode cJ10_append_2 2 = .ok (.invokespecial 29, 3) := dk_183 0 29 (dk_at dksJ10_append_2_0 2 rfl rfl)
theorem dJ10_append_2_5 : decode cJ10_append_2 5 = .ok (.pop, 1) := dk_87 (dk_at dksJ10_append_2_0 5 rfl rfl)
theorem dJ10_append_2_6 : decode cJ10_append_2 6 = .ok (.aload_n 0, 1) := dk_42 (dk_at dksJ10_append_2_0 6 rfl rfl)
theorem dJ10_append_2_7 : decode cJ10_append_2 7 = .ok (.areturn, 1) := dk_176 (dk_at dksJ10_append_2_0 7 rfl rfl)
abbrev cJ10_append_3 : ByteArray := prog_34_method_15_code
def yJ10_append_3 : MethodName := ⟨RJ10, "append", "(I)Ljava/lang/StringBuilder;"⟩
def dkwJ10_append_3_0 : List UInt8 := [42, 27, 183, 0, 53, 87, 42, 176]
abbrev dktJ10_append_3_0 : List UInt8 := dkwJ10_append_3_0 ++ []
theorem dksJ10_append_3_0 : cJ10_append_3.data.toList.drop 0 = dktJ10_append_3_0 := by decide +kernel
theorem dJ10_append_3_0 : decode cJ10_append_3 0 = .ok (.aload_n 0, 1) := dk_42 (dk_at dksJ10_append_3_0 0 rfl rfl)
theorem dJ10_append_3_1 : decode cJ10_append_3 1 = .ok (.iload_n 1, 1) := dk_27 (dk_at dksJ10_append_3_0 1 rfl rfl)
theorem dJ10_append_3_2 : decode cJ10_append_3 2 = .ok (.invokespecial 53, 3) := dk_183 0 53 (dk_at dksJ10_append_3_0 2 rfl rfl)
theorem dJ10_append_3_5 : decode cJ10_append_3 5 = .ok (.pop, 1) := dk_87 (dk_at dksJ10_append_3_0 5 rfl rfl)
theorem dJ10_append_3_6 : decode cJ10_append_3 6 = .ok (.aload_n 0, 1) := dk_42 (dk_at dksJ10_append_3_0 6 rfl rfl)
theorem dJ10_append_3_7 : decode cJ10_append_3 7 = .ok (.areturn, 1) := dk_176 (dk_at dksJ10_append_3_0 7 rfl rfl)
theorem q74 : (Jvm.Cond.initialized "java/lang/StringBuilder") ∈ lw_all := lw_g (lw_at lw_m1 18 rfl) rfl
theorem q481 : (Jvm.Cond.instantiable "java/lang/StringBuilder" (4 : Nat)) ∈ lw_all := lw_g (lw_at lw_m2 185 rfl) rfl
theorem q483 : (Jvm.Cond.instanceMethod ({ cls := "java/lang/StringBuilder", name := "<init>", desc := "()V" } : Jvm.MethodName)) ∈ lw_all := lw_g (lw_at lw_m2 187 rfl) rfl
theorem q484 : (Jvm.Cond.code ({ cls := "java/lang/StringBuilder", name := "<init>", desc := "()V" } : Jvm.MethodName) prog_34_method_1_code (1 : Nat) (Option.none : Option Jvm.ClassFile.FieldType)) ∈ lw_all := lw_g (lw_at lw_m2 188 rfl) rfl
theorem q485 : (Jvm.Cond.methodLink "java/lang/StringBuilder" (1 : Nat) ({ cls := "java/lang/AbstractStringBuilder", name := "<init>", desc := "(I)V" } : Jvm.MethodName)) ∈ lw_all := lw_g (lw_at lw_m2 189 rfl) rfl
theorem q502 : (Jvm.Cond.lays "java/lang/StringBuilder" "java/lang/AbstractStringBuilder" "value" "[B") ∈ lw_all := lw_g (lw_at lw_m2 206 rfl) rfl
theorem q504 : (Jvm.Cond.lays "java/lang/StringBuilder" "java/lang/AbstractStringBuilder" "coder" "B") ∈ lw_all := lw_g (lw_at lw_m2 208 rfl) rfl
theorem q506 : (Jvm.Cond.lays "java/lang/StringBuilder" "java/lang/AbstractStringBuilder" "maybeLatin1" "Z") ∈ lw_all := lw_g (lw_at lw_m2 210 rfl) rfl
theorem q508 : (Jvm.Cond.lays "java/lang/StringBuilder" "java/lang/AbstractStringBuilder" "count" "I") ∈ lw_all := lw_g (lw_at lw_m2 212 rfl) rfl
theorem q510 : (Jvm.Cond.superclass "java/lang/StringBuilder" "java/lang/AbstractStringBuilder") ∈ lw_all := lw_g (lw_at lw_m2 214 rfl) rfl
theorem q512 : (Jvm.Cond.instanceMethod ({ cls := "java/lang/StringBuilder", name := "append", desc := "(C)Ljava/lang/StringBuilder;" } : Jvm.MethodName)) ∈ lw_all := lw_g (lw_at lw_m2 216 rfl) rfl
theorem q513 : (Jvm.Cond.selects "java/lang/StringBuilder" ({ cls := "java/lang/StringBuilder", name := "append", desc := "(C)Ljava/lang/StringBuilder;" } : Jvm.MethodName) ({ cls := "java/lang/StringBuilder", name := "append", desc := "(C)Ljava/lang/StringBuilder;" } : Jvm.MethodName)) ∈ lw_all := lw_g (lw_at lw_m2 217 rfl) rfl
theorem q514 : (Jvm.Cond.code ({ cls := "java/lang/StringBuilder", name := "append", desc := "(C)Ljava/lang/StringBuilder;" } : Jvm.MethodName) prog_34_method_14_code (2 : Nat) (Option.some (Jvm.ClassFile.FieldType.object "java/lang/StringBuilder"))) ∈ lw_all := lw_g (lw_at lw_m2 218 rfl) rfl
theorem q515 : (Jvm.Cond.methodLink "java/lang/StringBuilder" (50 : Nat) ({ cls := "java/lang/AbstractStringBuilder", name := "append", desc := "(C)Ljava/lang/AbstractStringBuilder;" } : Jvm.MethodName)) ∈ lw_all := lw_g (lw_at lw_m2 219 rfl) rfl
theorem q554 : (Jvm.Cond.selects "java/lang/StringBuilder" ({ cls := "java/lang/AbstractStringBuilder", name := "isLatin1", desc := "()Z" } : Jvm.MethodName) ({ cls := "java/lang/AbstractStringBuilder", name := "isLatin1", desc := "()Z" } : Jvm.MethodName)) ∈ lw_all := lw_g (lw_at lw_m3 18 rfl) rfl
theorem q605 : (Jvm.Cond.instanceMethod ({ cls := "java/lang/StringBuilder", name := "toString", desc := "()Ljava/lang/String;" } : Jvm.MethodName)) ∈ lw_all := lw_g (lw_at lw_m3 69 rfl) rfl
theorem q606 : (Jvm.Cond.selects "java/lang/StringBuilder" ({ cls := "java/lang/StringBuilder", name := "toString", desc := "()Ljava/lang/String;" } : Jvm.MethodName) ({ cls := "java/lang/StringBuilder", name := "toString", desc := "()Ljava/lang/String;" } : Jvm.MethodName)) ∈ lw_all := lw_g (lw_at lw_m3 70 rfl) rfl
theorem q607 : (Jvm.Cond.code ({ cls := "java/lang/StringBuilder", name := "toString", desc := "()Ljava/lang/String;" } : Jvm.MethodName) prog_34_method_42_code (1 : Nat) (Option.some (Jvm.ClassFile.FieldType.object "java/lang/String"))) ∈ lw_all := lw_g (lw_at lw_m3 71 rfl) rfl
theorem q608 : (Jvm.Cond.classLink "java/lang/StringBuilder" (18 : Nat) "java/lang/String") ∈ lw_all := lw_g (lw_at lw_m3 72 rfl) rfl
theorem q609 : (Jvm.Cond.methodLink "java/lang/StringBuilder" (137 : Nat) ({ cls := "java/lang/String", name := "<init>", desc := "(Ljava/lang/StringBuilder;)V" } : Jvm.MethodName)) ∈ lw_all := lw_g (lw_at lw_m3 73 rfl) rfl
theorem q619 : (Jvm.Cond.selects "java/lang/StringBuilder" ({ cls := "java/lang/AbstractStringBuilder", name := "getValue", desc := "()[B" } : Jvm.MethodName) ({ cls := "java/lang/AbstractStringBuilder", name := "getValue", desc := "()[B" } : Jvm.MethodName)) ∈ lw_all := lw_g (lw_at lw_m3 83 rfl) rfl
theorem q624 : (Jvm.Cond.selects "java/lang/StringBuilder" ({ cls := "java/lang/AbstractStringBuilder", name := "length", desc := "()I" } : Jvm.MethodName) ({ cls := "java/lang/StringBuilder", name := "length", desc := "()I" } : Jvm.MethodName)) ∈ lw_all := lw_g (lw_at lw_m3 88 rfl) rfl
theorem q625 : (Jvm.Cond.instanceMethod ({ cls := "java/lang/StringBuilder", name := "length", desc := "()I" } : Jvm.MethodName)) ∈ lw_all := lw_g (lw_at lw_m3 89 rfl) rfl
theorem q626 : (Jvm.Cond.code ({ cls := "java/lang/StringBuilder", name := "length", desc := "()I" } : Jvm.MethodName) prog_34_method_93_code (1 : Nat) (Option.some Jvm.ClassFile.FieldType.int)) ∈ lw_all := lw_g (lw_at lw_m3 90 rfl) rfl
theorem q627 : (Jvm.Cond.methodLink "java/lang/StringBuilder" (343 : Nat) ({ cls := "java/lang/AbstractStringBuilder", name := "length", desc := "()I" } : Jvm.MethodName)) ∈ lw_all := lw_g (lw_at lw_m3 91 rfl) rfl
theorem q784 : (Jvm.Cond.selects "java/lang/StringBuilder" ({ cls := "java/lang/Object", name := "getClass", desc := "()Ljava/lang/Class;" } : Jvm.MethodName) ({ cls := "java/lang/Object", name := "getClass", desc := "()Ljava/lang/Class;" } : Jvm.MethodName)) ∈ lw_all := lw_g (lw_at lw_m4 8 rfl) rfl
theorem q938 : (Jvm.Cond.instanceMethod ({ cls := "java/lang/StringBuilder", name := "append", desc := "(Ljava/lang/String;)Ljava/lang/StringBuilder;" } : Jvm.MethodName)) ∈ lw_all := lw_g (lw_at lw_m4 162 rfl) rfl
theorem q939 : (Jvm.Cond.selects "java/lang/StringBuilder" ({ cls := "java/lang/StringBuilder", name := "append", desc := "(Ljava/lang/String;)Ljava/lang/StringBuilder;" } : Jvm.MethodName) ({ cls := "java/lang/StringBuilder", name := "append", desc := "(Ljava/lang/String;)Ljava/lang/StringBuilder;" } : Jvm.MethodName)) ∈ lw_all := lw_g (lw_at lw_m4 163 rfl) rfl
theorem q940 : (Jvm.Cond.code ({ cls := "java/lang/StringBuilder", name := "append", desc := "(Ljava/lang/String;)Ljava/lang/StringBuilder;" } : Jvm.MethodName) prog_34_method_7_code (2 : Nat) (Option.some (Jvm.ClassFile.FieldType.object "java/lang/StringBuilder"))) ∈ lw_all := lw_g (lw_at lw_m4 164 rfl) rfl
theorem q941 : (Jvm.Cond.methodLink "java/lang/StringBuilder" (29 : Nat) ({ cls := "java/lang/AbstractStringBuilder", name := "append", desc := "(Ljava/lang/String;)Ljava/lang/AbstractStringBuilder;" } : Jvm.MethodName)) ∈ lw_all := lw_g (lw_at lw_m4 165 rfl) rfl
theorem q984 : (Jvm.Cond.instanceMethod ({ cls := "java/lang/StringBuilder", name := "append", desc := "(I)Ljava/lang/StringBuilder;" } : Jvm.MethodName)) ∈ lw_all := lw_g (lw_at lw_m4 208 rfl) rfl
theorem q985 : (Jvm.Cond.selects "java/lang/StringBuilder" ({ cls := "java/lang/StringBuilder", name := "append", desc := "(I)Ljava/lang/StringBuilder;" } : Jvm.MethodName) ({ cls := "java/lang/StringBuilder", name := "append", desc := "(I)Ljava/lang/StringBuilder;" } : Jvm.MethodName)) ∈ lw_all := lw_g (lw_at lw_m4 209 rfl) rfl
theorem q986 : (Jvm.Cond.code ({ cls := "java/lang/StringBuilder", name := "append", desc := "(I)Ljava/lang/StringBuilder;" } : Jvm.MethodName) prog_34_method_15_code (2 : Nat) (Option.some (Jvm.ClassFile.FieldType.object "java/lang/StringBuilder"))) ∈ lw_all := lw_g (lw_at lw_m4 210 rfl) rfl
theorem q987 : (Jvm.Cond.methodLink "java/lang/StringBuilder" (53 : Nat) ({ cls := "java/lang/AbstractStringBuilder", name := "append", desc := "(I)Ljava/lang/AbstractStringBuilder;" } : Jvm.MethodName)) ∈ lw_all := lw_g (lw_at lw_m4 211 rfl) rfl
theorem q1988 : (Jvm.Cond.castable "java/lang/StringBuilder" "java/lang/Object") ∈ lw_tbl := lw_at lw_m9 12 rfl
theorem in_J10 : ∀ w ∈ wsJ100, w ∈ lw_all := lw_in wsJ100 [502, 504, 506, 508] (by decide +kernel) (by decide +kernel)

/-! java/lang/StringUTF16 -/
set_option maxRecDepth 100000
def RJ11 : String := "java/lang/StringUTF16"
abbrev cJ11_newBytesFor : ByteArray := prog_36_method_2_code
def yJ11_newBytesFor : MethodName := ⟨RJ11, "newBytesFor", "(I)[B"⟩
def dkwJ11_newBytesFor_0 : List UInt8 := [26, 184, 0, 11, 188, 8, 176]
abbrev dktJ11_newBytesFor_0 : List UInt8 := dkwJ11_newBytesFor_0 ++ []
theorem dksJ11_newBytesFor_0 : cJ11_newBytesFor.data.toList.drop 0 = dktJ11_newBytesFor_0 := by decide +kernel
theorem dJ11_newBytesFor_0 : decode cJ11_newBytesFor 0 = .ok (.iload_n 0, 1) := dk_26 (dk_at dksJ11_newBytesFor_0 0 rfl rfl)
theorem dJ11_newBytesFor_1 : decode cJ11_newBytesFor 1 = .ok (.invokestatic 11, 3) := dk_184 0 11 (dk_at dksJ11_newBytesFor_0 1 rfl rfl)
theorem dJ11_newBytesFor_4 : decode cJ11_newBytesFor 4 = .ok (.newarray .byte, 2) := dk_188_8 (dk_at dksJ11_newBytesFor_0 4 rfl rfl)
theorem dJ11_newBytesFor_6 : decode cJ11_newBytesFor 6 = .ok (.areturn, 1) := dk_176 (dk_at dksJ11_newBytesFor_0 6 rfl rfl)
abbrev cJ11_newBytesLength : ByteArray := prog_36_method_3_code
def yJ11_newBytesLength : MethodName := ⟨RJ11, "newBytesLength", "(I)I"⟩
def dkwJ11_newBytesLength_2 : List UInt8 := [182, 0, 32, 182, 0, 37, 183, 0, 41, 191, 26, 4, 120, 172]
abbrev dktJ11_newBytesLength_2 : List UInt8 := dkwJ11_newBytesLength_2 ++ []
def dkwJ11_newBytesLength_1 : List UInt8 := [187, 0, 23, 89, 183, 0, 25, 18, 26, 182, 0, 28, 26, 182, 0, 32, 18, 35, 182, 0, 28, 18, 20]
abbrev dktJ11_newBytesLength_1 : List UInt8 := dkwJ11_newBytesLength_1 ++ dktJ11_newBytesLength_2
def dkwJ11_newBytesLength_0 : List UInt8 := [26, 156, 0, 11, 187, 0, 17, 89, 183, 0, 19, 191, 26, 18, 20, 161, 0, 40, 187, 0, 21, 89]
abbrev dktJ11_newBytesLength_0 : List UInt8 := dkwJ11_newBytesLength_0 ++ dktJ11_newBytesLength_1
theorem dksJ11_newBytesLength_0 : cJ11_newBytesLength.data.toList.drop 0 = dktJ11_newBytesLength_0 := by decide +kernel
theorem dksJ11_newBytesLength_1 : cJ11_newBytesLength.data.toList.drop 22 = dktJ11_newBytesLength_1 := dk_seg dksJ11_newBytesLength_0 22 rfl rfl
theorem dksJ11_newBytesLength_2 : cJ11_newBytesLength.data.toList.drop 45 = dktJ11_newBytesLength_2 := dk_seg dksJ11_newBytesLength_1 23 rfl rfl
theorem dJ11_newBytesLength_0 : decode cJ11_newBytesLength 0 = .ok (.iload_n 0, 1) := dk_26 (dk_at dksJ11_newBytesLength_0 0 rfl rfl)
theorem dJ11_newBytesLength_1 : decode cJ11_newBytesLength 1 = .ok (.ifCond .ge 11, 3) := dk_156 0 11 (dk_at dksJ11_newBytesLength_0 1 rfl rfl)
theorem dJ11_newBytesLength_4 : decode cJ11_newBytesLength 4 = .ok (.new 17, 3) := dk_187 0 17 (dk_at dksJ11_newBytesLength_0 4 rfl rfl)
theorem dJ11_newBytesLength_7 : decode cJ11_newBytesLength 7 = .ok (.dup, 1) := dk_89 (dk_at dksJ11_newBytesLength_0 7 rfl rfl)
theorem dJ11_newBytesLength_8 : decode cJ11_newBytesLength 8 = .ok (.invokespecial 19, 3) := dk_183 0 19 (dk_at dksJ11_newBytesLength_0 8 rfl rfl)
theorem dJ11_newBytesLength_11 : decode cJ11_newBytesLength 11 = .ok (.athrow, 1) := dk_191 (dk_at dksJ11_newBytesLength_0 11 rfl rfl)
theorem dJ11_newBytesLength_12 : decode cJ11_newBytesLength 12 = .ok (.iload_n 0, 1) := dk_26 (dk_at dksJ11_newBytesLength_0 12 rfl rfl)
theorem dJ11_newBytesLength_13 : decode cJ11_newBytesLength 13 = .ok (.ldc 20, 2) := dk_18 20 (dk_at dksJ11_newBytesLength_0 13 rfl rfl)
theorem dJ11_newBytesLength_15 : decode cJ11_newBytesLength 15 = .ok (.if_icmp .lt 40, 3) := dk_161 0 40 (dk_at dksJ11_newBytesLength_0 15 rfl rfl)
theorem dJ11_newBytesLength_18 : decode cJ11_newBytesLength 18 = .ok (.new 21, 3) := dk_187 0 21 (dk_at dksJ11_newBytesLength_0 18 rfl rfl)
theorem dJ11_newBytesLength_21 : decode cJ11_newBytesLength 21 = .ok (.dup, 1) := dk_89 (dk_at dksJ11_newBytesLength_0 21 rfl rfl)
theorem dJ11_newBytesLength_22 : decode cJ11_newBytesLength 22 = .ok (.new 23, 3) := dk_187 0 23 (dk_at dksJ11_newBytesLength_1 0 rfl rfl)
theorem dJ11_newBytesLength_25 : decode cJ11_newBytesLength 25 = .ok (.dup, 1) := dk_89 (dk_at dksJ11_newBytesLength_1 3 rfl rfl)
theorem dJ11_newBytesLength_26 : decode cJ11_newBytesLength 26 = .ok (.invokespecial 25, 3) := dk_183 0 25 (dk_at dksJ11_newBytesLength_1 4 rfl rfl)
theorem dJ11_newBytesLength_29 : decode cJ11_newBytesLength 29 = .ok (.ldc 26, 2) := dk_18 26 (dk_at dksJ11_newBytesLength_1 7 rfl rfl)
theorem dJ11_newBytesLength_31 : decode cJ11_newBytesLength 31 = .ok (.invokevirtual 28, 3) := dk_182 0 28 (dk_at dksJ11_newBytesLength_1 9 rfl rfl)
theorem dJ11_newBytesLength_34 : decode cJ11_newBytesLength 34 = .ok (.iload_n 0, 1) := dk_26 (dk_at dksJ11_newBytesLength_1 12 rfl rfl)
theorem dJ11_newBytesLength_35 : decode cJ11_newBytesLength 35 = .ok (.invokevirtual 32, 3) := dk_182 0 32 (dk_at dksJ11_newBytesLength_1 13 rfl rfl)
theorem dJ11_newBytesLength_38 : decode cJ11_newBytesLength 38 = .ok (.ldc 35, 2) := dk_18 35 (dk_at dksJ11_newBytesLength_1 16 rfl rfl)
theorem dJ11_newBytesLength_40 : decode cJ11_newBytesLength 40 = .ok (.invokevirtual 28, 3) := dk_182 0 28 (dk_at dksJ11_newBytesLength_1 18 rfl rfl)
theorem dJ11_newBytesLength_43 : decode cJ11_newBytesLength 43 = .ok (.ldc 20, 2) := dk_18 20 (dk_at dksJ11_newBytesLength_1 21 rfl rfl)
theorem dJ11_newBytesLength_45 : decode cJ11_newBytesLength 45 = .ok (.invokevirtual 32, 3) := dk_182 0 32 (dk_at dksJ11_newBytesLength_2 0 rfl rfl)
theorem dJ11_newBytesLength_48 : decode cJ11_newBytesLength 48 = .ok (.invokevirtual 37, 3) := dk_182 0 37 (dk_at dksJ11_newBytesLength_2 3 rfl rfl)
theorem dJ11_newBytesLength_51 : decode cJ11_newBytesLength 51 = .ok (.invokespecial 41, 3) := dk_183 0 41 (dk_at dksJ11_newBytesLength_2 6 rfl rfl)
theorem dJ11_newBytesLength_54 : decode cJ11_newBytesLength 54 = .ok (.athrow, 1) := dk_191 (dk_at dksJ11_newBytesLength_2 9 rfl rfl)
theorem dJ11_newBytesLength_55 : decode cJ11_newBytesLength 55 = .ok (.iload_n 0, 1) := dk_26 (dk_at dksJ11_newBytesLength_2 10 rfl rfl)
theorem dJ11_newBytesLength_56 : decode cJ11_newBytesLength 56 = .ok (.iconst 1, 1) := dk_4 (dk_at dksJ11_newBytesLength_2 11 rfl rfl)
theorem dJ11_newBytesLength_57 : decode cJ11_newBytesLength 57 = .ok (.ishl, 1) := dk_120 (dk_at dksJ11_newBytesLength_2 12 rfl rfl)
theorem dJ11_newBytesLength_58 : decode cJ11_newBytesLength 58 = .ok (.ireturn, 1) := dk_172 (dk_at dksJ11_newBytesLength_2 13 rfl rfl)
abbrev cJ11_inflate : ByteArray := prog_36_method_86_code
def yJ11_inflate : MethodName := ⟨RJ11, "inflate", "([BI[BII)V"⟩
def dkwJ11_inflate_1 : List UInt8 := [132, 1, 1, 51, 17, 0, 255, 126, 184, 0, 111, 132, 5, 1, 167, 255, 228, 177]
abbrev dktJ11_inflate_1 : List UInt8 := dkwJ11_inflate_1 ++ []
def dkwJ11_inflate_0 : List UInt8 := [29, 21, 4, 44, 184, 0, 173, 3, 54, 5, 21, 5, 21, 4, 162, 0, 27, 44, 29, 132, 3, 1, 42, 27]
abbrev dktJ11_inflate_0 : List UInt8 := dkwJ11_inflate_0 ++ dktJ11_inflate_1
theorem dksJ11_inflate_0 : cJ11_inflate.data.toList.drop 0 = dktJ11_inflate_0 := by decide +kernel
theorem dksJ11_inflate_1 : cJ11_inflate.data.toList.drop 24 = dktJ11_inflate_1 := dk_seg dksJ11_inflate_0 24 rfl rfl
theorem dJ11_inflate_0 : decode cJ11_inflate 0 = .ok (.iload_n 3, 1) := dk_29 (dk_at dksJ11_inflate_0 0 rfl rfl)
theorem dJ11_inflate_1 : decode cJ11_inflate 1 = .ok (.iload 4, 2) := dk_21 4 (dk_at dksJ11_inflate_0 1 rfl rfl)
theorem dJ11_inflate_3 : decode cJ11_inflate 3 = .ok (.aload_n 2, 1) := dk_44 (dk_at dksJ11_inflate_0 3 rfl rfl)
theorem dJ11_inflate_4 : decode cJ11_inflate 4 = .ok (.invokestatic 173, 3) := dk_184 0 173 (dk_at dksJ11_inflate_0 4 rfl rfl)
theorem dJ11_inflate_7 : decode cJ11_inflate 7 = .ok (.iconst 0, 1) := dk_3 (dk_at dksJ11_inflate_0 7 rfl rfl)
theorem dJ11_inflate_8 : decode cJ11_inflate 8 = .ok (.istore 5, 2) := dk_54 5 (dk_at dksJ11_inflate_0 8 rfl rfl)
theorem dJ11_inflate_10 : decode cJ11_inflate 10 = .ok (.iload 5, 2) := dk_21 5 (dk_at dksJ11_inflate_0 10 rfl rfl)
theorem dJ11_inflate_12 : decode cJ11_inflate 12 = .ok (.iload 4, 2) := dk_21 4 (dk_at dksJ11_inflate_0 12 rfl rfl)
theorem dJ11_inflate_14 : decode cJ11_inflate 14 = .ok (.if_icmp .ge 27, 3) := dk_162 0 27 (dk_at dksJ11_inflate_0 14 rfl rfl)
theorem dJ11_inflate_17 : decode cJ11_inflate 17 = .ok (.aload_n 2, 1) := dk_44 (dk_at dksJ11_inflate_0 17 rfl rfl)
theorem dJ11_inflate_18 : decode cJ11_inflate 18 = .ok (.iload_n 3, 1) := dk_29 (dk_at dksJ11_inflate_0 18 rfl rfl)
theorem dJ11_inflate_19 : decode cJ11_inflate 19 = .ok (.iinc 3 1, 3) := dk_132 3 1 (dk_at dksJ11_inflate_0 19 rfl rfl)
theorem dJ11_inflate_22 : decode cJ11_inflate 22 = .ok (.aload_n 0, 1) := dk_42 (dk_at dksJ11_inflate_0 22 rfl rfl)
theorem dJ11_inflate_23 : decode cJ11_inflate 23 = .ok (.iload_n 1, 1) := dk_27 (dk_at dksJ11_inflate_0 23 rfl rfl)
theorem dJ11_inflate_24 : decode cJ11_inflate 24 = .ok (.iinc 1 1, 3) := dk_132 1 1 (dk_at dksJ11_inflate_1 0 rfl rfl)
theorem dJ11_inflate_27 : decode cJ11_inflate 27 = .ok (.baload, 1) := dk_51 (dk_at dksJ11_inflate_1 3 rfl rfl)
theorem dJ11_inflate_28 : decode cJ11_inflate 28 = .ok (.sipush 255, 3) := dk_17 0 255 (dk_at dksJ11_inflate_1 4 rfl rfl)
theorem dJ11_inflate_31 : decode cJ11_inflate 31 = .ok (.iand, 1) := dk_126 (dk_at dksJ11_inflate_1 7 rfl rfl)
theorem dJ11_inflate_32 : decode cJ11_inflate 32 = .ok (.invokestatic 111, 3) := dk_184 0 111 (dk_at dksJ11_inflate_1 8 rfl rfl)
theorem dJ11_inflate_35 : decode cJ11_inflate 35 = .ok (.iinc 5 1, 3) := dk_132 5 1 (dk_at dksJ11_inflate_1 11 rfl rfl)
theorem dJ11_inflate_38 : decode cJ11_inflate 38 = .ok (.goto (-28), 3) := dk_167 255 228 (dk_at dksJ11_inflate_1 14 rfl rfl)
theorem dJ11_inflate_41 : decode cJ11_inflate 41 = .ok (.return_, 1) := dk_177 (dk_at dksJ11_inflate_1 17 rfl rfl)
abbrev cJ11_checkBoundsOffCount : ByteArray := prog_36_method_94_code
def yJ11_checkBoundsOffCount : MethodName := ⟨RJ11, "checkBoundsOffCount", "(II[B)V"⟩
def dkwJ11_checkBoundsOffCount_0 : List UInt8 := [26, 27, 44, 184, 0, 48, 184, 1, 163, 87, 177]
abbrev dktJ11_checkBoundsOffCount_0 : List UInt8 := dkwJ11_checkBoundsOffCount_0 ++ []
theorem dksJ11_checkBoundsOffCount_0 : cJ11_checkBoundsOffCount.data.toList.drop 0 = dktJ11_checkBoundsOffCount_0 := by decide +kernel
theorem dJ11_checkBoundsOffCount_0 : decode cJ11_checkBoundsOffCount 0 = .ok (.iload_n 0, 1) := dk_26 (dk_at dksJ11_checkBoundsOffCount_0 0 rfl rfl)
theorem dJ11_checkBoundsOffCount_1 : decode cJ11_checkBoundsOffCount 1 = .ok (.iload_n 1, 1) := dk_27 (dk_at dksJ11_checkBoundsOffCount_0 1 rfl rfl)
theorem dJ11_checkBoundsOffCount_2 : decode cJ11_checkBoundsOffCount 2 = .ok (.aload_n 2, 1) := dk_44 (dk_at dksJ11_checkBoundsOffCount_0 2 rfl rfl)
theorem dJ11_checkBoundsOffCount_3 : decode cJ11_checkBoundsOffCount 3 = .ok (.invokestatic 48, 3) := dk_184 0 48 (dk_at dksJ11_checkBoundsOffCount_0 3 rfl rfl)
theorem dJ11_checkBoundsOffCount_6 : decode cJ11_checkBoundsOffCount 6 = .ok (.invokestatic 419, 3) := dk_184 1 163 (dk_at dksJ11_checkBoundsOffCount_0 6 rfl rfl)
theorem dJ11_checkBoundsOffCount_9 : decode cJ11_checkBoundsOffCount 9 = .ok (.pop, 1) := dk_87 (dk_at dksJ11_checkBoundsOffCount_0 9 rfl rfl)
theorem dJ11_checkBoundsOffCount_10 : decode cJ11_checkBoundsOffCount 10 = .ok (.return_, 1) := dk_177 (dk_at dksJ11_checkBoundsOffCount_0 10 rfl rfl)
abbrev cJ11_length : ByteArray := prog_36_method_6_code
def yJ11_length : MethodName := ⟨RJ11, "length", "([B)I"⟩
def dkwJ11_length_0 : List UInt8 := [42, 190, 4, 122, 172]
abbrev dktJ11_length_0 : List UInt8 := dkwJ11_length_0 ++ []
theorem dksJ11_length_0 : cJ11_length.data.toList.drop 0 = dktJ11_length_0 := by decide +kernel
theorem dJ11_length_0 : decode cJ11_length 0 = .ok (.aload_n 0, 1) := dk_42 (dk_at dksJ11_length_0 0 rfl rfl)
theorem dJ11_length_1 : decode cJ11_length 1 = .ok (.arraylength, 1) := dk_190 (dk_at dksJ11_length_0 1 rfl rfl)
theorem dJ11_length_2 : decode cJ11_length 2 = .ok (.iconst 1, 1) := dk_4 (dk_at dksJ11_length_0 2 rfl rfl)
theorem dJ11_length_3 : decode cJ11_length 3 = .ok (.ishr, 1) := dk_122 (dk_at dksJ11_length_0 3 rfl rfl)
theorem dJ11_length_4 : decode cJ11_length 4 = .ok (.ireturn, 1) := dk_172 (dk_at dksJ11_length_0 4 rfl rfl)
abbrev cJ11_putChar : ByteArray := prog_36_method_4_code
def yJ11_putChar : MethodName := ⟨RJ11, "putChar", "([BII)V"⟩
def dkwJ11_putChar_2 : List UInt8 := [178, 0, 63, 122, 145, 84, 177]
abbrev dktJ11_putChar_2 : List UInt8 := dkwJ11_putChar_2 ++ []
def dkwJ11_putChar_1 : List UInt8 := [183, 0, 56, 191, 27, 4, 120, 60, 42, 27, 132, 1, 1, 28, 178, 0, 59, 122, 145, 84, 42, 27, 28]
abbrev dktJ11_putChar_1 : List UInt8 := dkwJ11_putChar_1 ++ dktJ11_putChar_2
def dkwJ11_putChar_0 : List UInt8 := [178, 0, 44, 154, 0, 25, 27, 155, 0, 11, 27, 42, 184, 0, 48, 161, 0, 13, 187, 0, 52, 89, 18, 54]
abbrev dktJ11_putChar_0 : List UInt8 := dkwJ11_putChar_0 ++ dktJ11_putChar_1
theorem dksJ11_putChar_0 : cJ11_putChar.data.toList.drop 0 = dktJ11_putChar_0 := by decide +kernel
theorem dksJ11_putChar_1 : cJ11_putChar.data.toList.drop 24 = dktJ11_putChar_1 := dk_seg dksJ11_putChar_0 24 rfl rfl
theorem dksJ11_putChar_2 : cJ11_putChar.data.toList.drop 47 = dktJ11_putChar_2 := dk_seg dksJ11_putChar_1 23 rfl rfl
theorem dJ11_putChar_0 : decode cJ11_putChar 0 = .ok (.getstatic 44, 3) := dk_178 0 44 (dk_at dksJ11_putChar_0 0 rfl rfl)
theorem dJ11_putChar_3 : decode cJ11_putChar 3 = .ok (.ifCond .ne 25, 3) := dk_154 0 25 (dk_at dksJ11_putChar_0 3 rfl rfl)
theorem dJ11_putChar_6 : decode cJ11_putChar 6 = .ok (.iload_n 1, 1) := dk_27 (dk_at dksJ11_putChar_0 6 rfl rfl)
theorem dJ11_putChar_7 : decode cJ11_putChar 7 = .ok (.ifCond .lt 11, 3) := dk_155 0 11 (dk_at dksJ11_putChar_0 7 rfl rfl)
theorem dJ11_putChar_10 : decode cJ11_putChar 10 = .ok (.iload_n 1, 1) := dk_27 (dk_at dksJ11_putChar_0 10 rfl rfl)
theorem dJ11_putChar_11 : decode cJ11_putChar 11 = .ok (.aload_n 0, 1) := dk_42 (dk_at dksJ11_putChar_0 11 rfl rfl)
theorem dJ11_putChar_12 : decode cJ11_putChar 12 = .ok (.invokestatic 48, 3) := dk_184 0 48 (dk_at dksJ11_putChar_0 12 rfl rfl)
theorem dJ11_putChar_15 : decode cJ11_putChar 15 = .ok (.if_icmp .lt 13, 3) := dk_161 0 13 (dk_at dksJ11_putChar_0 15 rfl rfl)
theorem dJ11_putChar_18 : decode cJ11_putChar 18 = .ok (.new 52, 3) := dk_187 0 52 (dk_at dksJ11_putChar_0 18 rfl rfl)
theorem dJ11_putChar_21 : decode cJ11_putChar 21 = .ok (.dup, 1) := dk_89 (dk_at dksJ11_putChar_0 21 rfl rfl)
theorem dJ11_putChar_22 : decode cJ11_putChar 22 = .ok (.ldc 54, 2) := dk_18 54 (dk_at dksJ11_putChar_0 22 rfl rfl)
theorem dJ11_putChar_24 : decode cJ11_putChar 24 = .ok (.invokespecial 56, 3) := dk_183 0 56 (dk_at dksJ11_putChar_1 0 rfl rfl)
theorem dJ11_putChar_27 : decode cJ11_putChar 27 = .ok (.athrow, 1) := dk_191 (dk_at dksJ11_putChar_1 3 rfl rfl)
theorem dJ11_putChar_28 : decode cJ11_putChar 28 = .ok (.iload_n 1, 1) := dk_27 (dk_at dksJ11_putChar_1 4 rfl rfl)
theorem dJ11_putChar_29 : decode cJ11_putChar 29 = .ok (.iconst 1, 1) := dk_4 (dk_at dksJ11_putChar_1 5 rfl rfl)
theorem dJ11_putChar_30 : decode cJ11_putChar 30 = .ok (.ishl, 1) := dk_120 (dk_at dksJ11_putChar_1 6 rfl rfl)
theorem dJ11_putChar_31 : decode cJ11_putChar 31 = .ok (.istore_n 1, 1) := dk_60 (dk_at dksJ11_putChar_1 7 rfl rfl)
theorem dJ11_putChar_32 : decode cJ11_putChar 32 = .ok (.aload_n 0, 1) := dk_42 (dk_at dksJ11_putChar_1 8 rfl rfl)
theorem dJ11_putChar_33 : decode cJ11_putChar 33 = .ok (.iload_n 1, 1) := dk_27 (dk_at dksJ11_putChar_1 9 rfl rfl)
theorem dJ11_putChar_34 : decode cJ11_putChar 34 = .ok (.iinc 1 1, 3) := dk_132 1 1 (dk_at dksJ11_putChar_1 10 rfl rfl)
theorem dJ11_putChar_37 : decode cJ11_putChar 37 = .ok (.iload_n 2, 1) := dk_28 (dk_at dksJ11_putChar_1 13 rfl rfl)
theorem dJ11_putChar_38 : decode cJ11_putChar 38 = .ok (.getstatic 59, 3) := dk_178 0 59 (dk_at dksJ11_putChar_1 14 rfl rfl)
theorem dJ11_putChar_41 : decode cJ11_putChar 41 = .ok (.ishr, 1) := dk_122 (dk_at dksJ11_putChar_1 17 rfl rfl)
theorem dJ11_putChar_42 : decode cJ11_putChar 42 = .ok (.i2b, 1) := dk_145 (dk_at dksJ11_putChar_1 18 rfl rfl)
theorem dJ11_putChar_43 : decode cJ11_putChar 43 = .ok (.bastore, 1) := dk_84 (dk_at dksJ11_putChar_1 19 rfl rfl)
theorem dJ11_putChar_44 : decode cJ11_putChar 44 = .ok (.aload_n 0, 1) := dk_42 (dk_at dksJ11_putChar_1 20 rfl rfl)
theorem dJ11_putChar_45 : decode cJ11_putChar 45 = .ok (.iload_n 1, 1) := dk_27 (dk_at dksJ11_putChar_1 21 rfl rfl)
theorem dJ11_putChar_46 : decode cJ11_putChar 46 = .ok (.iload_n 2, 1) := dk_28 (dk_at dksJ11_putChar_1 22 rfl rfl)
theorem dJ11_putChar_47 : decode cJ11_putChar 47 = .ok (.getstatic 63, 3) := dk_178 0 63 (dk_at dksJ11_putChar_2 0 rfl rfl)
theorem dJ11_putChar_50 : decode cJ11_putChar 50 = .ok (.ishr, 1) := dk_122 (dk_at dksJ11_putChar_2 3 rfl rfl)
theorem dJ11_putChar_51 : decode cJ11_putChar 51 = .ok (.i2b, 1) := dk_145 (dk_at dksJ11_putChar_2 4 rfl rfl)
theorem dJ11_putChar_52 : decode cJ11_putChar 52 = .ok (.bastore, 1) := dk_84 (dk_at dksJ11_putChar_2 5 rfl rfl)
theorem dJ11_putChar_53 : decode cJ11_putChar 53 = .ok (.return_, 1) := dk_177 (dk_at dksJ11_putChar_2 6 rfl rfl)
abbrev cJ11_putCharSB : ByteArray := prog_36_method_71_code
def yJ11_putCharSB : MethodName := ⟨RJ11, "putCharSB", "([BII)V"⟩
def dkwJ11_putCharSB_0 : List UInt8 := [27, 42, 184, 0, 67, 42, 27, 28, 184, 0, 111, 177]
abbrev dktJ11_putCharSB_0 : List UInt8 := dkwJ11_putCharSB_0 ++ []
theorem dksJ11_putCharSB_0 : cJ11_putCharSB.data.toList.drop 0 = dktJ11_putCharSB_0 := by decide +kernel
theorem dJ11_putCharSB_0 : decode cJ11_putCharSB 0 = .ok (.iload_n 1, 1) := dk_27 (dk_at dksJ11_putCharSB_0 0 rfl rfl)
theorem dJ11_putCharSB_1 : decode cJ11_putCharSB 1 = .ok (.aload_n 0, 1) := dk_42 (dk_at dksJ11_putCharSB_0 1 rfl rfl)
theorem dJ11_putCharSB_2 : decode cJ11_putCharSB 2 = .ok (.invokestatic 67, 3) := dk_184 0 67 (dk_at dksJ11_putCharSB_0 2 rfl rfl)
theorem dJ11_putCharSB_5 : decode cJ11_putCharSB 5 = .ok (.aload_n 0, 1) := dk_42 (dk_at dksJ11_putCharSB_0 5 rfl rfl)
theorem dJ11_putCharSB_6 : decode cJ11_putCharSB 6 = .ok (.iload_n 1, 1) := dk_27 (dk_at dksJ11_putCharSB_0 6 rfl rfl)
theorem dJ11_putCharSB_7 : decode cJ11_putCharSB 7 = .ok (.iload_n 2, 1) := dk_28 (dk_at dksJ11_putCharSB_0 7 rfl rfl)
theorem dJ11_putCharSB_8 : decode cJ11_putCharSB 8 = .ok (.invokestatic 111, 3) := dk_184 0 111 (dk_at dksJ11_putCharSB_0 8 rfl rfl)
theorem dJ11_putCharSB_11 : decode cJ11_putCharSB 11 = .ok (.return_, 1) := dk_177 (dk_at dksJ11_putCharSB_0 11 rfl rfl)
abbrev cJ11_checkIndex : ByteArray := prog_36_method_91_code
def yJ11_checkIndex : MethodName := ⟨RJ11, "checkIndex", "(I[B)V"⟩
def dkwJ11_checkIndex_0 : List UInt8 := [26, 43, 184, 0, 48, 184, 1, 158, 177]
abbrev dktJ11_checkIndex_0 : List UInt8 := dkwJ11_checkIndex_0 ++ []
theorem dksJ11_checkIndex_0 : cJ11_checkIndex.data.toList.drop 0 = dktJ11_checkIndex_0 := by decide +kernel
theorem dJ11_checkIndex_0 : decode cJ11_checkIndex 0 = .ok (.iload_n 0, 1) := dk_26 (dk_at dksJ11_checkIndex_0 0 rfl rfl)
theorem dJ11_checkIndex_1 : decode cJ11_checkIndex 1 = .ok (.aload_n 1, 1) := dk_43 (dk_at dksJ11_checkIndex_0 1 rfl rfl)
theorem dJ11_checkIndex_2 : decode cJ11_checkIndex 2 = .ok (.invokestatic 48, 3) := dk_184 0 48 (dk_at dksJ11_checkIndex_0 2 rfl rfl)
theorem dJ11_checkIndex_5 : decode cJ11_checkIndex 5 = .ok (.invokestatic 414, 3) := dk_184 1 158 (dk_at dksJ11_checkIndex_0 5 rfl rfl)
theorem dJ11_checkIndex_8 : decode cJ11_checkIndex 8 = .ok (.return_, 1) := dk_177 (dk_at dksJ11_checkIndex_0 8 rfl rfl)
abbrev cJ11_compress : ByteArray := prog_36_method_17_code
def yJ11_compress : MethodName := ⟨RJ11, "compress", "([BII)[B"⟩
def dkwJ11_compress_2 : List UInt8 := [25, 5, 3, 45, 3, 28, 184, 0, 123, 28, 159, 0, 6, 25, 5, 176, 45, 176]
abbrev dktJ11_compress_2 : List UInt8 := dkwJ11_compress_2 ++ []
def dkwJ11_compress_1 : List UInt8 := [27, 28, 96, 184, 0, 11, 184, 0, 126, 58, 5, 25, 5, 21, 4, 184, 0, 71, 17, 0, 255, 163, 0, 16]
abbrev dktJ11_compress_1 : List UInt8 := dkwJ11_compress_1 ++ dktJ11_compress_2
def dkwJ11_compress_0 : List UInt8 := [28, 188, 8, 78, 42, 27, 45, 3, 28, 184, 0, 123, 54, 4, 21, 4, 28, 159, 0, 47, 42, 27, 4, 120]
abbrev dktJ11_compress_0 : List UInt8 := dkwJ11_compress_0 ++ dktJ11_compress_1
theorem dksJ11_compress_0 : cJ11_compress.data.toList.drop 0 = dktJ11_compress_0 := by decide +kernel
theorem dksJ11_compress_1 : cJ11_compress.data.toList.drop 24 = dktJ11_compress_1 := dk_seg dksJ11_compress_0 24 rfl rfl
theorem dksJ11_compress_2 : cJ11_compress.data.toList.drop 48 = dktJ11_compress_2 := dk_seg dksJ11_compress_1 24 rfl rfl
theorem dJ11_compress_0 : decode cJ11_compress 0 = .ok (.iload_n 2, 1) := dk_28 (dk_at dksJ11_compress_0 0 rfl rfl)
theorem dJ11_compress_1 : decode cJ11_compress 1 = .ok (.newarray .byte, 2) := dk_188_8 (dk_at dksJ11_compress_0 1 rfl rfl)
theorem dJ11_compress_3 : decode cJ11_compress 3 = .ok (.astore_n 3, 1) := dk_78 (dk_at dksJ11_compress_0 3 rfl rfl)
theorem dJ11_compress_4 : decode cJ11_compress 4 = .ok (.aload_n 0, 1) := dk_42 (dk_at dksJ11_compress_0 4 rfl rfl)
theorem dJ11_compress_5 : decode cJ11_compress 5 = .ok (.iload_n 1, 1) := dk_27 (dk_at dksJ11_compress_0 5 rfl rfl)
theorem dJ11_compress_6 : decode cJ11_compress 6 = .ok (.aload_n 3, 1) := dk_45 (dk_at dksJ11_compress_0 6 rfl rfl)
theorem dJ11_compress_7 : decode cJ11_compress 7 = .ok (.iconst 0, 1) := dk_3 (dk_at dksJ11_compress_0 7 rfl rfl)
theorem dJ11_compress_8 : decode cJ11_compress 8 = .ok (.iload_n 2, 1) := dk_28 (dk_at dksJ11_compress_0 8 rfl rfl)
theorem dJ11_compress_9 : decode cJ11_compress 9 = .ok (.invokestatic 123, 3) := dk_184 0 123 (dk_at dksJ11_compress_0 9 rfl rfl)
theorem dJ11_compress_12 : decode cJ11_compress 12 = .ok (.istore 4, 2) := dk_54 4 (dk_at dksJ11_compress_0 12 rfl rfl)
theorem dJ11_compress_14 : decode cJ11_compress 14 = .ok (.iload 4, 2) := dk_21 4 (dk_at dksJ11_compress_0 14 rfl rfl)
theorem dJ11_compress_16 : decode cJ11_compress 16 = .ok (.iload_n 2, 1) := dk_28 (dk_at dksJ11_compress_0 16 rfl rfl)
theorem dJ11_compress_17 : decode cJ11_compress 17 = .ok (.if_icmp .eq 47, 3) := dk_159 0 47 (dk_at dksJ11_compress_0 17 rfl rfl)
theorem dJ11_compress_20 : decode cJ11_compress 20 = .ok (.aload_n 0, 1) := dk_42 (dk_at dksJ11_compress_0 20 rfl rfl)
theorem dJ11_compress_21 : decode cJ11_compress 21 = .ok (.iload_n 1, 1) := dk_27 (dk_at dksJ11_compress_0 21 rfl rfl)
theorem dJ11_compress_22 : decode cJ11_compress 22 = .ok (.iconst 1, 1) := dk_4 (dk_at dksJ11_compress_0 22 rfl rfl)
theorem dJ11_compress_23 : decode cJ11_compress 23 = .ok (.ishl, 1) := dk_120 (dk_at dksJ11_compress_0 23 rfl rfl)
theorem dJ11_compress_24 : decode cJ11_compress 24 = .ok (.iload_n 1, 1) := dk_27 (dk_at dksJ11_compress_1 0 rfl rfl)
theorem dJ11_compress_25 : decode cJ11_compress 25 = .ok (.iload_n 2, 1) := dk_28 (dk_at dksJ11_compress_1 1 rfl rfl)
theorem dJ11_compress_26 : decode cJ11_compress 26 = .ok (.iadd, 1) := dk_96 (dk_at dksJ11_compress_1 2 rfl rfl)
theorem dJ11_compress_27 : decode cJ11_compress 27 = .ok (.invokestatic 11, 3) := dk_184 0 11 (dk_at dksJ11_compress_1 3 rfl rfl)
theorem dJ11_compress_30 : decode cJ11_compress 30 = .ok (.invokestatic 126, 3) := dk_184 0 126 (dk_at dksJ11_compress_1 6 rfl rfl)
theorem dJ11_compress_33 : decode cJ11_compress 33 = .ok (.astore 5, 2) := dk_58 5 (dk_at dksJ11_compress_1 9 rfl rfl)
theorem dJ11_compress_35 : decode cJ11_compress 35 = .ok (.aload 5, 2) := dk_25 5 (dk_at dksJ11_compress_1 11 rfl rfl)
theorem dJ11_compress_37 : decode cJ11_compress 37 = .ok (.iload 4, 2) := dk_21 4 (dk_at dksJ11_compress_1 13 rfl rfl)
theorem dJ11_compress_39 : decode cJ11_compress 39 = .ok (.invokestatic 71, 3) := dk_184 0 71 (dk_at dksJ11_compress_1 15 rfl rfl)
theorem dJ11_compress_42 : decode cJ11_compress 42 = .ok (.sipush 255, 3) := dk_17 0 255 (dk_at dksJ11_compress_1 18 rfl rfl)
theorem dJ11_compress_45 : decode cJ11_compress 45 = .ok (.if_icmp .gt 16, 3) := dk_163 0 16 (dk_at dksJ11_compress_1 21 rfl rfl)
theorem dJ11_compress_48 : decode cJ11_compress 48 = .ok (.aload 5, 2) := dk_25 5 (dk_at dksJ11_compress_2 0 rfl rfl)
theorem dJ11_compress_50 : decode cJ11_compress 50 = .ok (.iconst 0, 1) := dk_3 (dk_at dksJ11_compress_2 2 rfl rfl)
theorem dJ11_compress_51 : decode cJ11_compress 51 = .ok (.aload_n 3, 1) := dk_45 (dk_at dksJ11_compress_2 3 rfl rfl)
theorem dJ11_compress_52 : decode cJ11_compress 52 = .ok (.iconst 0, 1) := dk_3 (dk_at dksJ11_compress_2 4 rfl rfl)
theorem dJ11_compress_53 : decode cJ11_compress 53 = .ok (.iload_n 2, 1) := dk_28 (dk_at dksJ11_compress_2 5 rfl rfl)
theorem dJ11_compress_54 : decode cJ11_compress 54 = .ok (.invokestatic 123, 3) := dk_184 0 123 (dk_at dksJ11_compress_2 6 rfl rfl)
theorem dJ11_compress_57 : decode cJ11_compress 57 = .ok (.iload_n 2, 1) := dk_28 (dk_at dksJ11_compress_2 9 rfl rfl)
theorem dJ11_compress_58 : decode cJ11_compress 58 = .ok (.if_icmp .eq 6, 3) := dk_159 0 6 (dk_at dksJ11_compress_2 10 rfl rfl)
theorem dJ11_compress_61 : decode cJ11_compress 61 = .ok (.aload 5, 2) := dk_25 5 (dk_at dksJ11_compress_2 13 rfl rfl)
theorem dJ11_compress_63 : decode cJ11_compress 63 = .ok (.areturn, 1) := dk_176 (dk_at dksJ11_compress_2 15 rfl rfl)
theorem dJ11_compress_64 : decode cJ11_compress 64 = .ok (.aload_n 3, 1) := dk_45 (dk_at dksJ11_compress_2 16 rfl rfl)
theorem dJ11_compress_65 : decode cJ11_compress 65 = .ok (.areturn, 1) := dk_176 (dk_at dksJ11_compress_2 17 rfl rfl)
abbrev cJ11_compress_2 : ByteArray := prog_36_method_22_code
def yJ11_compress_2 : MethodName := ⟨RJ11, "compress", "([BI[BII)I"⟩
def dkwJ11_compress_2_2 : List UInt8 := [132, 5, 1, 167, 255, 216, 21, 4, 172]
abbrev dktJ11_compress_2_2 : List UInt8 := dkwJ11_compress_2_2 ++ []
def dkwJ11_compress_2_1 : List UInt8 := [21, 6, 17, 0, 255, 164, 0, 6, 21, 5, 172, 44, 29, 21, 6, 145, 84, 132, 1, 1, 132, 3, 1]
abbrev dktJ11_compress_2_1 : List UInt8 := dkwJ11_compress_2_1 ++ dktJ11_compress_2_2
def dkwJ11_compress_2_0 : List UInt8 := [27, 21, 4, 42, 184, 0, 173, 3, 54, 5, 21, 5, 21, 4, 162, 0, 39, 42, 27, 184, 0, 71, 54, 6]
abbrev dktJ11_compress_2_0 : List UInt8 := dkwJ11_compress_2_0 ++ dktJ11_compress_2_1
theorem dksJ11_compress_2_0 : cJ11_compress_2.data.toList.drop 0 = dktJ11_compress_2_0 := by decide +kernel
theorem dksJ11_compress_2_1 : cJ11_compress_2.data.toList.drop 24 = dktJ11_compress_2_1 := dk_seg dksJ11_compress_2_0 24 rfl rfl
theorem dksJ11_compress_2_2 : cJ11_compress_2.data.toList.drop 47 = dktJ11_compress_2_2 := dk_seg dksJ11_compress_2_1 23 rfl rfl
theorem dJ11_compress_2_0 : decode cJ11_compress_2 0 = .ok (.iload_n 1, 1) := dk_27 (dk_at dksJ11_compress_2_0 0 rfl rfl)
theorem dJ11_compress_2_1 : decode cJ11_compress_2 1 = .ok (.iload 4, 2) := dk_21 4 (dk_at dksJ11_compress_2_0 1 rfl rfl)
theorem dJ11_compress_2_3 : decode cJ11_compress_2 3 = .ok (.aload_n 0, 1) := dk_42 (dk_at dksJ11_compress_2_0 3 rfl rfl)
theorem dJ11_compress_2_4 : decode cJ11_compress_2 4 = .ok (.invokestatic 173, 3) := dk_184 0 173 (dk_at dksJ11_compress_2_0 4 rfl rfl)
theorem dJ11_compress_2_7 : decode cJ11_compress_2 7 = .ok (.iconst 0, 1) := dk_3 (dk_at dksJ11_compress_2_0 7 rfl rfl)
theorem dJ11_compress_2_8 : decode cJ11_compress_2 8 = .ok (.istore 5, 2) := dk_54 5 (dk_at dksJ11_compress_2_0 8 rfl rfl)
theorem dJ11_compress_2_10 : decode cJ11_compress_2 10 = .ok (.iload 5, 2) := dk_21 5 (dk_at dksJ11_compress_2_0 10 rfl rfl)
theorem dJ11_compress_2_12 : decode cJ11_compress_2 12 = .ok (.iload 4, 2) := dk_21 4 (dk_at dksJ11_compress_2_0 12 rfl rfl)
theorem dJ11_compress_2_14 : decode cJ11_compress_2 14 = .ok (.if_icmp .ge 39, 3) := dk_162 0 39 (dk_at dksJ11_compress_2_0 14 rfl rfl)
theorem dJ11_compress_2_17 : decode cJ11_compress_2 17 = .ok (.aload_n 0, 1) := dk_42 (dk_at dksJ11_compress_2_0 17 rfl rfl)
theorem dJ11_compress_2_18 : decode cJ11_compress_2 18 = .ok (.iload_n 1, 1) := dk_27 (dk_at dksJ11_compress_2_0 18 rfl rfl)
theorem dJ11_compress_2_19 : decode cJ11_compress_2 19 = .ok (.invokestatic 71, 3) := dk_184 0 71 (dk_at dksJ11_compress_2_0 19 rfl rfl)
theorem dJ11_compress_2_22 : decode cJ11_compress_2 22 = .ok (.istore 6, 2) := dk_54 6 (dk_at dksJ11_compress_2_0 22 rfl rfl)
theorem dJ11_compress_2_24 : decode cJ11_compress_2 24 = .ok (.iload 6, 2) := dk_21 6 (dk_at dksJ11_compress_2_1 0 rfl rfl)
theorem dJ11_compress_2_26 : decode cJ11_compress_2 26 = .ok (.sipush 255, 3) := dk_17 0 255 (dk_at dksJ11_compress_2_1 2 rfl rfl)
theorem dJ11_compress_2_29 : decode cJ11_compress_2 29 = .ok (.if_icmp .le 6, 3) := dk_164 0 6 (dk_at dksJ11_compress_2_1 5 rfl rfl)
theorem dJ11_compress_2_32 : decode cJ11_compress_2 32 = .ok (.iload 5, 2) := dk_21 5 (dk_at dksJ11_compress_2_1 8 rfl rfl)
theorem dJ11_compress_2_34 : decode cJ11_compress_2 34 = .ok (.ireturn, 1) := dk_172 (dk_at dksJ11_compress_2_1 10 rfl rfl)
theorem dJ11_compress_2_35 : decode cJ11_compress_2 35 = .ok (.aload_n 2, 1) := dk_44 (dk_at dksJ11_compress_2_1 11 rfl rfl)
theorem dJ11_compress_2_36 : decode cJ11_compress_2 36 = .ok (.iload_n 3, 1) := dk_29 (dk_at dksJ11_compress_2_1 12 rfl rfl)
theorem dJ11_compress_2_37 : decode cJ11_compress_2 37 = .ok (.iload 6, 2) := dk_21 6 (dk_at dksJ11_compress_2_1 13 rfl rfl)
theorem dJ11_compress_2_39 : decode cJ11_compress_2 39 = .ok (.i2b, 1) := dk_145 (dk_at dksJ11_compress_2_1 15 rfl rfl)
theorem dJ11_compress_2_40 : decode cJ11_compress_2 40 = .ok (.bastore, 1) := dk_84 (dk_at dksJ11_compress_2_1 16 rfl rfl)
theorem dJ11_compress_2_41 : decode cJ11_compress_2 41 = .ok (.iinc 1 1, 3) := dk_132 1 1 (dk_at dksJ11_compress_2_1 17 rfl rfl)
theorem dJ11_compress_2_44 : decode cJ11_compress_2 44 = .ok (.iinc 3 1, 3) := dk_132 3 1 (dk_at dksJ11_compress_2_1 20 rfl rfl)
theorem dJ11_compress_2_47 : decode cJ11_compress_2 47 = .ok (.iinc 5 1, 3) := dk_132 5 1 (dk_at dksJ11_compress_2_2 0 rfl rfl)
theorem dJ11_compress_2_50 : decode cJ11_compress_2 50 = .ok (.goto (-40), 3) := dk_167 255 216 (dk_at dksJ11_compress_2_2 3 rfl rfl)
theorem dJ11_compress_2_53 : decode cJ11_compress_2 53 = .ok (.iload 4, 2) := dk_21 4 (dk_at dksJ11_compress_2_2 6 rfl rfl)
theorem dJ11_compress_2_55 : decode cJ11_compress_2 55 = .ok (.ireturn, 1) := dk_172 (dk_at dksJ11_compress_2_2 8 rfl rfl)
abbrev cJ11_getChar : ByteArray := prog_36_method_5_code
def yJ11_getChar : MethodName := ⟨RJ11, "getChar", "([BI)C"⟩
def dkwJ11_getChar_2 : List UInt8 := [51, 17, 0, 255, 126, 178, 0, 63, 120, 128, 146, 172]
abbrev dktJ11_getChar_2 : List UInt8 := dkwJ11_getChar_2 ++ []
def dkwJ11_getChar_1 : List UInt8 := [183, 0, 56, 191, 27, 4, 120, 60, 42, 27, 132, 1, 1, 51, 17, 0, 255, 126, 178, 0, 59, 120, 42, 27]
abbrev dktJ11_getChar_1 : List UInt8 := dkwJ11_getChar_1 ++ dktJ11_getChar_2
def dkwJ11_getChar_0 : List UInt8 := [178, 0, 44, 154, 0, 25, 27, 155, 0, 11, 27, 42, 184, 0, 48, 161, 0, 13, 187, 0, 52, 89, 18, 54]
abbrev dktJ11_getChar_0 : List UInt8 := dkwJ11_getChar_0 ++ dktJ11_getChar_1
theorem dksJ11_getChar_0 : cJ11_getChar.data.toList.drop 0 = dktJ11_getChar_0 := by decide +kernel
theorem dksJ11_getChar_1 : cJ11_getChar.data.toList.drop 24 = dktJ11_getChar_1 := dk_seg dksJ11_getChar_0 24 rfl rfl
theorem dksJ11_getChar_2 : cJ11_getChar.data.toList.drop 48 = dktJ11_getChar_2 := dk_seg dksJ11_getChar_1 24 rfl rfl
theorem dJ11_getChar_0 : decode cJ11_getChar 0 = .ok (.getstatic 44, 3) := dk_178 0 44 (dk_at dksJ11_getChar_0 0 rfl rfl)
theorem dJ11_getChar_3 : decode cJ11_getChar 3 = .ok (.ifCond .ne 25, 3) := dk_154 0 25 (dk_at dksJ11_getChar_0 3 rfl rfl)
theorem dJ11_getChar_6 : decode cJ11_getChar 6 = .ok (.iload_n 1, 1) := dk_27 (dk_at dksJ11_getChar_0 6 rfl rfl)
theorem dJ11_getChar_7 : decode cJ11_getChar 7 = .ok (.ifCond .lt 11, 3) := dk_155 0 11 (dk_at dksJ11_getChar_0 7 rfl rfl)
theorem dJ11_getChar_10 : decode cJ11_getChar 10 = .ok (.iload_n 1, 1) := dk_27 (dk_at dksJ11_getChar_0 10 rfl rfl)
theorem dJ11_getChar_11 : decode cJ11_getChar 11 = .ok (.aload_n 0, 1) := dk_42 (dk_at dksJ11_getChar_0 11 rfl rfl)
theorem dJ11_getChar_12 : decode cJ11_getChar 12 = .ok (.invokestatic 48, 3) := dk_184 0 48 (dk_at dksJ11_getChar_0 12 rfl rfl)
theorem dJ11_getChar_15 : decode cJ11_getChar 15 = .ok (.if_icmp .lt 13, 3) := dk_161 0 13 (dk_at dksJ11_getChar_0 15 rfl rfl)
theorem dJ11_getChar_18 : decode cJ11_getChar 18 = .ok (.new 52, 3) := dk_187 0 52 (dk_at dksJ11_getChar_0 18 rfl rfl)
theorem dJ11_getChar_21 : decode cJ11_getChar 21 = .ok (.dup, 1) := dk_89 (dk_at dksJ11_getChar_0 21 rfl rfl)
theorem dJ11_getChar_22 : decode cJ11_getChar 22 = .ok (.ldc 54, 2) := dk_18 54 (dk_at dksJ11_getChar_0 22 rfl rfl)
theorem dJ11_getChar_24 : decode cJ11_getChar 24 = .ok (.invokespecial 56, 3) := dk_183 0 56 (dk_at dksJ11_getChar_1 0 rfl rfl)
theorem dJ11_getChar_27 : decode cJ11_getChar 27 = .ok (.athrow, 1) := dk_191 (dk_at dksJ11_getChar_1 3 rfl rfl)
theorem dJ11_getChar_28 : decode cJ11_getChar 28 = .ok (.iload_n 1, 1) := dk_27 (dk_at dksJ11_getChar_1 4 rfl rfl)
theorem dJ11_getChar_29 : decode cJ11_getChar 29 = .ok (.iconst 1, 1) := dk_4 (dk_at dksJ11_getChar_1 5 rfl rfl)
theorem dJ11_getChar_30 : decode cJ11_getChar 30 = .ok (.ishl, 1) := dk_120 (dk_at dksJ11_getChar_1 6 rfl rfl)
theorem dJ11_getChar_31 : decode cJ11_getChar 31 = .ok (.istore_n 1, 1) := dk_60 (dk_at dksJ11_getChar_1 7 rfl rfl)
theorem dJ11_getChar_32 : decode cJ11_getChar 32 = .ok (.aload_n 0, 1) := dk_42 (dk_at dksJ11_getChar_1 8 rfl rfl)
theorem dJ11_getChar_33 : decode cJ11_getChar 33 = .ok (.iload_n 1, 1) := dk_27 (dk_at dksJ11_getChar_1 9 rfl rfl)
theorem dJ11_getChar_34 : decode cJ11_getChar 34 = .ok (.iinc 1 1, 3) := dk_132 1 1 (dk_at dksJ11_getChar_1 10 rfl rfl)
theorem dJ11_getChar_37 : decode cJ11_getChar 37 = .ok (.baload, 1) := dk_51 (dk_at dksJ11_getChar_1 13 rfl rfl)
theorem dJ11_getChar_38 : decode cJ11_getChar 38 = .ok (.sipush 255, 3) := dk_17 0 255 (dk_at dksJ11_getChar_1 14 rfl rfl)
theorem dJ11_getChar_41 : decode cJ11_getChar 41 = .ok (.iand, 1) := dk_126 (dk_at dksJ11_getChar_1 17 rfl rfl)
theorem dJ11_getChar_42 : decode cJ11_getChar 42 = .ok (.getstatic 59, 3) := dk_178 0 59 (dk_at dksJ11_getChar_1 18 rfl rfl)
theorem dJ11_getChar_45 : decode cJ11_getChar 45 = .ok (.ishl, 1) := dk_120 (dk_at dksJ11_getChar_1 21 rfl rfl)
theorem dJ11_getChar_46 : decode cJ11_getChar 46 = .ok (.aload_n 0, 1) := dk_42 (dk_at dksJ11_getChar_1 22 rfl rfl)
theorem dJ11_getChar_47 : decode cJ11_getChar 47 = .ok (.iload_n 1, 1) := dk_27 (dk_at dksJ11_getChar_1 23 rfl rfl)
theorem dJ11_getChar_48 : decode cJ11_getChar 48 = .ok (.baload, 1) := dk_51 (dk_at dksJ11_getChar_2 0 rfl rfl)
theorem dJ11_getChar_49 : decode cJ11_getChar 49 = .ok (.sipush 255, 3) := dk_17 0 255 (dk_at dksJ11_getChar_2 1 rfl rfl)
theorem dJ11_getChar_52 : decode cJ11_getChar 52 = .ok (.iand, 1) := dk_126 (dk_at dksJ11_getChar_2 4 rfl rfl)
theorem dJ11_getChar_53 : decode cJ11_getChar 53 = .ok (.getstatic 63, 3) := dk_178 0 63 (dk_at dksJ11_getChar_2 5 rfl rfl)
theorem dJ11_getChar_56 : decode cJ11_getChar 56 = .ok (.ishl, 1) := dk_120 (dk_at dksJ11_getChar_2 8 rfl rfl)
theorem dJ11_getChar_57 : decode cJ11_getChar 57 = .ok (.ior, 1) := dk_128 (dk_at dksJ11_getChar_2 9 rfl rfl)
theorem dJ11_getChar_58 : decode cJ11_getChar 58 = .ok (.i2c, 1) := dk_146 (dk_at dksJ11_getChar_2 10 rfl rfl)
theorem dJ11_getChar_59 : decode cJ11_getChar 59 = .ok (.ireturn, 1) := dk_172 (dk_at dksJ11_getChar_2 11 rfl rfl)
abbrev cJ11_coderFromArrayLen : ByteArray := prog_36_method_15_code
def yJ11_coderFromArrayLen : MethodName := ⟨RJ11, "coderFromArrayLen", "([BI)B"⟩
def dkwJ11_coderFromArrayLen_0 : List UInt8 := [27, 42, 190, 100, 16, 31, 124, 145, 172]
abbrev dktJ11_coderFromArrayLen_0 : List UInt8 := dkwJ11_coderFromArrayLen_0 ++ []
theorem dksJ11_coderFromArrayLen_0 : cJ11_coderFromArrayLen.data.toList.drop 0 = dktJ11_coderFromArrayLen_0 := by decide +kernel
theorem dJ11_coderFromArrayLen_0 : decode cJ11_coderFromArrayLen 0 = .ok (.iload_n 1, 1) := dk_27 (dk_at dksJ11_coderFromArrayLen_0 0 rfl rfl)
theorem dJ11_coderFromArrayLen_1 : decode cJ11_coderFromArrayLen 1 = .ok (.aload_n 0, 1) := dk_42 (dk_at dksJ11_coderFromArrayLen_0 1 rfl rfl)
theorem dJ11_coderFromArrayLen_2 : decode cJ11_coderFromArrayLen 2 = .ok (.arraylength, 1) := dk_190 (dk_at dksJ11_coderFromArrayLen_0 2 rfl rfl)
theorem dJ11_coderFromArrayLen_3 : decode cJ11_coderFromArrayLen 3 = .ok (.isub, 1) := dk_100 (dk_at dksJ11_coderFromArrayLen_0 3 rfl rfl)
theorem dJ11_coderFromArrayLen_4 : decode cJ11_coderFromArrayLen 4 = .ok (.bipush 31, 2) := dk_16 31 (dk_at dksJ11_coderFromArrayLen_0 4 rfl rfl)
theorem dJ11_coderFromArrayLen_6 : decode cJ11_coderFromArrayLen 6 = .ok (.iushr, 1) := dk_124 (dk_at dksJ11_coderFromArrayLen_0 6 rfl rfl)
theorem dJ11_coderFromArrayLen_7 : decode cJ11_coderFromArrayLen 7 = .ok (.i2b, 1) := dk_145 (dk_at dksJ11_coderFromArrayLen_0 7 rfl rfl)
theorem dJ11_coderFromArrayLen_8 : decode cJ11_coderFromArrayLen 8 = .ok (.ireturn, 1) := dk_172 (dk_at dksJ11_coderFromArrayLen_0 8 rfl rfl)
abbrev cJ11_putCharsAt : ByteArray := prog_36_method_81_code
def yJ11_putCharsAt : MethodName := ⟨RJ11, "putCharsAt", "([BICCCC)I"⟩
def dkwJ11_putCharsAt_3 : List UInt8 := [21, 6, 172]
abbrev dktJ11_putCharsAt_3 : List UInt8 := dkwJ11_putCharsAt_3 ++ []
def dkwJ11_putCharsAt_2 : List UInt8 := [184, 0, 111, 178, 0, 44, 154, 0, 17, 27, 21, 6, 159, 0, 11, 187, 0, 52, 89, 183, 0, 66, 191]
abbrev dktJ11_putCharsAt_2 : List UInt8 := dkwJ11_putCharsAt_2 ++ dktJ11_putCharsAt_3
def dkwJ11_putCharsAt_1 : List UInt8 := [132, 1, 1, 29, 184, 0, 111, 42, 27, 132, 1, 1, 21, 4, 184, 0, 111, 42, 27, 132, 1, 1, 21, 5]
abbrev dktJ11_putCharsAt_1 : List UInt8 := dkwJ11_putCharsAt_1 ++ dktJ11_putCharsAt_2
def dkwJ11_putCharsAt_0 : List UInt8 := [27, 7, 96, 54, 6, 27, 21, 6, 42, 184, 0, 96, 42, 27, 132, 1, 1, 28, 184, 0, 111, 42, 27]
abbrev dktJ11_putCharsAt_0 : List UInt8 := dkwJ11_putCharsAt_0 ++ dktJ11_putCharsAt_1
theorem dksJ11_putCharsAt_0 : cJ11_putCharsAt.data.toList.drop 0 = dktJ11_putCharsAt_0 := by decide +kernel
theorem dksJ11_putCharsAt_1 : cJ11_putCharsAt.data.toList.drop 23 = dktJ11_putCharsAt_1 := dk_seg dksJ11_putCharsAt_0 23 rfl rfl
theorem dksJ11_putCharsAt_2 : cJ11_putCharsAt.data.toList.drop 47 = dktJ11_putCharsAt_2 := dk_seg dksJ11_putCharsAt_1 24 rfl rfl
theorem dksJ11_putCharsAt_3 : cJ11_putCharsAt.data.toList.drop 70 = dktJ11_putCharsAt_3 := dk_seg dksJ11_putCharsAt_2 23 rfl rfl
theorem dJ11_putCharsAt_0 : decode cJ11_putCharsAt 0 = .ok (.iload_n 1, 1) := dk_27 (dk_at dksJ11_putCharsAt_0 0 rfl rfl)
theorem dJ11_putCharsAt_1 : decode cJ11_putCharsAt 1 = .ok (.iconst 4, 1) := dk_7 (dk_at dksJ11_putCharsAt_0 1 rfl rfl)
theorem dJ11_putCharsAt_2 : decode cJ11_putCharsAt 2 = .ok (.iadd, 1) := dk_96 (dk_at dksJ11_putCharsAt_0 2 rfl rfl)
theorem dJ11_putCharsAt_3 : decode cJ11_putCharsAt 3 = .ok (.istore 6, 2) := dk_54 6 (dk_at dksJ11_putCharsAt_0 3 rfl rfl)
theorem dJ11_putCharsAt_5 : decode cJ11_putCharsAt 5 = .ok (.iload_n 1, 1) := dk_27 (dk_at dksJ11_putCharsAt_0 5 rfl rfl)
theorem dJ11_putCharsAt_6 : decode cJ11_putCharsAt 6 = .ok (.iload 6, 2) := dk_21 6 (dk_at dksJ11_putCharsAt_0 6 rfl rfl)
theorem dJ11_putCharsAt_8 : decode cJ11_putCharsAt 8 = .ok (.aload_n 0, 1) := dk_42 (dk_at dksJ11_putCharsAt_0 8 rfl rfl)
theorem dJ11_putCharsAt_9 : decode cJ11_putCharsAt 9 = .ok (.invokestatic 96, 3) := dk_184 0 96 (dk_at dksJ11_putCharsAt_0 9 rfl rfl)
theorem dJ11_putCharsAt_12 : decode cJ11_putCharsAt 12 = .ok (.aload_n 0, 1) := dk_42 (dk_at dksJ11_putCharsAt_0 12 rfl rfl)
theorem dJ11_putCharsAt_13 : decode cJ11_putCharsAt 13 = .ok (.iload_n 1, 1) := dk_27 (dk_at dksJ11_putCharsAt_0 13 rfl rfl)
theorem dJ11_putCharsAt_14 : decode cJ11_putCharsAt 14 = .ok (.iinc 1 1, 3) := dk_132 1 1 (dk_at dksJ11_putCharsAt_0 14 rfl rfl)
theorem dJ11_putCharsAt_17 : decode cJ11_putCharsAt 17 = .ok (.iload_n 2, 1) := dk_28 (dk_at dksJ11_putCharsAt_0 17 rfl rfl)
theorem dJ11_putCharsAt_18 : decode cJ11_putCharsAt 18 = .ok (.invokestatic 111, 3) := dk_184 0 111 (dk_at dksJ11_putCharsAt_0 18 rfl rfl)
theorem dJ11_putCharsAt_21 : decode cJ11_putCharsAt 21 = .ok (.aload_n 0, 1) := dk_42 (dk_at dksJ11_putCharsAt_0 21 rfl rfl)
theorem dJ11_putCharsAt_22 : decode cJ11_putCharsAt 22 = .ok (.iload_n 1, 1) := dk_27 (dk_at dksJ11_putCharsAt_0 22 rfl rfl)
theorem dJ11_putCharsAt_23 : decode cJ11_putCharsAt 23 = .ok (.iinc 1 1, 3) := dk_132 1 1 (dk_at dksJ11_putCharsAt_1 0 rfl rfl)
theorem dJ11_putCharsAt_26 : decode cJ11_putCharsAt 26 = .ok (.iload_n 3, 1) := dk_29 (dk_at dksJ11_putCharsAt_1 3 rfl rfl)
theorem dJ11_putCharsAt_27 : decode cJ11_putCharsAt 27 = .ok (.invokestatic 111, 3) := dk_184 0 111 (dk_at dksJ11_putCharsAt_1 4 rfl rfl)
theorem dJ11_putCharsAt_30 : decode cJ11_putCharsAt 30 = .ok (.aload_n 0, 1) := dk_42 (dk_at dksJ11_putCharsAt_1 7 rfl rfl)
theorem dJ11_putCharsAt_31 : decode cJ11_putCharsAt 31 = .ok (.iload_n 1, 1) := dk_27 (dk_at dksJ11_putCharsAt_1 8 rfl rfl)
theorem dJ11_putCharsAt_32 : decode cJ11_putCharsAt 32 = .ok (.iinc 1 1, 3) := dk_132 1 1 (dk_at dksJ11_putCharsAt_1 9 rfl rfl)
theorem dJ11_putCharsAt_35 : decode cJ11_putCharsAt 35 = .ok (.iload 4, 2) := dk_21 4 (dk_at dksJ11_putCharsAt_1 12 rfl rfl)
theorem dJ11_putCharsAt_37 : decode cJ11_putCharsAt 37 = .ok (.invokestatic 111, 3) := dk_184 0 111 (dk_at dksJ11_putCharsAt_1 14 rfl rfl)
theorem dJ11_putCharsAt_40 : decode cJ11_putCharsAt 40 = .ok (.aload_n 0, 1) := dk_42 (dk_at dksJ11_putCharsAt_1 17 rfl rfl)
theorem dJ11_putCharsAt_41 : decode cJ11_putCharsAt 41 = .ok (.iload_n 1, 1) := dk_27 (dk_at dksJ11_putCharsAt_1 18 rfl rfl)
theorem dJ11_putCharsAt_42 : decode cJ11_putCharsAt 42 = .ok (.iinc 1 1, 3) := dk_132 1 1 (dk_at dksJ11_putCharsAt_1 19 rfl rfl)
theorem dJ11_putCharsAt_45 : decode cJ11_putCharsAt 45 = .ok (.iload 5, 2) := dk_21 5 (dk_at dksJ11_putCharsAt_1 22 rfl rfl)
theorem dJ11_putCharsAt_47 : decode cJ11_putCharsAt 47 = .ok (.invokestatic 111, 3) := dk_184 0 111 (dk_at dksJ11_putCharsAt_2 0 rfl rfl)
theorem dJ11_putCharsAt_50 : decode cJ11_putCharsAt 50 = .ok (.getstatic 44, 3) := dk_178 0 44 (dk_at dksJ11_putCharsAt_2 3 rfl rfl)
theorem dJ11_putCharsAt_53 : decode cJ11_putCharsAt 53 = .ok (.ifCond .ne 17, 3) := dk_154 0 17 (dk_at dksJ11_putCharsAt_2 6 rfl rfl)
theorem dJ11_putCharsAt_56 : decode cJ11_putCharsAt 56 = .ok (.iload_n 1, 1) := dk_27 (dk_at dksJ11_putCharsAt_2 9 rfl rfl)
theorem dJ11_putCharsAt_57 : decode cJ11_putCharsAt 57 = .ok (.iload 6, 2) := dk_21 6 (dk_at dksJ11_putCharsAt_2 10 rfl rfl)
theorem dJ11_putCharsAt_59 : decode cJ11_putCharsAt 59 = .ok (.if_icmp .eq 11, 3) := dk_159 0 11 (dk_at dksJ11_putCharsAt_2 12 rfl rfl)
theorem dJ11_putCharsAt_62 : decode cJ11_putCharsAt 62 = .ok (.new 52, 3) := dk_187 0 52 (dk_at dksJ11_putCharsAt_2 15 rfl rfl)
theorem dJ11_putCharsAt_65 : decode cJ11_putCharsAt 65 = .ok (.dup, 1) := dk_89 (dk_at dksJ11_putCharsAt_2 18 rfl rfl)
theorem dJ11_putCharsAt_66 : decode cJ11_putCharsAt 66 = .ok (.invokespecial 66, 3) := dk_183 0 66 (dk_at dksJ11_putCharsAt_2 19 rfl rfl)
theorem dJ11_putCharsAt_69 : decode cJ11_putCharsAt 69 = .ok (.athrow, 1) := dk_191 (dk_at dksJ11_putCharsAt_2 22 rfl rfl)
theorem dJ11_putCharsAt_70 : decode cJ11_putCharsAt 70 = .ok (.iload 6, 2) := dk_21 6 (dk_at dksJ11_putCharsAt_3 0 rfl rfl)
theorem dJ11_putCharsAt_72 : decode cJ11_putCharsAt 72 = .ok (.ireturn, 1) := dk_172 (dk_at dksJ11_putCharsAt_3 2 rfl rfl)
abbrev cJ11_checkBoundsBeginEnd : ByteArray := prog_36_method_93_code
def yJ11_checkBoundsBeginEnd : MethodName := ⟨RJ11, "checkBoundsBeginEnd", "(II[B)V"⟩
def dkwJ11_checkBoundsBeginEnd_0 : List UInt8 := [26, 27, 44, 184, 0, 48, 184, 0, 241, 177]
abbrev dktJ11_checkBoundsBeginEnd_0 : List UInt8 := dkwJ11_checkBoundsBeginEnd_0 ++ []
theorem dksJ11_checkBoundsBeginEnd_0 : cJ11_checkBoundsBeginEnd.data.toList.drop 0 = dktJ11_checkBoundsBeginEnd_0 := by decide +kernel
theorem dJ11_checkBoundsBeginEnd_0 : decode cJ11_checkBoundsBeginEnd 0 = .ok (.iload_n 0, 1) := dk_26 (dk_at dksJ11_checkBoundsBeginEnd_0 0 rfl rfl)
theorem dJ11_checkBoundsBeginEnd_1 : decode cJ11_checkBoundsBeginEnd 1 = .ok (.iload_n 1, 1) := dk_27 (dk_at dksJ11_checkBoundsBeginEnd_0 1 rfl rfl)
theorem dJ11_checkBoundsBeginEnd_2 : decode cJ11_checkBoundsBeginEnd 2 = .ok (.aload_n 2, 1) := dk_44 (dk_at dksJ11_checkBoundsBeginEnd_0 2 rfl rfl)
theorem dJ11_checkBoundsBeginEnd_3 : decode cJ11_checkBoundsBeginEnd 3 = .ok (.invokestatic 48, 3) := dk_184 0 48 (dk_at dksJ11_checkBoundsBeginEnd_0 3 rfl rfl)
theorem dJ11_checkBoundsBeginEnd_6 : decode cJ11_checkBoundsBeginEnd 6 = .ok (.invokestatic 241, 3) := dk_184 0 241 (dk_at dksJ11_checkBoundsBeginEnd_0 6 rfl rfl)
theorem dJ11_checkBoundsBeginEnd_9 : decode cJ11_checkBoundsBeginEnd 9 = .ok (.return_, 1) := dk_177 (dk_at dksJ11_checkBoundsBeginEnd_0 9 rfl rfl)
abbrev cJ11_getChars : ByteArray := prog_36_method_77_code
def yJ11_getChars : MethodName := ⟨RJ11, "getChars", "(III[B)I"⟩
def dkwJ11_getChars_1 : List UInt8 := [159, 0, 11, 187, 0, 52, 89, 183, 0, 66, 191, 21, 4, 172]
abbrev dktJ11_getChars_1 : List UInt8 := dkwJ11_getChars_1 ++ []
def dkwJ11_getChars_0 : List UInt8 := [27, 28, 45, 184, 0, 96, 26, 28, 45, 184, 1, 137, 54, 4, 178, 0, 44, 154, 0, 17, 27, 21, 4]
abbrev dktJ11_getChars_0 : List UInt8 := dkwJ11_getChars_0 ++ dktJ11_getChars_1
theorem dksJ11_getChars_0 : cJ11_getChars.data.toList.drop 0 = dktJ11_getChars_0 := by decide +kernel
theorem dksJ11_getChars_1 : cJ11_getChars.data.toList.drop 23 = dktJ11_getChars_1 := dk_seg dksJ11_getChars_0 23 rfl rfl
theorem dJ11_getChars_0 : decode cJ11_getChars 0 = .ok (.iload_n 1, 1) := dk_27 (dk_at dksJ11_getChars_0 0 rfl rfl)
theorem dJ11_getChars_1 : decode cJ11_getChars 1 = .ok (.iload_n 2, 1) := dk_28 (dk_at dksJ11_getChars_0 1 rfl rfl)
theorem dJ11_getChars_2 : decode cJ11_getChars 2 = .ok (.aload_n 3, 1) := dk_45 (dk_at dksJ11_getChars_0 2 rfl rfl)
theorem dJ11_getChars_3 : decode cJ11_getChars 3 = .ok (.invokestatic 96, 3) := dk_184 0 96 (dk_at dksJ11_getChars_0 3 rfl rfl)
theorem dJ11_getChars_6 : decode cJ11_getChars 6 = .ok (.iload_n 0, 1) := dk_26 (dk_at dksJ11_getChars_0 6 rfl rfl)
theorem dJ11_getChars_7 : decode cJ11_getChars 7 = .ok (.iload_n 2, 1) := dk_28 (dk_at dksJ11_getChars_0 7 rfl rfl)
theorem dJ11_getChars_8 : decode cJ11_getChars 8 = .ok (.aload_n 3, 1) := dk_45 (dk_at dksJ11_getChars_0 8 rfl rfl)
theorem dJ11_getChars_9 : decode cJ11_getChars 9 = .ok (.invokestatic 393, 3) := dk_184 1 137 (dk_at dksJ11_getChars_0 9 rfl rfl)
theorem dJ11_getChars_12 : decode cJ11_getChars 12 = .ok (.istore 4, 2) := dk_54 4 (dk_at dksJ11_getChars_0 12 rfl rfl)
theorem dJ11_getChars_14 : decode cJ11_getChars 14 = .ok (.getstatic 44, 3) := dk_178 0 44 (dk_at dksJ11_getChars_0 14 rfl rfl)
theorem dJ11_getChars_17 : decode cJ11_getChars 17 = .ok (.ifCond .ne 17, 3) := dk_154 0 17 (dk_at dksJ11_getChars_0 17 rfl rfl)
theorem dJ11_getChars_20 : decode cJ11_getChars 20 = .ok (.iload_n 1, 1) := dk_27 (dk_at dksJ11_getChars_0 20 rfl rfl)
theorem dJ11_getChars_21 : decode cJ11_getChars 21 = .ok (.iload 4, 2) := dk_21 4 (dk_at dksJ11_getChars_0 21 rfl rfl)
theorem dJ11_getChars_23 : decode cJ11_getChars 23 = .ok (.if_icmp .eq 11, 3) := dk_159 0 11 (dk_at dksJ11_getChars_1 0 rfl rfl)
theorem dJ11_getChars_26 : decode cJ11_getChars 26 = .ok (.new 52, 3) := dk_187 0 52 (dk_at dksJ11_getChars_1 3 rfl rfl)
theorem dJ11_getChars_29 : decode cJ11_getChars 29 = .ok (.dup, 1) := dk_89 (dk_at dksJ11_getChars_1 6 rfl rfl)
theorem dJ11_getChars_30 : decode cJ11_getChars 30 = .ok (.invokespecial 66, 3) := dk_183 0 66 (dk_at dksJ11_getChars_1 7 rfl rfl)
theorem dJ11_getChars_33 : decode cJ11_getChars 33 = .ok (.athrow, 1) := dk_191 (dk_at dksJ11_getChars_1 10 rfl rfl)
theorem dJ11_getChars_34 : decode cJ11_getChars 34 = .ok (.iload 4, 2) := dk_21 4 (dk_at dksJ11_getChars_1 11 rfl rfl)
theorem dJ11_getChars_36 : decode cJ11_getChars 36 = .ok (.ireturn, 1) := dk_172 (dk_at dksJ11_getChars_1 13 rfl rfl)
abbrev cJ11_getChars_2 : ByteArray := prog_36_method_89_code
def yJ11_getChars_2 : MethodName := ⟨RJ11, "getChars", "(II[B)I"⟩
def dkwJ11_getChars_2_5 : List UInt8 := [132, 5, 255, 21, 5, 16, 45, 184, 0, 111, 21, 5, 172]
abbrev dktJ11_getChars_2_5 : List UInt8 := dkwJ11_getChars_2_5 ++ []
def dkwJ11_getChars_2_4 : List UInt8 := [162, 0, 18, 44, 132, 5, 255, 21, 5, 178, 1, 151, 26, 116, 51, 184, 0, 111, 21, 6, 153, 0, 14, 44]
abbrev dktJ11_getChars_2_4 : List UInt8 := dkwJ11_getChars_2_4 ++ dktJ11_getChars_2_5
def dkwJ11_getChars_2_3 : List UInt8 := [184, 0, 111, 167, 255, 205, 44, 132, 5, 255, 21, 5, 178, 1, 147, 26, 116, 51, 184, 0, 111, 26, 16, 247]
abbrev dktJ11_getChars_2_3 : List UInt8 := dkwJ11_getChars_2_3 ++ dktJ11_getChars_2_4
def dkwJ11_getChars_2_2 : List UInt8 := [21, 5, 178, 1, 147, 21, 4, 51, 184, 0, 111, 44, 132, 5, 255, 21, 5, 178, 1, 151, 21, 4, 51]
abbrev dktJ11_getChars_2_2 : List UInt8 := dkwJ11_getChars_2_2 ++ dktJ11_getChars_2_3
def dkwJ11_getChars_2_1 : List UInt8 := [16, 156, 163, 0, 51, 26, 16, 100, 108, 62, 29, 16, 100, 104, 26, 100, 54, 4, 29, 59, 44, 132, 5, 255]
abbrev dktJ11_getChars_2_1 : List UInt8 := dkwJ11_getChars_2_1 ++ dktJ11_getChars_2_2
def dkwJ11_getChars_2_0 : List UInt8 := [27, 54, 5, 26, 156, 0, 7, 4, 167, 0, 4, 3, 54, 6, 21, 6, 154, 0, 6, 26, 116, 59, 26]
abbrev dktJ11_getChars_2_0 : List UInt8 := dkwJ11_getChars_2_0 ++ dktJ11_getChars_2_1
theorem dksJ11_getChars_2_0 : cJ11_getChars_2.data.toList.drop 0 = dktJ11_getChars_2_0 := by decide +kernel
theorem dksJ11_getChars_2_1 : cJ11_getChars_2.data.toList.drop 23 = dktJ11_getChars_2_1 := dk_seg dksJ11_getChars_2_0 23 rfl rfl
theorem dksJ11_getChars_2_2 : cJ11_getChars_2.data.toList.drop 47 = dktJ11_getChars_2_2 := dk_seg dksJ11_getChars_2_1 24 rfl rfl
theorem dksJ11_getChars_2_3 : cJ11_getChars_2.data.toList.drop 70 = dktJ11_getChars_2_3 := dk_seg dksJ11_getChars_2_2 23 rfl rfl
theorem dksJ11_getChars_2_4 : cJ11_getChars_2.data.toList.drop 94 = dktJ11_getChars_2_4 := dk_seg dksJ11_getChars_2_3 24 rfl rfl
theorem dksJ11_getChars_2_5 : cJ11_getChars_2.data.toList.drop 118 = dktJ11_getChars_2_5 := dk_seg dksJ11_getChars_2_4 24 rfl rfl
theorem dJ11_getChars_2_0 : decode cJ11_getChars_2 0 = .ok (.iload_n 1, 1) := dk_27 (dk_at dksJ11_getChars_2_0 0 rfl rfl)
theorem dJ11_getChars_2_1 : decode cJ11_getChars_2 1 = .ok (.istore 5, 2) := dk_54 5 (dk_at dksJ11_getChars_2_0 1 rfl rfl)
theorem dJ11_getChars_2_3 : decode cJ11_getChars_2 3 = .ok (.iload_n 0, 1) := dk_26 (dk_at dksJ11_getChars_2_0 3 rfl rfl)
theorem dJ11_getChars_2_4 : decode cJ11_getChars_2 4 = .ok (.ifCond .ge 7, 3) := dk_156 0 7 (dk_at dksJ11_getChars_2_0 4 rfl rfl)
theorem dJ11_getChars_2_7 : decode cJ11_getChars_2 7 = .ok (.iconst 1, 1) := dk_4 (dk_at dksJ11_getChars_2_0 7 rfl rfl)
theorem dJ11_getChars_2_8 : decode cJ11_getChars_2 8 = .ok (.goto 4, 3) := dk_167 0 4 (dk_at dksJ11_getChars_2_0 8 rfl rfl)
theorem dJ11_getChars_2_11 : decode cJ11_getChars_2 11 = .ok (.iconst 0, 1) := dk_3 (dk_at dksJ11_getChars_2_0 11 rfl rfl)
theorem dJ11_getChars_2_12 : decode cJ11_getChars_2 12 = .ok (.istore 6, 2) := dk_54 6 (dk_at dksJ11_getChars_2_0 12 rfl rfl)
theorem dJ11_getChars_2_14 : decode cJ11_getChars_2 14 = .ok (.iload 6, 2) := dk_21 6 (dk_at dksJ11_getChars_2_0 14 rfl rfl)
theorem dJ11_getChars_2_16 : decode cJ11_getChars_2 16 = .ok (.ifCond .ne 6, 3) := dk_154 0 6 (dk_at dksJ11_getChars_2_0 16 rfl rfl)
theorem dJ11_getChars_2_19 : decode cJ11_getChars_2 19 = .ok (.iload_n 0, 1) := dk_26 (dk_at dksJ11_getChars_2_0 19 rfl rfl)
theorem dJ11_getChars_2_20 : decode cJ11_getChars_2 20 = .ok (.ineg, 1) := dk_116 (dk_at dksJ11_getChars_2_0 20 rfl rfl)
theorem dJ11_getChars_2_21 : decode cJ11_getChars_2 21 = .ok (.istore_n 0, 1) := dk_59 (dk_at dksJ11_getChars_2_0 21 rfl rfl)
theorem dJ11_getChars_2_22 : decode cJ11_getChars_2 22 = .ok (.iload_n 0, 1) := dk_26 (dk_at dksJ11_getChars_2_0 22 rfl rfl)
theorem dJ11_getChars_2_23 : decode cJ11_getChars_2 23 = .ok (.bipush (-100), 2) := dk_16 156 (dk_at dksJ11_getChars_2_1 0 rfl rfl)
theorem dJ11_getChars_2_25 : decode cJ11_getChars_2 25 = .ok (.if_icmp .gt 51, 3) := dk_163 0 51 (dk_at dksJ11_getChars_2_1 2 rfl rfl)
theorem dJ11_getChars_2_28 : decode cJ11_getChars_2 28 = .ok (.iload_n 0, 1) := dk_26 (dk_at dksJ11_getChars_2_1 5 rfl rfl)
theorem dJ11_getChars_2_29 : decode cJ11_getChars_2 29 = .ok (.bipush 100, 2) := dk_16 100 (dk_at dksJ11_getChars_2_1 6 rfl rfl)
theorem dJ11_getChars_2_31 : decode cJ11_getChars_2 31 = .ok (.idiv, 1) := dk_108 (dk_at dksJ11_getChars_2_1 8 rfl rfl)
theorem dJ11_getChars_2_32 : decode cJ11_getChars_2 32 = .ok (.istore_n 3, 1) := dk_62 (dk_at dksJ11_getChars_2_1 9 rfl rfl)
theorem dJ11_getChars_2_33 : decode cJ11_getChars_2 33 = .ok (.iload_n 3, 1) := dk_29 (dk_at dksJ11_getChars_2_1 10 rfl rfl)
theorem dJ11_getChars_2_34 : decode cJ11_getChars_2 34 = .ok (.bipush 100, 2) := dk_16 100 (dk_at dksJ11_getChars_2_1 11 rfl rfl)
theorem dJ11_getChars_2_36 : decode cJ11_getChars_2 36 = .ok (.imul, 1) := dk_104 (dk_at dksJ11_getChars_2_1 13 rfl rfl)
theorem dJ11_getChars_2_37 : decode cJ11_getChars_2 37 = .ok (.iload_n 0, 1) := dk_26 (dk_at dksJ11_getChars_2_1 14 rfl rfl)
theorem dJ11_getChars_2_38 : decode cJ11_getChars_2 38 = .ok (.isub, 1) := dk_100 (dk_at dksJ11_getChars_2_1 15 rfl rfl)
theorem dJ11_getChars_2_39 : decode cJ11_getChars_2 39 = .ok (.istore 4, 2) := dk_54 4 (dk_at dksJ11_getChars_2_1 16 rfl rfl)
theorem dJ11_getChars_2_41 : decode cJ11_getChars_2 41 = .ok (.iload_n 3, 1) := dk_29 (dk_at dksJ11_getChars_2_1 18 rfl rfl)
theorem dJ11_getChars_2_42 : decode cJ11_getChars_2 42 = .ok (.istore_n 0, 1) := dk_59 (dk_at dksJ11_getChars_2_1 19 rfl rfl)
theorem dJ11_getChars_2_43 : decode cJ11_getChars_2 43 = .ok (.aload_n 2, 1) := dk_44 (dk_at dksJ11_getChars_2_1 20 rfl rfl)
theorem dJ11_getChars_2_44 : decode cJ11_getChars_2 44 = .ok (.iinc 5 (-1), 3) := dk_132 5 255 (dk_at dksJ11_getChars_2_1 21 rfl rfl)
theorem dJ11_getChars_2_47 : decode cJ11_getChars_2 47 = .ok (.iload 5, 2) := dk_21 5 (dk_at dksJ11_getChars_2_2 0 rfl rfl)
theorem dJ11_getChars_2_49 : decode cJ11_getChars_2 49 = .ok (.getstatic 403, 3) := dk_178 1 147 (dk_at dksJ11_getChars_2_2 2 rfl rfl)
theorem dJ11_getChars_2_52 : decode cJ11_getChars_2 52 = .ok (.iload 4, 2) := dk_21 4 (dk_at dksJ11_getChars_2_2 5 rfl rfl)
theorem dJ11_getChars_2_54 : decode cJ11_getChars_2 54 = .ok (.baload, 1) := dk_51 (dk_at dksJ11_getChars_2_2 7 rfl rfl)
theorem dJ11_getChars_2_55 : decode cJ11_getChars_2 55 = .ok (.invokestatic 111, 3) := dk_184 0 111 (dk_at dksJ11_getChars_2_2 8 rfl rfl)
theorem dJ11_getChars_2_58 : decode cJ11_getChars_2 58 = .ok (.aload_n 2, 1) := dk_44 (dk_at dksJ11_getChars_2_2 11 rfl rfl)
theorem dJ11_getChars_2_59 : decode cJ11_getChars_2 59 = .ok (.iinc 5 (-1), 3) := dk_132 5 255 (dk_at dksJ11_getChars_2_2 12 rfl rfl)
theorem dJ11_getChars_2_62 : decode cJ11_getChars_2 62 = .ok (.iload 5, 2) := dk_21 5 (dk_at dksJ11_getChars_2_2 15 rfl rfl)
theorem dJ11_getChars_2_64 : decode cJ11_getChars_2 64 = .ok (.getstatic 407, 3) := dk_178 1 151 (dk_at dksJ11_getChars_2_2 17 rfl rfl)
theorem dJ11_getChars_2_67 : decode cJ11_getChars_2 67 = .ok (.iload 4, 2) := dk_21 4 (dk_at dksJ11_getChars_2_2 20 rfl rfl)
theorem dJ11_getChars_2_69 : decode cJ11_getChars_2 69 = .ok (.baload, 1) := dk_51 (dk_at dksJ11_getChars_2_2 22 rfl rfl)
theorem dJ11_getChars_2_70 : decode cJ11_getChars_2 70 = .ok (.invokestatic 111, 3) := dk_184 0 111 (dk_at dksJ11_getChars_2_3 0 rfl rfl)
theorem dJ11_getChars_2_73 : decode cJ11_getChars_2 73 = .ok (.goto (-51), 3) := dk_167 255 205 (dk_at dksJ11_getChars_2_3 3 rfl rfl)
theorem dJ11_getChars_2_76 : decode cJ11_getChars_2 76 = .ok (.aload_n 2, 1) := dk_44 (dk_at dksJ11_getChars_2_3 6 rfl rfl)
theorem dJ11_getChars_2_77 : decode cJ11_getChars_2 77 = .ok (.iinc 5 (-1), 3) := dk_132 5 255 (dk_at dksJ11_getChars_2_3 7 rfl rfl)
theorem dJ11_getChars_2_80 : decode cJ11_getChars_2 80 = .ok (.iload 5, 2) := dk_21 5 (dk_at dksJ11_getChars_2_3 10 rfl rfl)
theorem dJ11_getChars_2_82 : decode cJ11_getChars_2 82 = .ok (.getstatic 403, 3) := dk_178 1 147 (dk_at dksJ11_getChars_2_3 12 rfl rfl)
theorem dJ11_getChars_2_85 : decode cJ11_getChars_2 85 = .ok (.iload_n 0, 1) := dk_26 (dk_at dksJ11_getChars_2_3 15 rfl rfl)
theorem dJ11_getChars_2_86 : decode cJ11_getChars_2 86 = .ok (.ineg, 1) := dk_116 (dk_at dksJ11_getChars_2_3 16 rfl rfl)
theorem dJ11_getChars_2_87 : decode cJ11_getChars_2 87 = .ok (.baload, 1) := dk_51 (dk_at dksJ11_getChars_2_3 17 rfl rfl)
theorem dJ11_getChars_2_88 : decode cJ11_getChars_2 88 = .ok (.invokestatic 111, 3) := dk_184 0 111 (dk_at dksJ11_getChars_2_3 18 rfl rfl)
theorem dJ11_getChars_2_91 : decode cJ11_getChars_2 91 = .ok (.iload_n 0, 1) := dk_26 (dk_at dksJ11_getChars_2_3 21 rfl rfl)
theorem dJ11_getChars_2_92 : decode cJ11_getChars_2 92 = .ok (.bipush (-9), 2) := dk_16 247 (dk_at dksJ11_getChars_2_3 22 rfl rfl)
theorem dJ11_getChars_2_94 : decode cJ11_getChars_2 94 = .ok (.if_icmp .ge 18, 3) := dk_162 0 18 (dk_at dksJ11_getChars_2_4 0 rfl rfl)
theorem dJ11_getChars_2_97 : decode cJ11_getChars_2 97 = .ok (.aload_n 2, 1) := dk_44 (dk_at dksJ11_getChars_2_4 3 rfl rfl)
theorem dJ11_getChars_2_98 : decode cJ11_getChars_2 98 = .ok (.iinc 5 (-1), 3) := dk_132 5 255 (dk_at dksJ11_getChars_2_4 4 rfl rfl)
theorem dJ11_getChars_2_101 : decode cJ11_getChars_2 101 = .ok (.iload 5, 2) := dk_21 5 (dk_at dksJ11_getChars_2_4 7 rfl rfl)
theorem dJ11_getChars_2_103 : decode cJ11_getChars_2 103 = .ok (.getstatic 407, 3) := dk_178 1 151 (dk_at dksJ11_getChars_2_4 9 rfl rfl)
theorem dJ11_getChars_2_106 : decode cJ11_getChars_2 106 = .ok (.iload_n 0, 1) := dk_26 (dk_at dksJ11_getChars_2_4 12 rfl rfl)
theorem dJ11_getChars_2_107 : decode cJ11_getChars_2 107 = .ok (.ineg, 1) := dk_116 (dk_at dksJ11_getChars_2_4 13 rfl rfl)
theorem dJ11_getChars_2_108 : decode cJ11_getChars_2 108 = .ok (.baload, 1) := dk_51 (dk_at dksJ11_getChars_2_4 14 rfl rfl)
theorem dJ11_getChars_2_109 : decode cJ11_getChars_2 109 = .ok (.invokestatic 111, 3) := dk_184 0 111 (dk_at dksJ11_getChars_2_4 15 rfl rfl)
theorem dJ11_getChars_2_112 : decode cJ11_getChars_2 112 = .ok (.iload 6, 2) := dk_21 6 (dk_at dksJ11_getChars_2_4 18 rfl rfl)
theorem dJ11_getChars_2_114 : decode cJ11_getChars_2 114 = .ok (.ifCond .eq 14, 3) := dk_153 0 14 (dk_at dksJ11_getChars_2_4 20 rfl rfl)
theorem dJ11_getChars_2_117 : decode cJ11_getChars_2 117 = .ok (.aload_n 2, 1) := dk_44 (dk_at dksJ11_getChars_2_4 23 rfl rfl)
theorem dJ11_getChars_2_118 : decode cJ11_getChars_2 118 = .ok (.iinc 5 (-1), 3) := dk_132 5 255 (dk_at dksJ11_getChars_2_5 0 rfl rfl)
theorem dJ11_getChars_2_121 : decode cJ11_getChars_2 121 = .ok (.iload 5, 2) := dk_21 5 (dk_at dksJ11_getChars_2_5 3 rfl rfl)
theorem dJ11_getChars_2_123 : decode cJ11_getChars_2 123 = .ok (.bipush 45, 2) := dk_16 45 (dk_at dksJ11_getChars_2_5 5 rfl rfl)
theorem dJ11_getChars_2_125 : decode cJ11_getChars_2 125 = .ok (.invokestatic 111, 3) := dk_184 0 111 (dk_at dksJ11_getChars_2_5 7 rfl rfl)
theorem dJ11_getChars_2_128 : decode cJ11_getChars_2 128 = .ok (.iload 5, 2) := dk_21 5 (dk_at dksJ11_getChars_2_5 10 rfl rfl)
theorem dJ11_getChars_2_130 : decode cJ11_getChars_2 130 = .ok (.ireturn, 1) := dk_172 (dk_at dksJ11_getChars_2_5 12 rfl rfl)
theorem q75 : (Jvm.Cond.initialized "java/lang/StringUTF16") ∈ lw_all := lw_g (lw_at lw_m1 19 rfl) rfl
theorem q492 : (Jvm.Cond.static ({ cls := "java/lang/StringUTF16", name := "newBytesFor", desc := "(I)[B" } : Jvm.MethodName)) ∈ lw_all := lw_g (lw_at lw_m2 196 rfl) rfl
theorem q493 : (Jvm.Cond.code ({ cls := "java/lang/StringUTF16", name := "newBytesFor", desc := "(I)[B" } : Jvm.MethodName) prog_36_method_2_code (1 : Nat) (Option.some (Jvm.ClassFile.FieldType.array Jvm.ClassFile.FieldType.byte))) ∈ lw_all := lw_g (lw_at lw_m2 197 rfl) rfl
theorem q494 : (Jvm.Cond.methodLink "java/lang/StringUTF16" (11 : Nat) ({ cls := "java/lang/StringUTF16", name := "newBytesLength", desc := "(I)I" } : Jvm.MethodName)) ∈ lw_all := lw_g (lw_at lw_m2 198 rfl) rfl
theorem q495 : (Jvm.Cond.static ({ cls := "java/lang/StringUTF16", name := "newBytesLength", desc := "(I)I" } : Jvm.MethodName)) ∈ lw_all := lw_g (lw_at lw_m2 199 rfl) rfl
theorem q496 : (Jvm.Cond.code ({ cls := "java/lang/StringUTF16", name := "newBytesLength", desc := "(I)I" } : Jvm.MethodName) prog_36_method_3_code (1 : Nat) (Option.some Jvm.ClassFile.FieldType.int)) ∈ lw_all := lw_g (lw_at lw_m2 200 rfl) rfl
theorem q497 : (Jvm.Cond.constant "java/lang/StringUTF16" (20 : Nat) (1073741823 : Int32)) ∈ lw_all := lw_g (lw_at lw_m2 201 rfl) rfl
theorem q567 : (Jvm.Cond.static ({ cls := "java/lang/StringUTF16", name := "inflate", desc := "([BI[BII)V" } : Jvm.MethodName)) ∈ lw_all := lw_g (lw_at lw_m3 31 rfl) rfl
theorem q568 : (Jvm.Cond.code ({ cls := "java/lang/StringUTF16", name := "inflate", desc := "([BI[BII)V" } : Jvm.MethodName) prog_36_method_86_code (6 : Nat) (Option.none : Option Jvm.ClassFile.FieldType)) ∈ lw_all := lw_g (lw_at lw_m3 32 rfl) rfl
theorem q569 : (Jvm.Cond.methodLink "java/lang/StringUTF16" (173 : Nat) ({ cls := "java/lang/StringUTF16", name := "checkBoundsOffCount", desc := "(II[B)V" } : Jvm.MethodName)) ∈ lw_all := lw_g (lw_at lw_m3 33 rfl) rfl
theorem q570 : (Jvm.Cond.static ({ cls := "java/lang/StringUTF16", name := "checkBoundsOffCount", desc := "(II[B)V" } : Jvm.MethodName)) ∈ lw_all := lw_g (lw_at lw_m3 34 rfl) rfl
theorem q571 : (Jvm.Cond.code ({ cls := "java/lang/StringUTF16", name := "checkBoundsOffCount", desc := "(II[B)V" } : Jvm.MethodName) prog_36_method_94_code (3 : Nat) (Option.none : Option Jvm.ClassFile.FieldType)) ∈ lw_all := lw_g (lw_at lw_m3 35 rfl) rfl
theorem q572 : (Jvm.Cond.methodLink "java/lang/StringUTF16" (48 : Nat) ({ cls := "java/lang/StringUTF16", name := "length", desc := "([B)I" } : Jvm.MethodName)) ∈ lw_all := lw_g (lw_at lw_m3 36 rfl) rfl
theorem q573 : (Jvm.Cond.static ({ cls := "java/lang/StringUTF16", name := "length", desc := "([B)I" } : Jvm.MethodName)) ∈ lw_all := lw_g (lw_at lw_m3 37 rfl) rfl
theorem q574 : (Jvm.Cond.code ({ cls := "java/lang/StringUTF16", name := "length", desc := "([B)I" } : Jvm.MethodName) prog_36_method_6_code (1 : Nat) (Option.some Jvm.ClassFile.FieldType.int)) ∈ lw_all := lw_g (lw_at lw_m3 38 rfl) rfl
theorem q575 : (Jvm.Cond.methodLink "java/lang/StringUTF16" (419 : Nat) ({ cls := "java/lang/String", name := "checkBoundsOffCount", desc := "(III)I" } : Jvm.MethodName)) ∈ lw_all := lw_g (lw_at lw_m3 39 rfl) rfl
theorem q583 : (Jvm.Cond.methodLink "java/lang/StringUTF16" (111 : Nat) ({ cls := "java/lang/StringUTF16", name := "putChar", desc := "([BII)V" } : Jvm.MethodName)) ∈ lw_all := lw_g (lw_at lw_m3 47 rfl) rfl
theorem q584 : (Jvm.Cond.static ({ cls := "java/lang/StringUTF16", name := "putChar", desc := "([BII)V" } : Jvm.MethodName)) ∈ lw_all := lw_g (lw_at lw_m3 48 rfl) rfl
theorem q585 : (Jvm.Cond.code ({ cls := "java/lang/StringUTF16", name := "putChar", desc := "([BII)V" } : Jvm.MethodName) prog_36_method_4_code (3 : Nat) (Option.none : Option Jvm.ClassFile.FieldType)) ∈ lw_all := lw_g (lw_at lw_m3 49 rfl) rfl
theorem q586 : (Jvm.Cond.fieldLink "java/lang/StringUTF16" (44 : Nat) "java/lang/StringUTF16" "$assertionsDisabled" "Z") ∈ lw_all := lw_g (lw_at lw_m3 50 rfl) rfl
theorem q587 : (Jvm.Cond.laysStatic "java/lang/StringUTF16" "$assertionsDisabled" "Z") ∈ lw_tbl := lw_at lw_m3 51 rfl
theorem q588 : (Jvm.Cond.fieldLink "java/lang/StringUTF16" (59 : Nat) "java/lang/StringUTF16" "HI_BYTE_SHIFT" "I") ∈ lw_all := lw_g (lw_at lw_m3 52 rfl) rfl
theorem q589 : (Jvm.Cond.laysStatic "java/lang/StringUTF16" "HI_BYTE_SHIFT" "I") ∈ lw_tbl := lw_at lw_m3 53 rfl
theorem q590 : (Jvm.Cond.fieldLink "java/lang/StringUTF16" (63 : Nat) "java/lang/StringUTF16" "LO_BYTE_SHIFT" "I") ∈ lw_all := lw_g (lw_at lw_m3 54 rfl) rfl
theorem q591 : (Jvm.Cond.laysStatic "java/lang/StringUTF16" "LO_BYTE_SHIFT" "I") ∈ lw_tbl := lw_at lw_m3 55 rfl
theorem q593 : (Jvm.Cond.static ({ cls := "java/lang/StringUTF16", name := "putCharSB", desc := "([BII)V" } : Jvm.MethodName)) ∈ lw_all := lw_g (lw_at lw_m3 57 rfl) rfl
theorem q594 : (Jvm.Cond.code ({ cls := "java/lang/StringUTF16", name := "putCharSB", desc := "([BII)V" } : Jvm.MethodName) prog_36_method_71_code (3 : Nat) (Option.none : Option Jvm.ClassFile.FieldType)) ∈ lw_all := lw_g (lw_at lw_m3 58 rfl) rfl
theorem q595 : (Jvm.Cond.methodLink "java/lang/StringUTF16" (67 : Nat) ({ cls := "java/lang/StringUTF16", name := "checkIndex", desc := "(I[B)V" } : Jvm.MethodName)) ∈ lw_all := lw_g (lw_at lw_m3 59 rfl) rfl
theorem q596 : (Jvm.Cond.static ({ cls := "java/lang/StringUTF16", name := "checkIndex", desc := "(I[B)V" } : Jvm.MethodName)) ∈ lw_all := lw_g (lw_at lw_m3 60 rfl) rfl
theorem q597 : (Jvm.Cond.code ({ cls := "java/lang/StringUTF16", name := "checkIndex", desc := "(I[B)V" } : Jvm.MethodName) prog_36_method_91_code (2 : Nat) (Option.none : Option Jvm.ClassFile.FieldType)) ∈ lw_all := lw_g (lw_at lw_m3 61 rfl) rfl
theorem q598 : (Jvm.Cond.methodLink "java/lang/StringUTF16" (414 : Nat) ({ cls := "java/lang/String", name := "checkIndex", desc := "(II)V" } : Jvm.MethodName)) ∈ lw_all := lw_g (lw_at lw_m3 62 rfl) rfl
theorem q641 : (Jvm.Cond.static ({ cls := "java/lang/StringUTF16", name := "compress", desc := "([BII)[B" } : Jvm.MethodName)) ∈ lw_all := lw_g (lw_at lw_m3 105 rfl) rfl
theorem q642 : (Jvm.Cond.code ({ cls := "java/lang/StringUTF16", name := "compress", desc := "([BII)[B" } : Jvm.MethodName) prog_36_method_17_code (6 : Nat) (Option.some (Jvm.ClassFile.FieldType.array Jvm.ClassFile.FieldType.byte))) ∈ lw_all := lw_g (lw_at lw_m3 106 rfl) rfl
theorem q643 : (Jvm.Cond.methodLink "java/lang/StringUTF16" (123 : Nat) ({ cls := "java/lang/StringUTF16", name := "compress", desc := "([BI[BII)I" } : Jvm.MethodName)) ∈ lw_all := lw_g (lw_at lw_m3 107 rfl) rfl
theorem q644 : (Jvm.Cond.static ({ cls := "java/lang/StringUTF16", name := "compress", desc := "([BI[BII)I" } : Jvm.MethodName)) ∈ lw_all := lw_g (lw_at lw_m3 108 rfl) rfl
theorem q645 : (Jvm.Cond.code ({ cls := "java/lang/StringUTF16", name := "compress", desc := "([BI[BII)I" } : Jvm.MethodName) prog_36_method_22_code (7 : Nat) (Option.some Jvm.ClassFile.FieldType.int)) ∈ lw_all := lw_g (lw_at lw_m3 109 rfl) rfl
theorem q646 : (Jvm.Cond.methodLink "java/lang/StringUTF16" (71 : Nat) ({ cls := "java/lang/StringUTF16", name := "getChar", desc := "([BI)C" } : Jvm.MethodName)) ∈ lw_all := lw_g (lw_at lw_m3 110 rfl) rfl
theorem q647 : (Jvm.Cond.static ({ cls := "java/lang/StringUTF16", name := "getChar", desc := "([BI)C" } : Jvm.MethodName)) ∈ lw_all := lw_g (lw_at lw_m3 111 rfl) rfl
theorem q648 : (Jvm.Cond.code ({ cls := "java/lang/StringUTF16", name := "getChar", desc := "([BI)C" } : Jvm.MethodName) prog_36_method_5_code (2 : Nat) (Option.some Jvm.ClassFile.FieldType.char)) ∈ lw_all := lw_g (lw_at lw_m3 112 rfl) rfl
theorem q649 : (Jvm.Cond.methodLink "java/lang/StringUTF16" (126 : Nat) ({ cls := "java/util/Arrays", name := "copyOfRange", desc := "([BII)[B" } : Jvm.MethodName)) ∈ lw_all := lw_g (lw_at lw_m3 113 rfl) rfl
theorem q651 : (Jvm.Cond.static ({ cls := "java/lang/StringUTF16", name := "coderFromArrayLen", desc := "([BI)B" } : Jvm.MethodName)) ∈ lw_all := lw_g (lw_at lw_m3 115 rfl) rfl
theorem q652 : (Jvm.Cond.code ({ cls := "java/lang/StringUTF16", name := "coderFromArrayLen", desc := "([BI)B" } : Jvm.MethodName) prog_36_method_15_code (2 : Nat) (Option.some Jvm.ClassFile.FieldType.byte)) ∈ lw_all := lw_g (lw_at lw_m3 116 rfl) rfl
theorem q949 : (Jvm.Cond.static ({ cls := "java/lang/StringUTF16", name := "putCharsAt", desc := "([BICCCC)I" } : Jvm.MethodName)) ∈ lw_all := lw_g (lw_at lw_m4 173 rfl) rfl
theorem q950 : (Jvm.Cond.code ({ cls := "java/lang/StringUTF16", name := "putCharsAt", desc := "([BICCCC)I" } : Jvm.MethodName) prog_36_method_81_code (7 : Nat) (Option.some Jvm.ClassFile.FieldType.int)) ∈ lw_all := lw_g (lw_at lw_m4 174 rfl) rfl
theorem q951 : (Jvm.Cond.methodLink "java/lang/StringUTF16" (96 : Nat) ({ cls := "java/lang/StringUTF16", name := "checkBoundsBeginEnd", desc := "(II[B)V" } : Jvm.MethodName)) ∈ lw_all := lw_g (lw_at lw_m4 175 rfl) rfl
theorem q952 : (Jvm.Cond.static ({ cls := "java/lang/StringUTF16", name := "checkBoundsBeginEnd", desc := "(II[B)V" } : Jvm.MethodName)) ∈ lw_all := lw_g (lw_at lw_m4 176 rfl) rfl
theorem q953 : (Jvm.Cond.code ({ cls := "java/lang/StringUTF16", name := "checkBoundsBeginEnd", desc := "(II[B)V" } : Jvm.MethodName) prog_36_method_93_code (3 : Nat) (Option.none : Option Jvm.ClassFile.FieldType)) ∈ lw_all := lw_g (lw_at lw_m4 177 rfl) rfl
theorem q954 : (Jvm.Cond.methodLink "java/lang/StringUTF16" (241 : Nat) ({ cls := "java/lang/String", name := "checkBoundsBeginEnd", desc := "(III)V" } : Jvm.MethodName)) ∈ lw_all := lw_g (lw_at lw_m4 178 rfl) rfl
theorem q1001 : (Jvm.Cond.static ({ cls := "java/lang/StringUTF16", name := "getChars", desc := "(III[B)I" } : Jvm.MethodName)) ∈ lw_all := lw_g (lw_at lw_m4 225 rfl) rfl
theorem q1002 : (Jvm.Cond.code ({ cls := "java/lang/StringUTF16", name := "getChars", desc := "(III[B)I" } : Jvm.MethodName) prog_36_method_77_code (5 : Nat) (Option.some Jvm.ClassFile.FieldType.int)) ∈ lw_all := lw_g (lw_at lw_m4 226 rfl) rfl
theorem q1003 : (Jvm.Cond.methodLink "java/lang/StringUTF16" (393 : Nat) ({ cls := "java/lang/StringUTF16", name := "getChars", desc := "(II[B)I" } : Jvm.MethodName)) ∈ lw_all := lw_g (lw_at lw_m4 227 rfl) rfl
theorem q1004 : (Jvm.Cond.static ({ cls := "java/lang/StringUTF16", name := "getChars", desc := "(II[B)I" } : Jvm.MethodName)) ∈ lw_all := lw_g (lw_at lw_m4 228 rfl) rfl
theorem q1005 : (Jvm.Cond.code ({ cls := "java/lang/StringUTF16", name := "getChars", desc := "(II[B)I" } : Jvm.MethodName) prog_36_method_89_code (7 : Nat) (Option.some Jvm.ClassFile.FieldType.int)) ∈ lw_all := lw_g (lw_at lw_m4 229 rfl) rfl
theorem q1006 : (Jvm.Cond.fieldLink "java/lang/StringUTF16" (403 : Nat) "java/lang/Integer" "DigitOnes" "[B") ∈ lw_all := lw_g (lw_at lw_m4 230 rfl) rfl
theorem q1007 : (Jvm.Cond.fieldLink "java/lang/StringUTF16" (407 : Nat) "java/lang/Integer" "DigitTens" "[B") ∈ lw_all := lw_g (lw_at lw_m4 231 rfl) rfl

/-! jdk/internal/util/ArraysSupport -/
set_option maxRecDepth 100000
def RJ12 : String := "jdk/internal/util/ArraysSupport"
abbrev cJ12_newLength : ByteArray := prog_50_method_27_code
def yJ12_newLength : MethodName := ⟨RJ12, "newLength", "(III)I"⟩
def dkwJ12_newLength_1 : List UInt8 := [184, 0, 201, 172]
abbrev dktJ12_newLength_1 : List UInt8 := dkwJ12_newLength_1 ++ []
def dkwJ12_newLength_0 : List UInt8 := [26, 27, 28, 184, 0, 194, 96, 62, 3, 29, 162, 0, 11, 29, 18, 200, 163, 0, 5, 29, 172, 26, 27]
abbrev dktJ12_newLength_0 : List UInt8 := dkwJ12_newLength_0 ++ dktJ12_newLength_1
theorem dksJ12_newLength_0 : cJ12_newLength.data.toList.drop 0 = dktJ12_newLength_0 := by decide +kernel
theorem dksJ12_newLength_1 : cJ12_newLength.data.toList.drop 23 = dktJ12_newLength_1 := dk_seg dksJ12_newLength_0 23 rfl rfl
theorem dJ12_newLength_0 : decode cJ12_newLength 0 = .ok (.iload_n 0, 1) := dk_26 (dk_at dksJ12_newLength_0 0 rfl rfl)
theorem dJ12_newLength_1 : decode cJ12_newLength 1 = .ok (.iload_n 1, 1) := dk_27 (dk_at dksJ12_newLength_0 1 rfl rfl)
theorem dJ12_newLength_2 : decode cJ12_newLength 2 = .ok (.iload_n 2, 1) := dk_28 (dk_at dksJ12_newLength_0 2 rfl rfl)
theorem dJ12_newLength_3 : decode cJ12_newLength 3 = .ok (.invokestatic 194, 3) := dk_184 0 194 (dk_at dksJ12_newLength_0 3 rfl rfl)
theorem dJ12_newLength_6 : decode cJ12_newLength 6 = .ok (.iadd, 1) := dk_96 (dk_at dksJ12_newLength_0 6 rfl rfl)
theorem dJ12_newLength_7 : decode cJ12_newLength 7 = .ok (.istore_n 3, 1) := dk_62 (dk_at dksJ12_newLength_0 7 rfl rfl)
theorem dJ12_newLength_8 : decode cJ12_newLength 8 = .ok (.iconst 0, 1) := dk_3 (dk_at dksJ12_newLength_0 8 rfl rfl)
theorem dJ12_newLength_9 : decode cJ12_newLength 9 = .ok (.iload_n 3, 1) := dk_29 (dk_at dksJ12_newLength_0 9 rfl rfl)
theorem dJ12_newLength_10 : decode cJ12_newLength 10 = .ok (.if_icmp .ge 11, 3) := dk_162 0 11 (dk_at dksJ12_newLength_0 10 rfl rfl)
theorem dJ12_newLength_13 : decode cJ12_newLength 13 = .ok (.iload_n 3, 1) := dk_29 (dk_at dksJ12_newLength_0 13 rfl rfl)
theorem dJ12_newLength_14 : decode cJ12_newLength 14 = .ok (.ldc 200, 2) := dk_18 200 (dk_at dksJ12_newLength_0 14 rfl rfl)
theorem dJ12_newLength_16 : decode cJ12_newLength 16 = .ok (.if_icmp .gt 5, 3) := dk_163 0 5 (dk_at dksJ12_newLength_0 16 rfl rfl)
theorem dJ12_newLength_19 : decode cJ12_newLength 19 = .ok (.iload_n 3, 1) := dk_29 (dk_at dksJ12_newLength_0 19 rfl rfl)
theorem dJ12_newLength_20 : decode cJ12_newLength 20 = .ok (.ireturn, 1) := dk_172 (dk_at dksJ12_newLength_0 20 rfl rfl)
theorem dJ12_newLength_21 : decode cJ12_newLength 21 = .ok (.iload_n 0, 1) := dk_26 (dk_at dksJ12_newLength_0 21 rfl rfl)
theorem dJ12_newLength_22 : decode cJ12_newLength 22 = .ok (.iload_n 1, 1) := dk_27 (dk_at dksJ12_newLength_0 22 rfl rfl)
theorem dJ12_newLength_23 : decode cJ12_newLength 23 = .ok (.invokestatic 201, 3) := dk_184 0 201 (dk_at dksJ12_newLength_1 0 rfl rfl)
theorem dJ12_newLength_26 : decode cJ12_newLength 26 = .ok (.ireturn, 1) := dk_172 (dk_at dksJ12_newLength_1 3 rfl rfl)
abbrev cJ12_hugeLength : ByteArray := prog_50_method_28_code
def yJ12_hugeLength : MethodName := ⟨RJ12, "hugeLength", "(II)I"⟩
def dkwJ12_hugeLength_2 : List UInt8 := [191, 28, 18, 200, 163, 0, 6, 18, 200, 172, 28, 172]
abbrev dktJ12_hugeLength_2 : List UInt8 := dkwJ12_hugeLength_2 ++ []
def dkwJ12_hugeLength_1 : List UInt8 := [26, 182, 0, 98, 18, 208, 182, 0, 94, 27, 182, 0, 98, 18, 210, 182, 0, 94, 182, 0, 101, 183, 0, 212]
abbrev dktJ12_hugeLength_1 : List UInt8 := dkwJ12_hugeLength_1 ++ dktJ12_hugeLength_2
def dkwJ12_hugeLength_0 : List UInt8 := [26, 27, 96, 61, 28, 156, 0, 44, 187, 0, 204, 89, 187, 0, 89, 89, 183, 0, 91, 18, 206, 182, 0, 94]
abbrev dktJ12_hugeLength_0 : List UInt8 := dkwJ12_hugeLength_0 ++ dktJ12_hugeLength_1
theorem dksJ12_hugeLength_0 : cJ12_hugeLength.data.toList.drop 0 = dktJ12_hugeLength_0 := by decide +kernel
theorem dksJ12_hugeLength_1 : cJ12_hugeLength.data.toList.drop 24 = dktJ12_hugeLength_1 := dk_seg dksJ12_hugeLength_0 24 rfl rfl
theorem dksJ12_hugeLength_2 : cJ12_hugeLength.data.toList.drop 48 = dktJ12_hugeLength_2 := dk_seg dksJ12_hugeLength_1 24 rfl rfl
theorem dJ12_hugeLength_0 : decode cJ12_hugeLength 0 = .ok (.iload_n 0, 1) := dk_26 (dk_at dksJ12_hugeLength_0 0 rfl rfl)
theorem dJ12_hugeLength_1 : decode cJ12_hugeLength 1 = .ok (.iload_n 1, 1) := dk_27 (dk_at dksJ12_hugeLength_0 1 rfl rfl)
theorem dJ12_hugeLength_2 : decode cJ12_hugeLength 2 = .ok (.iadd, 1) := dk_96 (dk_at dksJ12_hugeLength_0 2 rfl rfl)
theorem dJ12_hugeLength_3 : decode cJ12_hugeLength 3 = .ok (.istore_n 2, 1) := dk_61 (dk_at dksJ12_hugeLength_0 3 rfl rfl)
theorem dJ12_hugeLength_4 : decode cJ12_hugeLength 4 = .ok (.iload_n 2, 1) := dk_28 (dk_at dksJ12_hugeLength_0 4 rfl rfl)
theorem dJ12_hugeLength_5 : decode cJ12_hugeLength 5 = .ok (.ifCond .ge 44, 3) := dk_156 0 44 (dk_at dksJ12_hugeLength_0 5 rfl rfl)
theorem dJ12_hugeLength_8 : decode cJ12_hugeLength 8 = .ok (.new 204, 3) := dk_187 0 204 (dk_at dksJ12_hugeLength_0 8 rfl rfl)
theorem dJ12_hugeLength_11 : decode cJ12_hugeLength 11 = .ok (.dup, 1) := dk_89 (dk_at dksJ12_hugeLength_0 11 rfl rfl)
theorem dJ12_hugeLength_12 : decode cJ12_hugeLength 12 = .ok (.new 89, 3) := dk_187 0 89 (dk_at dksJ12_hugeLength_0 12 rfl rfl)
theorem dJ12_hugeLength_15 : decode cJ12_hugeLength 15 = .ok (.dup, 1) := dk_89 (dk_at dksJ12_hugeLength_0 15 rfl rfl)
theorem dJ12_hugeLength_16 : decode cJ12_hugeLength 16 = .ok (.invokespecial 91, 3) := dk_183 0 91 (dk_at dksJ12_hugeLength_0 16 rfl rfl)
theorem dJ12_hugeLength_19 : decode cJ12_hugeLength 19 = .ok (.ldc 206, 2) := dk_18 206 (dk_at dksJ12_hugeLength_0 19 rfl rfl)
theorem dJ12_hugeLength_21 : decode cJ12_hugeLength 21 = .ok (.invokevirtual 94, 3) := dk_182 0 94 (dk_at dksJ12_hugeLength_0 21 rfl rfl)
theorem dJ12_hugeLength_24 : decode cJ12_hugeLength 24 = .ok (.iload_n 0, 1) := dk_26 (dk_at dksJ12_hugeLength_1 0 rfl rfl)
theorem dJ12_hugeLength_25 : decode cJ12_hugeLength 25 = .ok (.invokevirtual 98, 3) := dk_182 0 98 (dk_at dksJ12_hugeLength_1 1 rfl rfl)
theorem dJ12_hugeLength_28 : decode cJ12_hugeLength 28 = .ok (.ldc 208, 2) := dk_18 208 (dk_at dksJ12_hugeLength_1 4 rfl rfl)
theorem dJ12_hugeLength_30 : decode cJ12_hugeLength 30 = .ok (.invokevirtual 94, 3) := dk_182 0 94 (dk_at dksJ12_hugeLength_1 6 rfl rfl)
theorem dJ12_hugeLength_33 : decode cJ12_hugeLength 33 = .ok (.iload_n 1, 1) := dk_27 (dk_at dksJ12_hugeLength_1 9 rfl rfl)
theorem dJ12_hugeLength_34 : decode cJ12_hugeLength 34 = .ok (.invokevirtual 98, 3) := dk_182 0 98 (dk_at dksJ12_hugeLength_1 10 rfl rfl)
theorem dJ12_hugeLength_37 : decode cJ12_hugeLength 37 = .ok (.ldc 210, 2) := dk_18 210 (dk_at dksJ12_hugeLength_1 13 rfl rfl)
theorem dJ12_hugeLength_39 : decode cJ12_hugeLength 39 = .ok (.invokevirtual 94, 3) := dk_182 0 94 (dk_at dksJ12_hugeLength_1 15 rfl rfl)
theorem dJ12_hugeLength_42 : decode cJ12_hugeLength 42 = .ok (.invokevirtual 101, 3) := dk_182 0 101 (dk_at dksJ12_hugeLength_1 18 rfl rfl)
theorem dJ12_hugeLength_45 : decode cJ12_hugeLength 45 = .ok (.invokespecial 212, 3) := dk_183 0 212 (dk_at dksJ12_hugeLength_1 21 rfl rfl)
theorem dJ12_hugeLength_48 : decode cJ12_hugeLength 48 = .ok (.athrow, 1) := dk_191 (dk_at dksJ12_hugeLength_2 0 rfl rfl)
theorem dJ12_hugeLength_49 : decode cJ12_hugeLength 49 = .ok (.iload_n 2, 1) := dk_28 (dk_at dksJ12_hugeLength_2 1 rfl rfl)
theorem dJ12_hugeLength_50 : decode cJ12_hugeLength 50 = .ok (.ldc 200, 2) := dk_18 200 (dk_at dksJ12_hugeLength_2 2 rfl rfl)
theorem dJ12_hugeLength_52 : decode cJ12_hugeLength 52 = .ok (.if_icmp .gt 6, 3) := dk_163 0 6 (dk_at dksJ12_hugeLength_2 4 rfl rfl)
theorem dJ12_hugeLength_55 : decode cJ12_hugeLength 55 = .ok (.ldc 200, 2) := dk_18 200 (dk_at dksJ12_hugeLength_2 7 rfl rfl)
theorem dJ12_hugeLength_57 : decode cJ12_hugeLength 57 = .ok (.ireturn, 1) := dk_172 (dk_at dksJ12_hugeLength_2 9 rfl rfl)
theorem dJ12_hugeLength_58 : decode cJ12_hugeLength 58 = .ok (.iload_n 2, 1) := dk_28 (dk_at dksJ12_hugeLength_2 10 rfl rfl)
theorem dJ12_hugeLength_59 : decode cJ12_hugeLength 59 = .ok (.ireturn, 1) := dk_172 (dk_at dksJ12_hugeLength_2 11 rfl rfl)
theorem q76 : (Jvm.Cond.initialized "jdk/internal/util/ArraysSupport") ∈ lw_all := lw_g (lw_at lw_m1 20 rfl) rfl
theorem q527 : (Jvm.Cond.static ({ cls := "jdk/internal/util/ArraysSupport", name := "newLength", desc := "(III)I" } : Jvm.MethodName)) ∈ lw_all := lw_g (lw_at lw_m2 231 rfl) rfl
theorem q528 : (Jvm.Cond.code ({ cls := "jdk/internal/util/ArraysSupport", name := "newLength", desc := "(III)I" } : Jvm.MethodName) prog_50_method_27_code (4 : Nat) (Option.some Jvm.ClassFile.FieldType.int)) ∈ lw_all := lw_g (lw_at lw_m2 232 rfl) rfl
theorem q529 : (Jvm.Cond.methodLink "jdk/internal/util/ArraysSupport" (194 : Nat) ({ cls := "java/lang/Math", name := "max", desc := "(II)I" } : Jvm.MethodName)) ∈ lw_all := lw_g (lw_at lw_m2 233 rfl) rfl
theorem q532 : (Jvm.Cond.constant "jdk/internal/util/ArraysSupport" (200 : Nat) (2147483639 : Int32)) ∈ lw_all := lw_g (lw_at lw_m2 236 rfl) rfl
theorem q533 : (Jvm.Cond.methodLink "jdk/internal/util/ArraysSupport" (201 : Nat) ({ cls := "jdk/internal/util/ArraysSupport", name := "hugeLength", desc := "(II)I" } : Jvm.MethodName)) ∈ lw_all := lw_g (lw_at lw_m2 237 rfl) rfl
theorem q534 : (Jvm.Cond.static ({ cls := "jdk/internal/util/ArraysSupport", name := "hugeLength", desc := "(II)I" } : Jvm.MethodName)) ∈ lw_all := lw_g (lw_at lw_m2 238 rfl) rfl
theorem q535 : (Jvm.Cond.code ({ cls := "jdk/internal/util/ArraysSupport", name := "hugeLength", desc := "(II)I" } : Jvm.MethodName) prog_50_method_28_code (3 : Nat) (Option.some Jvm.ClassFile.FieldType.int)) ∈ lw_all := lw_g (lw_at lw_m2 239 rfl) rfl

/-! java/lang/Math -/
set_option maxRecDepth 100000
def RJ13 : String := "java/lang/Math"
abbrev cJ13_max : ByteArray := prog_30_method_65_code
def yJ13_max : MethodName := ⟨RJ13, "max", "(II)I"⟩
def dkwJ13_max_0 : List UInt8 := [26, 27, 161, 0, 7, 26, 167, 0, 4, 27, 172]
abbrev dktJ13_max_0 : List UInt8 := dkwJ13_max_0 ++ []
theorem dksJ13_max_0 : cJ13_max.data.toList.drop 0 = dktJ13_max_0 := by decide +kernel
theorem dJ13_max_0 : decode cJ13_max 0 = .ok (.iload_n 0, 1) := dk_26 (dk_at dksJ13_max_0 0 rfl rfl)
theorem dJ13_max_1 : decode cJ13_max 1 = .ok (.iload_n 1, 1) := dk_27 (dk_at dksJ13_max_0 1 rfl rfl)
theorem dJ13_max_2 : decode cJ13_max 2 = .ok (.if_icmp .lt 7, 3) := dk_161 0 7 (dk_at dksJ13_max_0 2 rfl rfl)
theorem dJ13_max_5 : decode cJ13_max 5 = .ok (.iload_n 0, 1) := dk_26 (dk_at dksJ13_max_0 5 rfl rfl)
theorem dJ13_max_6 : decode cJ13_max 6 = .ok (.goto 4, 3) := dk_167 0 4 (dk_at dksJ13_max_0 6 rfl rfl)
theorem dJ13_max_9 : decode cJ13_max 9 = .ok (.iload_n 1, 1) := dk_27 (dk_at dksJ13_max_0 9 rfl rfl)
theorem dJ13_max_10 : decode cJ13_max 10 = .ok (.ireturn, 1) := dk_172 (dk_at dksJ13_max_0 10 rfl rfl)
abbrev cJ13_min : ByteArray := prog_30_method_69_code
def yJ13_min : MethodName := ⟨RJ13, "min", "(II)I"⟩
def dkwJ13_min_0 : List UInt8 := [26, 27, 163, 0, 7, 26, 167, 0, 4, 27, 172]
abbrev dktJ13_min_0 : List UInt8 := dkwJ13_min_0 ++ []
theorem dksJ13_min_0 : cJ13_min.data.toList.drop 0 = dktJ13_min_0 := by decide +kernel
theorem dJ13_min_0 : decode cJ13_min 0 = .ok (.iload_n 0, 1) := dk_26 (dk_at dksJ13_min_0 0 rfl rfl)
theorem dJ13_min_1 : decode cJ13_min 1 = .ok (.iload_n 1, 1) := dk_27 (dk_at dksJ13_min_0 1 rfl rfl)
theorem dJ13_min_2 : decode cJ13_min 2 = .ok (.if_icmp .gt 7, 3) := dk_163 0 7 (dk_at dksJ13_min_0 2 rfl rfl)
theorem dJ13_min_5 : decode cJ13_min 5 = .ok (.iload_n 0, 1) := dk_26 (dk_at dksJ13_min_0 5 rfl rfl)
theorem dJ13_min_6 : decode cJ13_min 6 = .ok (.goto 4, 3) := dk_167 0 4 (dk_at dksJ13_min_0 6 rfl rfl)
theorem dJ13_min_9 : decode cJ13_min 9 = .ok (.iload_n 1, 1) := dk_27 (dk_at dksJ13_min_0 9 rfl rfl)
theorem dJ13_min_10 : decode cJ13_min 10 = .ok (.ireturn, 1) := dk_172 (dk_at dksJ13_min_0 10 rfl rfl)
abbrev cJ13_abs : ByteArray := prog_30_method_59_code
def yJ13_abs : MethodName := ⟨RJ13, "abs", "(I)I"⟩
def dkwJ13_abs_0 : List UInt8 := [26, 156, 0, 8, 26, 116, 167, 0, 4, 26, 172]
abbrev dktJ13_abs_0 : List UInt8 := dkwJ13_abs_0 ++ []
theorem dksJ13_abs_0 : cJ13_abs.data.toList.drop 0 = dktJ13_abs_0 := by decide +kernel
theorem dJ13_abs_0 : decode cJ13_abs 0 = .ok (.iload_n 0, 1) := dk_26 (dk_at dksJ13_abs_0 0 rfl rfl)
theorem dJ13_abs_1 : decode cJ13_abs 1 = .ok (.ifCond .ge 8, 3) := dk_156 0 8 (dk_at dksJ13_abs_0 1 rfl rfl)
theorem dJ13_abs_4 : decode cJ13_abs 4 = .ok (.iload_n 0, 1) := dk_26 (dk_at dksJ13_abs_0 4 rfl rfl)
theorem dJ13_abs_5 : decode cJ13_abs 5 = .ok (.ineg, 1) := dk_116 (dk_at dksJ13_abs_0 5 rfl rfl)
theorem dJ13_abs_6 : decode cJ13_abs 6 = .ok (.goto 4, 3) := dk_167 0 4 (dk_at dksJ13_abs_0 6 rfl rfl)
theorem dJ13_abs_9 : decode cJ13_abs 9 = .ok (.iload_n 0, 1) := dk_26 (dk_at dksJ13_abs_0 9 rfl rfl)
theorem dJ13_abs_10 : decode cJ13_abs 10 = .ok (.ireturn, 1) := dk_172 (dk_at dksJ13_abs_0 10 rfl rfl)
theorem q77 : (Jvm.Cond.initialized "java/lang/Math") ∈ lw_all := lw_g (lw_at lw_m1 21 rfl) rfl
theorem q530 : (Jvm.Cond.static ({ cls := "java/lang/Math", name := "max", desc := "(II)I" } : Jvm.MethodName)) ∈ lw_all := lw_g (lw_at lw_m2 234 rfl) rfl
theorem q531 : (Jvm.Cond.code ({ cls := "java/lang/Math", name := "max", desc := "(II)I" } : Jvm.MethodName) prog_30_method_65_code (2 : Nat) (Option.some Jvm.ClassFile.FieldType.int)) ∈ lw_all := lw_g (lw_at lw_m2 235 rfl) rfl
theorem q548 : (Jvm.Cond.static ({ cls := "java/lang/Math", name := "min", desc := "(II)I" } : Jvm.MethodName)) ∈ lw_all := lw_g (lw_at lw_m3 12 rfl) rfl
theorem q549 : (Jvm.Cond.code ({ cls := "java/lang/Math", name := "min", desc := "(II)I" } : Jvm.MethodName) prog_30_method_69_code (2 : Nat) (Option.some Jvm.ClassFile.FieldType.int)) ∈ lw_all := lw_g (lw_at lw_m3 13 rfl) rfl
theorem q1161 : (Jvm.Cond.static ({ cls := "java/lang/Math", name := "abs", desc := "(I)I" } : Jvm.MethodName)) ∈ lw_all := lw_g (lw_at lw_m5 145 rfl) rfl
theorem q1162 : (Jvm.Cond.code ({ cls := "java/lang/Math", name := "abs", desc := "(I)I" } : Jvm.MethodName) prog_30_method_59_code (1 : Nat) (Option.some Jvm.ClassFile.FieldType.int)) ∈ lw_all := lw_g (lw_at lw_m5 146 rfl) rfl

/-! java/util/Arrays -/
set_option maxRecDepth 100000
def RJ14 : String := "java/util/Arrays"
abbrev cJ14_copyOf : ByteArray := prog_44_method_121_code
def yJ14_copyOf : MethodName := ⟨RJ14, "copyOf", "([BI)[B"⟩
def dkwJ14_copyOf_1 : List UInt8 := [27, 184, 1, 48, 184, 0, 150, 44, 176]
abbrev dktJ14_copyOf_1 : List UInt8 := dkwJ14_copyOf_1 ++ []
def dkwJ14_copyOf_0 : List UInt8 := [27, 42, 190, 160, 0, 11, 42, 182, 1, 54, 192, 1, 55, 176, 27, 188, 8, 77, 42, 3, 44, 3, 42, 190]
abbrev dktJ14_copyOf_0 : List UInt8 := dkwJ14_copyOf_0 ++ dktJ14_copyOf_1
theorem dksJ14_copyOf_0 : cJ14_copyOf.data.toList.drop 0 = dktJ14_copyOf_0 := by decide +kernel
theorem dksJ14_copyOf_1 : cJ14_copyOf.data.toList.drop 24 = dktJ14_copyOf_1 := dk_seg dksJ14_copyOf_0 24 rfl rfl
theorem dJ14_copyOf_0 : decode cJ14_copyOf 0 = .ok (.iload_n 1, 1) := dk_27 (dk_at dksJ14_copyOf_0 0 rfl rfl)
theorem dJ14_copyOf_1 : decode cJ14_copyOf 1 = .ok (.aload_n 0, 1) := dk_42 (dk_at dksJ14_copyOf_0 1 rfl rfl)
theorem dJ14_copyOf_2 : decode cJ14_copyOf 2 = .ok (.arraylength, 1) := dk_190 (dk_at dksJ14_copyOf_0 2 rfl rfl)
theorem dJ14_copyOf_3 : decode cJ14_copyOf 3 = .ok (.if_icmp .ne 11, 3) := dk_160 0 11 (dk_at dksJ14_copyOf_0 3 rfl rfl)
theorem dJ14_copyOf_6 : decode cJ14_copyOf 6 = .ok (.aload_n 0, 1) := dk_42 (dk_at dksJ14_copyOf_0 6 rfl rfl)
theorem dJ14_copyOf_7 : decode cJ14_copyOf 7 = .ok (.invokevirtual 310, 3) := dk_182 1 54 (dk_at dksJ14_copyOf_0 7 rfl rfl)
theorem dJ14_copyOf_10 : decode cJ14_copyOf 10 = .ok (.checkcast 311, 3) := dk_192 1 55 (dk_at dksJ14_copyOf_0 10 rfl rfl)
theorem dJ14_copyOf_13 : decode cJ14_copyOf 13 = .ok (.areturn, 1) := dk_176 (dk_at dksJ14_copyOf_0 13 rfl rfl)
theorem dJ14_copyOf_14 : decode cJ14_copyOf 14 = .ok (.iload_n 1, 1) := dk_27 (dk_at dksJ14_copyOf_0 14 rfl rfl)
theorem dJ14_copyOf_15 : decode cJ14_copyOf 15 = .ok (.newarray .byte, 2) := dk_188_8 (dk_at dksJ14_copyOf_0 15 rfl rfl)
theorem dJ14_copyOf_17 : decode cJ14_copyOf 17 = .ok (.astore_n 2, 1) := dk_77 (dk_at dksJ14_copyOf_0 17 rfl rfl)
theorem dJ14_copyOf_18 : decode cJ14_copyOf 18 = .ok (.aload_n 0, 1) := dk_42 (dk_at dksJ14_copyOf_0 18 rfl rfl)
theorem dJ14_copyOf_19 : decode cJ14_copyOf 19 = .ok (.iconst 0, 1) := dk_3 (dk_at dksJ14_copyOf_0 19 rfl rfl)
theorem dJ14_copyOf_20 : decode cJ14_copyOf 20 = .ok (.aload_n 2, 1) := dk_44 (dk_at dksJ14_copyOf_0 20 rfl rfl)
theorem dJ14_copyOf_21 : decode cJ14_copyOf 21 = .ok (.iconst 0, 1) := dk_3 (dk_at dksJ14_copyOf_0 21 rfl rfl)
theorem dJ14_copyOf_22 : decode cJ14_copyOf 22 = .ok (.aload_n 0, 1) := dk_42 (dk_at dksJ14_copyOf_0 22 rfl rfl)
theorem dJ14_copyOf_23 : decode cJ14_copyOf 23 = .ok (.arraylength, 1) := dk_190 (dk_at dksJ14_copyOf_0 23 rfl rfl)
theorem dJ14_copyOf_24 : decode cJ14_copyOf 24 = .ok (.iload_n 1, 1) := dk_27 (dk_at dksJ14_copyOf_1 0 rfl rfl)
theorem dJ14_copyOf_25 : decode cJ14_copyOf 25 = .ok (.invokestatic 304, 3) := dk_184 1 48 (dk_at dksJ14_copyOf_1 1 rfl rfl)
theorem dJ14_copyOf_28 : decode cJ14_copyOf 28 = .ok (.invokestatic 150, 3) := dk_184 0 150 (dk_at dksJ14_copyOf_1 4 rfl rfl)
theorem dJ14_copyOf_31 : decode cJ14_copyOf 31 = .ok (.aload_n 2, 1) := dk_44 (dk_at dksJ14_copyOf_1 7 rfl rfl)
theorem dJ14_copyOf_32 : decode cJ14_copyOf 32 = .ok (.areturn, 1) := dk_176 (dk_at dksJ14_copyOf_1 8 rfl rfl)
abbrev cJ14_copyOfRange : ByteArray := prog_44_method_132_code
def yJ14_copyOfRange : MethodName := ⟨RJ14, "copyOfRange", "([BII)[B"⟩
def dkwJ14_copyOfRange_1 : List UInt8 := [176]
abbrev dktJ14_copyOfRange_1 : List UInt8 := dkwJ14_copyOfRange_1 ++ []
def dkwJ14_copyOfRange_0 : List UInt8 := [27, 154, 0, 9, 28, 42, 190, 159, 0, 10, 42, 27, 28, 184, 1, 83, 176, 42, 182, 1, 54, 192, 1, 55]
abbrev dktJ14_copyOfRange_0 : List UInt8 := dkwJ14_copyOfRange_0 ++ dktJ14_copyOfRange_1
theorem dksJ14_copyOfRange_0 : cJ14_copyOfRange.data.toList.drop 0 = dktJ14_copyOfRange_0 := by decide +kernel
theorem dksJ14_copyOfRange_1 : cJ14_copyOfRange.data.toList.drop 24 = dktJ14_copyOfRange_1 := dk_seg dksJ14_copyOfRange_0 24 rfl rfl
theorem dJ14_copyOfRange_0 : decode cJ14_copyOfRange 0 = .ok (.iload_n 1, 1) := dk_27 (dk_at dksJ14_copyOfRange_0 0 rfl rfl)
theorem dJ14_copyOfRange_1 : decode cJ14_copyOfRange 1 = .ok (.ifCond .ne 9, 3) := dk_154 0 9 (dk_at dksJ14_copyOfRange_0 1 rfl rfl)
theorem dJ14_copyOfRange_4 : decode cJ14_copyOfRange 4 = .ok (.iload_n 2, 1) := dk_28 (dk_at dksJ14_copyOfRange_0 4 rfl rfl)
theorem dJ14_copyOfRange_5 : decode cJ14_copyOfRange 5 = .ok (.aload_n 0, 1) := dk_42 (dk_at dksJ14_copyOfRange_0 5 rfl rfl)
theorem dJ14_copyOfRange_6 : decode cJ14_copyOfRange 6 = .ok (.arraylength, 1) := dk_190 (dk_at dksJ14_copyOfRange_0 6 rfl rfl)
theorem dJ14_copyOfRange_7 : decode cJ14_copyOfRange 7 = .ok (.if_icmp .eq 10, 3) := dk_159 0 10 (dk_at dksJ14_copyOfRange_0 7 rfl rfl)
theorem dJ14_copyOfRange_10 : decode cJ14_copyOfRange 10 = .ok (.aload_n 0, 1) := dk_42 (dk_at dksJ14_copyOfRange_0 10 rfl rfl)
theorem dJ14_copyOfRange_11 : decode cJ14_copyOfRange 11 = .ok (.iload_n 1, 1) := dk_27 (dk_at dksJ14_copyOfRange_0 11 rfl rfl)
theorem dJ14_copyOfRange_12 : decode cJ14_copyOfRange 12 = .ok (.iload_n 2, 1) := dk_28 (dk_at dksJ14_copyOfRange_0 12 rfl rfl)
theorem dJ14_copyOfRange_13 : decode cJ14_copyOfRange 13 = .ok (.invokestatic 339, 3) := dk_184 1 83 (dk_at dksJ14_copyOfRange_0 13 rfl rfl)
theorem dJ14_copyOfRange_16 : decode cJ14_copyOfRange 16 = .ok (.areturn, 1) := dk_176 (dk_at dksJ14_copyOfRange_0 16 rfl rfl)
theorem dJ14_copyOfRange_17 : decode cJ14_copyOfRange 17 = .ok (.aload_n 0, 1) := dk_42 (dk_at dksJ14_copyOfRange_0 17 rfl rfl)
theorem dJ14_copyOfRange_18 : decode cJ14_copyOfRange 18 = .ok (.invokevirtual 310, 3) := dk_182 1 54 (dk_at dksJ14_copyOfRange_0 18 rfl rfl)
theorem dJ14_copyOfRange_21 : decode cJ14_copyOfRange 21 = .ok (.checkcast 311, 3) := dk_192 1 55 (dk_at dksJ14_copyOfRange_0 21 rfl rfl)
theorem dJ14_copyOfRange_24 : decode cJ14_copyOfRange 24 = .ok (.areturn, 1) := dk_176 (dk_at dksJ14_copyOfRange_1 0 rfl rfl)
abbrev cJ14_copyOfRangeByte : ByteArray := prog_44_method_133_code
def yJ14_copyOfRangeByte : MethodName := ⟨RJ14, "copyOfRangeByte", "([BII)[B"⟩
def dkwJ14_copyOfRangeByte_1 : List UInt8 := [184, 1, 48, 184, 0, 150, 25, 4, 176]
abbrev dktJ14_copyOfRangeByte_1 : List UInt8 := dkwJ14_copyOfRangeByte_1 ++ []
def dkwJ14_copyOfRangeByte_0 : List UInt8 := [27, 28, 184, 1, 87, 28, 27, 100, 62, 29, 188, 8, 58, 4, 42, 27, 25, 4, 3, 42, 190, 27, 100, 29]
abbrev dktJ14_copyOfRangeByte_0 : List UInt8 := dkwJ14_copyOfRangeByte_0 ++ dktJ14_copyOfRangeByte_1
theorem dksJ14_copyOfRangeByte_0 : cJ14_copyOfRangeByte.data.toList.drop 0 = dktJ14_copyOfRangeByte_0 := by decide +kernel
theorem dksJ14_copyOfRangeByte_1 : cJ14_copyOfRangeByte.data.toList.drop 24 = dktJ14_copyOfRangeByte_1 := dk_seg dksJ14_copyOfRangeByte_0 24 rfl rfl
theorem dJ14_copyOfRangeByte_0 : decode cJ14_copyOfRangeByte 0 = .ok (.iload_n 1, 1) := dk_27 (dk_at dksJ14_copyOfRangeByte_0 0 rfl rfl)
theorem dJ14_copyOfRangeByte_1 : decode cJ14_copyOfRangeByte 1 = .ok (.iload_n 2, 1) := dk_28 (dk_at dksJ14_copyOfRangeByte_0 1 rfl rfl)
theorem dJ14_copyOfRangeByte_2 : decode cJ14_copyOfRangeByte 2 = .ok (.invokestatic 343, 3) := dk_184 1 87 (dk_at dksJ14_copyOfRangeByte_0 2 rfl rfl)
theorem dJ14_copyOfRangeByte_5 : decode cJ14_copyOfRangeByte 5 = .ok (.iload_n 2, 1) := dk_28 (dk_at dksJ14_copyOfRangeByte_0 5 rfl rfl)
theorem dJ14_copyOfRangeByte_6 : decode cJ14_copyOfRangeByte 6 = .ok (.iload_n 1, 1) := dk_27 (dk_at dksJ14_copyOfRangeByte_0 6 rfl rfl)
theorem dJ14_copyOfRangeByte_7 : decode cJ14_copyOfRangeByte 7 = .ok (.isub, 1) := dk_100 (dk_at dksJ14_copyOfRangeByte_0 7 rfl rfl)
theorem dJ14_copyOfRangeByte_8 : decode cJ14_copyOfRangeByte 8 = .ok (.istore_n 3, 1) := dk_62 (dk_at dksJ14_copyOfRangeByte_0 8 rfl rfl)
theorem dJ14_copyOfRangeByte_9 : decode cJ14_copyOfRangeByte 9 = .ok (.iload_n 3, 1) := dk_29 (dk_at dksJ14_copyOfRangeByte_0 9 rfl rfl)
theorem dJ14_copyOfRangeByte_10 : decode cJ14_copyOfRangeByte 10 = .ok (.newarray .byte, 2) := dk_188_8 (dk_at dksJ14_copyOfRangeByte_0 10 rfl rfl)
theorem dJ14_copyOfRangeByte_12 : decode cJ14_copyOfRangeByte 12 = .ok (.astore 4, 2) := dk_58 4 (dk_at dksJ14_copyOfRangeByte_0 12 rfl rfl)
theorem dJ14_copyOfRangeByte_14 : decode cJ14_copyOfRangeByte 14 = .ok (.aload_n 0, 1) := dk_42 (dk_at dksJ14_copyOfRangeByte_0 14 rfl rfl)
theorem dJ14_copyOfRangeByte_15 : decode cJ14_copyOfRangeByte 15 = .ok (.iload_n 1, 1) := dk_27 (dk_at dksJ14_copyOfRangeByte_0 15 rfl rfl)
theorem dJ14_copyOfRangeByte_16 : decode cJ14_copyOfRangeByte 16 = .ok (.aload 4, 2) := dk_25 4 (dk_at dksJ14_copyOfRangeByte_0 16 rfl rfl)
theorem dJ14_copyOfRangeByte_18 : decode cJ14_copyOfRangeByte 18 = .ok (.iconst 0, 1) := dk_3 (dk_at dksJ14_copyOfRangeByte_0 18 rfl rfl)
theorem dJ14_copyOfRangeByte_19 : decode cJ14_copyOfRangeByte 19 = .ok (.aload_n 0, 1) := dk_42 (dk_at dksJ14_copyOfRangeByte_0 19 rfl rfl)
theorem dJ14_copyOfRangeByte_20 : decode cJ14_copyOfRangeByte 20 = .ok (.arraylength, 1) := dk_190 (dk_at dksJ14_copyOfRangeByte_0 20 rfl rfl)
theorem dJ14_copyOfRangeByte_21 : decode cJ14_copyOfRangeByte 21 = .ok (.iload_n 1, 1) := dk_27 (dk_at dksJ14_copyOfRangeByte_0 21 rfl rfl)
theorem dJ14_copyOfRangeByte_22 : decode cJ14_copyOfRangeByte 22 = .ok (.isub, 1) := dk_100 (dk_at dksJ14_copyOfRangeByte_0 22 rfl rfl)
theorem dJ14_copyOfRangeByte_23 : decode cJ14_copyOfRangeByte 23 = .ok (.iload_n 3, 1) := dk_29 (dk_at dksJ14_copyOfRangeByte_0 23 rfl rfl)
theorem dJ14_copyOfRangeByte_24 : decode cJ14_copyOfRangeByte 24 = .ok (.invokestatic 304, 3) := dk_184 1 48 (dk_at dksJ14_copyOfRangeByte_1 0 rfl rfl)
theorem dJ14_copyOfRangeByte_27 : decode cJ14_copyOfRangeByte 27 = .ok (.invokestatic 150, 3) := dk_184 0 150 (dk_at dksJ14_copyOfRangeByte_1 3 rfl rfl)
theorem dJ14_copyOfRangeByte_30 : decode cJ14_copyOfRangeByte 30 = .ok (.aload 4, 2) := dk_25 4 (dk_at dksJ14_copyOfRangeByte_1 6 rfl rfl)
theorem dJ14_copyOfRangeByte_32 : decode cJ14_copyOfRangeByte 32 = .ok (.areturn, 1) := dk_176 (dk_at dksJ14_copyOfRangeByte_1 8 rfl rfl)
abbrev cJ14_checkLength : ByteArray := prog_44_method_131_code
def yJ14_checkLength : MethodName := ⟨RJ14, "checkLength", "(II)V"⟩
def dkwJ14_checkLength_1 : List UInt8 := [182, 0, 50, 27, 182, 0, 54, 182, 0, 61, 183, 0, 65, 191, 177]
abbrev dktJ14_checkLength_1 : List UInt8 := dkwJ14_checkLength_1 ++ []
def dkwJ14_checkLength_0 : List UInt8 := [27, 26, 162, 0, 35, 187, 0, 43, 89, 187, 0, 45, 89, 183, 0, 47, 26, 182, 0, 54, 19, 1, 81]
abbrev dktJ14_checkLength_0 : List UInt8 := dkwJ14_checkLength_0 ++ dktJ14_checkLength_1
theorem dksJ14_checkLength_0 : cJ14_checkLength.data.toList.drop 0 = dktJ14_checkLength_0 := by decide +kernel
theorem dksJ14_checkLength_1 : cJ14_checkLength.data.toList.drop 23 = dktJ14_checkLength_1 := dk_seg dksJ14_checkLength_0 23 rfl rfl
theorem dJ14_checkLength_0 : decode cJ14_checkLength 0 = .ok (.iload_n 1, 1) := dk_27 (dk_at dksJ14_checkLength_0 0 rfl rfl)
theorem dJ14_checkLength_1 : decode cJ14_checkLength 1 = .ok (.iload_n 0, 1) := dk_26 (dk_at dksJ14_checkLength_0 1 rfl rfl)
theorem dJ14_checkLength_2 : decode cJ14_checkLength 2 = .ok (.if_icmp .ge 35, 3) := dk_162 0 35 (dk_at dksJ14_checkLength_0 2 rfl rfl)
theorem dJ14_checkLength_5 : decode cJ14_checkLength 5 = .ok (.new 43, 3) := dk_187 0 43 (dk_at dksJ14_checkLength_0 5 rfl rfl)
theorem dJ14_checkLength_8 : decode cJ14_checkLength 8 = .ok (.dup, 1) := dk_89 (dk_at dksJ14_checkLength_0 8 rfl rfl)
theorem dJ14_checkLength_9 : decode cJ14_checkLength 9 = .ok (.new 45, 3) := dk_187 0 45 (dk_at dksJ14_checkLength_0 9 rfl rfl)
theorem dJ14_checkLength_12 : decode cJ14_checkLength 12 = .ok (.dup, 1) := dk_89 (dk_at dksJ14_checkLength_0 12 rfl rfl)
theorem dJ14_checkLength_13 : decode cJ14_checkLength 13 = .ok (.invokespecial 47, 3) := dk_183 0 47 (dk_at dksJ14_checkLength_0 13 rfl rfl)
theorem dJ14_checkLength_16 : decode cJ14_checkLength 16 = .ok (.iload_n 0, 1) := dk_26 (dk_at dksJ14_checkLength_0 16 rfl rfl)
theorem dJ14_checkLength_17 : decode cJ14_checkLength 17 = .ok (.invokevirtual 54, 3) := dk_182 0 54 (dk_at dksJ14_checkLength_0 17 rfl rfl)
theorem dJ14_checkLength_20 : decode cJ14_checkLength 20 = .ok (.ldc_w 337, 3) := dk_19 1 81 (dk_at dksJ14_checkLength_0 20 rfl rfl)
theorem dJ14_checkLength_23 : decode cJ14_checkLength 23 = .ok (.invokevirtual 50, 3) := dk_182 0 50 (dk_at dksJ14_checkLength_1 0 rfl rfl)
theorem dJ14_checkLength_26 : decode cJ14_checkLength 26 = .ok (.iload_n 1, 1) := dk_27 (dk_at dksJ14_checkLength_1 3 rfl rfl)
theorem dJ14_checkLength_27 : decode cJ14_checkLength 27 = .ok (.invokevirtual 54, 3) := dk_182 0 54 (dk_at dksJ14_checkLength_1 4 rfl rfl)
theorem dJ14_checkLength_30 : decode cJ14_checkLength 30 = .ok (.invokevirtual 61, 3) := dk_182 0 61 (dk_at dksJ14_checkLength_1 7 rfl rfl)
theorem dJ14_checkLength_33 : decode cJ14_checkLength 33 = .ok (.invokespecial 65, 3) := dk_183 0 65 (dk_at dksJ14_checkLength_1 10 rfl rfl)
theorem dJ14_checkLength_36 : decode cJ14_checkLength 36 = .ok (.athrow, 1) := dk_191 (dk_at dksJ14_checkLength_1 13 rfl rfl)
theorem dJ14_checkLength_37 : decode cJ14_checkLength 37 = .ok (.return_, 1) := dk_177 (dk_at dksJ14_checkLength_1 14 rfl rfl)
abbrev cJ14_copyOf_2 : ByteArray := prog_44_method_119_code
def yJ14_copyOf_2 : MethodName := ⟨RJ14, "copyOf", "([Ljava/lang/Object;I)[Ljava/lang/Object;"⟩
def dkwJ14_copyOf_2_0 : List UInt8 := [42, 27, 42, 182, 0, 86, 184, 1, 44, 176]
abbrev dktJ14_copyOf_2_0 : List UInt8 := dkwJ14_copyOf_2_0 ++ []
theorem dksJ14_copyOf_2_0 : cJ14_copyOf_2.data.toList.drop 0 = dktJ14_copyOf_2_0 := by decide +kernel
theorem dJ14_copyOf_2_0 : decode cJ14_copyOf_2 0 = .ok (.aload_n 0, 1) := dk_42 (dk_at dksJ14_copyOf_2_0 0 rfl rfl)
theorem dJ14_copyOf_2_1 : decode cJ14_copyOf_2 1 = .ok (.iload_n 1, 1) := dk_27 (dk_at dksJ14_copyOf_2_0 1 rfl rfl)
theorem dJ14_copyOf_2_2 : decode cJ14_copyOf_2 2 = .ok (.aload_n 0, 1) := dk_42 (dk_at dksJ14_copyOf_2_0 2 rfl rfl)
theorem dJ14_copyOf_2_3 : decode cJ14_copyOf_2 3 = .ok (.invokevirtual 86, 3) := dk_182 0 86 (dk_at dksJ14_copyOf_2_0 3 rfl rfl)
theorem dJ14_copyOf_2_6 : decode cJ14_copyOf_2 6 = .ok (.invokestatic 300, 3) := dk_184 1 44 (dk_at dksJ14_copyOf_2_0 6 rfl rfl)
theorem dJ14_copyOf_2_9 : decode cJ14_copyOf_2 9 = .ok (.areturn, 1) := dk_176 (dk_at dksJ14_copyOf_2_0 9 rfl rfl)
abbrev cJ14_copyOf_3 : ByteArray := prog_44_method_120_code
def yJ14_copyOf_3 : MethodName := ⟨RJ14, "copyOf", "([Ljava/lang/Object;ILjava/lang/Class;)[Ljava/lang/Object;"⟩
def dkwJ14_copyOf_3_1 : List UInt8 := [78, 42, 3, 45, 3, 42, 190, 27, 184, 1, 48, 184, 0, 150, 45, 176]
abbrev dktJ14_copyOf_3_1 : List UInt8 := dkwJ14_copyOf_3_1 ++ []
def dkwJ14_copyOf_3_0 : List UInt8 := [44, 18, 110, 166, 0, 10, 27, 189, 0, 2, 167, 0, 14, 44, 182, 0, 90, 27, 184, 0, 95, 192, 0, 110]
abbrev dktJ14_copyOf_3_0 : List UInt8 := dkwJ14_copyOf_3_0 ++ dktJ14_copyOf_3_1
theorem dksJ14_copyOf_3_0 : cJ14_copyOf_3.data.toList.drop 0 = dktJ14_copyOf_3_0 := by decide +kernel
theorem dksJ14_copyOf_3_1 : cJ14_copyOf_3.data.toList.drop 24 = dktJ14_copyOf_3_1 := dk_seg dksJ14_copyOf_3_0 24 rfl rfl
theorem dJ14_copyOf_3_0 : decode cJ14_copyOf_3 0 = .ok (.aload_n 2, 1) := dk_44 (dk_at dksJ14_copyOf_3_0 0 rfl rfl)
theorem dJ14_copyOf_3_1 : decode cJ14_copyOf_3 1 = .ok (.ldc 110, 2) := dk_18 110 (dk_at dksJ14_copyOf_3_0 1 rfl rfl)
theorem dJ14_copyOf_3_3 : decode cJ14_copyOf_3 3 = .ok (.if_acmp .ne 10, 3) := dk_166 0 10 (dk_at dksJ14_copyOf_3_0 3 rfl rfl)
theorem dJ14_copyOf_3_6 : decode cJ14_copyOf_3 6 = .ok (.iload_n 1, 1) := dk_27 (dk_at dksJ14_copyOf_3_0 6 rfl rfl)
theorem dJ14_copyOf_3_7 : decode cJ14_copyOf_3 7 = .ok (.anewarray 2, 3) := dk_189 0 2 (dk_at dksJ14_copyOf_3_0 7 rfl rfl)
theorem dJ14_copyOf_3_10 : decode cJ14_copyOf_3 10 = .ok (.goto 14, 3) := dk_167 0 14 (dk_at dksJ14_copyOf_3_0 10 rfl rfl)
theorem dJ14_copyOf_3_13 : decode cJ14_copyOf_3 13 = .ok (.aload_n 2, 1) := dk_44 (dk_at dksJ14_copyOf_3_0 13 rfl rfl)
theorem dJ14_copyOf_3_14 : decode cJ14_copyOf_3 14 = .ok (.invokevirtual 90, 3) := dk_182 0 90 (dk_at dksJ14_copyOf_3_0 14 rfl rfl)
theorem dJ14_copyOf_3_17 : decode cJ14_copyOf_3 17 = .ok (.iload_n 1, 1) := dk_27 (dk_at dksJ14_copyOf_3_0 17 rfl rfl)
theorem dJ14_copyOf_3_18 : decode cJ14_copyOf_3 18 = .ok (.invokestatic 95, 3) := dk_184 0 95 (dk_at dksJ14_copyOf_3_0 18 rfl rfl)
theorem dJ14_copyOf_3_21 : decode cJ14_copyOf_3 21 = .ok (.checkcast 110, 3) := dk_192 0 110 (dk_at dksJ14_copyOf_3_0 21 rfl rfl)
theorem dJ14_copyOf_3_24 : decode cJ14_copyOf_3 24 = .ok (.astore_n 3, 1) := dk_78 (dk_at dksJ14_copyOf_3_1 0 rfl rfl)
theorem dJ14_copyOf_3_25 : decode cJ14_copyOf_3 25 = .ok (.aload_n 0, 1) := dk_42 (dk_at dksJ14_copyOf_3_1 1 rfl rfl)
theorem dJ14_copyOf_3_26 : decode cJ14_copyOf_3 26 = .ok (.iconst 0, 1) := dk_3 (dk_at dksJ14_copyOf_3_1 2 rfl rfl)
theorem dJ14_copyOf_3_27 : decode cJ14_copyOf_3 27 = .ok (.aload_n 3, 1) := dk_45 (dk_at dksJ14_copyOf_3_1 3 rfl rfl)
theorem dJ14_copyOf_3_28 : decode cJ14_copyOf_3 28 = .ok (.iconst 0, 1) := dk_3 (dk_at dksJ14_copyOf_3_1 4 rfl rfl)
theorem dJ14_copyOf_3_29 : decode cJ14_copyOf_3 29 = .ok (.aload_n 0, 1) := dk_42 (dk_at dksJ14_copyOf_3_1 5 rfl rfl)
theorem dJ14_copyOf_3_30 : decode cJ14_copyOf_3 30 = .ok (.arraylength, 1) := dk_190 (dk_at dksJ14_copyOf_3_1 6 rfl rfl)
theorem dJ14_copyOf_3_31 : decode cJ14_copyOf_3 31 = .ok (.iload_n 1, 1) := dk_27 (dk_at dksJ14_copyOf_3_1 7 rfl rfl)
theorem dJ14_copyOf_3_32 : decode cJ14_copyOf_3 32 = .ok (.invokestatic 304, 3) := dk_184 1 48 (dk_at dksJ14_copyOf_3_1 8 rfl rfl)
theorem dJ14_copyOf_3_35 : decode cJ14_copyOf_3 35 = .ok (.invokestatic 150, 3) := dk_184 0 150 (dk_at dksJ14_copyOf_3_1 11 rfl rfl)
theorem dJ14_copyOf_3_38 : decode cJ14_copyOf_3 38 = .ok (.aload_n 3, 1) := dk_45 (dk_at dksJ14_copyOf_3_1 14 rfl rfl)
theorem dJ14_copyOf_3_39 : decode cJ14_copyOf_3 39 = .ok (.areturn, 1) := dk_176 (dk_at dksJ14_copyOf_3_1 15 rfl rfl)
theorem q78 : (Jvm.Cond.initialized "java/util/Arrays") ∈ lw_all := lw_g (lw_at lw_m1 22 rfl) rfl
theorem q538 : (Jvm.Cond.static ({ cls := "java/util/Arrays", name := "copyOf", desc := "([BI)[B" } : Jvm.MethodName)) ∈ lw_all := lw_g (lw_at lw_m3 2 rfl) rfl
theorem q539 : (Jvm.Cond.code ({ cls := "java/util/Arrays", name := "copyOf", desc := "([BI)[B" } : Jvm.MethodName) prog_44_method_121_code (3 : Nat) (Option.some (Jvm.ClassFile.FieldType.array Jvm.ClassFile.FieldType.byte))) ∈ lw_all := lw_g (lw_at lw_m3 3 rfl) rfl
theorem q540 : (Jvm.Cond.methodLink "java/util/Arrays" (310 : Nat) ({ cls := "[B", name := "clone", desc := "()Ljava/lang/Object;" } : Jvm.MethodName)) ∈ lw_all := lw_g (lw_at lw_m3 4 rfl) rfl
theorem q546 : (Jvm.Cond.classLink "java/util/Arrays" (311 : Nat) "[B") ∈ lw_all := lw_g (lw_at lw_m3 10 rfl) rfl
theorem q547 : (Jvm.Cond.methodLink "java/util/Arrays" (304 : Nat) ({ cls := "java/lang/Math", name := "min", desc := "(II)I" } : Jvm.MethodName)) ∈ lw_all := lw_g (lw_at lw_m3 11 rfl) rfl
theorem q550 : (Jvm.Cond.methodLink "java/util/Arrays" (150 : Nat) ({ cls := "java/lang/System", name := "arraycopy", desc := "(Ljava/lang/Object;ILjava/lang/Object;II)V" } : Jvm.MethodName)) ∈ lw_all := lw_g (lw_at lw_m3 14 rfl) rfl
theorem q631 : (Jvm.Cond.static ({ cls := "java/util/Arrays", name := "copyOfRange", desc := "([BII)[B" } : Jvm.MethodName)) ∈ lw_all := lw_g (lw_at lw_m3 95 rfl) rfl
theorem q632 : (Jvm.Cond.code ({ cls := "java/util/Arrays", name := "copyOfRange", desc := "([BII)[B" } : Jvm.MethodName) prog_44_method_132_code (3 : Nat) (Option.some (Jvm.ClassFile.FieldType.array Jvm.ClassFile.FieldType.byte))) ∈ lw_all := lw_g (lw_at lw_m3 96 rfl) rfl
theorem q633 : (Jvm.Cond.methodLink "java/util/Arrays" (339 : Nat) ({ cls := "java/util/Arrays", name := "copyOfRangeByte", desc := "([BII)[B" } : Jvm.MethodName)) ∈ lw_all := lw_g (lw_at lw_m3 97 rfl) rfl
theorem q634 : (Jvm.Cond.static ({ cls := "java/util/Arrays", name := "copyOfRangeByte", desc := "([BII)[B" } : Jvm.MethodName)) ∈ lw_all := lw_g (lw_at lw_m3 98 rfl) rfl
theorem q635 : (Jvm.Cond.code ({ cls := "java/util/Arrays", name := "copyOfRangeByte", desc := "([BII)[B" } : Jvm.MethodName) prog_44_method_133_code (5 : Nat) (Option.some (Jvm.ClassFile.FieldType.array Jvm.ClassFile.FieldType.byte))) ∈ lw_all := lw_g (lw_at lw_m3 99 rfl) rfl
theorem q636 : (Jvm.Cond.methodLink "java/util/Arrays" (343 : Nat) ({ cls := "java/util/Arrays", name := "checkLength", desc := "(II)V" } : Jvm.MethodName)) ∈ lw_all := lw_g (lw_at lw_m3 100 rfl) rfl
theorem q637 : (Jvm.Cond.static ({ cls := "java/util/Arrays", name := "checkLength", desc := "(II)V" } : Jvm.MethodName)) ∈ lw_all := lw_g (lw_at lw_m3 101 rfl) rfl
theorem q638 : (Jvm.Cond.code ({ cls := "java/util/Arrays", name := "checkLength", desc := "(II)V" } : Jvm.MethodName) prog_44_method_131_code (2 : Nat) (Option.none : Option Jvm.ClassFile.FieldType)) ∈ lw_all := lw_g (lw_at lw_m3 102 rfl) rfl
theorem q760 : (Jvm.Cond.static ({ cls := "java/util/Arrays", name := "copyOf", desc := "([Ljava/lang/Object;I)[Ljava/lang/Object;" } : Jvm.MethodName)) ∈ lw_all := lw_g (lw_at lw_m3 224 rfl) rfl
theorem q761 : (Jvm.Cond.code ({ cls := "java/util/Arrays", name := "copyOf", desc := "([Ljava/lang/Object;I)[Ljava/lang/Object;" } : Jvm.MethodName) prog_44_method_119_code (2 : Nat) (Option.some (Jvm.ClassFile.FieldType.array (Jvm.ClassFile.FieldType.object "java/lang/Object")))) ∈ lw_all := lw_g (lw_at lw_m3 225 rfl) rfl
theorem q762 : (Jvm.Cond.methodLink "java/util/Arrays" (86 : Nat) ({ cls := "java/lang/Object", name := "getClass", desc := "()Ljava/lang/Class;" } : Jvm.MethodName)) ∈ lw_all := lw_g (lw_at lw_m3 226 rfl) rfl
theorem q787 : (Jvm.Cond.methodLink "java/util/Arrays" (300 : Nat) ({ cls := "java/util/Arrays", name := "copyOf", desc := "([Ljava/lang/Object;ILjava/lang/Class;)[Ljava/lang/Object;" } : Jvm.MethodName)) ∈ lw_all := lw_g (lw_at lw_m4 11 rfl) rfl
theorem q788 : (Jvm.Cond.static ({ cls := "java/util/Arrays", name := "copyOf", desc := "([Ljava/lang/Object;ILjava/lang/Class;)[Ljava/lang/Object;" } : Jvm.MethodName)) ∈ lw_all := lw_g (lw_at lw_m4 12 rfl) rfl
theorem q789 : (Jvm.Cond.code ({ cls := "java/util/Arrays", name := "copyOf", desc := "([Ljava/lang/Object;ILjava/lang/Class;)[Ljava/lang/Object;" } : Jvm.MethodName) prog_44_method_120_code (4 : Nat) (Option.some (Jvm.ClassFile.FieldType.array (Jvm.ClassFile.FieldType.object "java/lang/Object")))) ∈ lw_all := lw_g (lw_at lw_m4 13 rfl) rfl
theorem q790 : (Jvm.Cond.classLink "java/util/Arrays" (110 : Nat) "[Ljava/lang/Object;") ∈ lw_all := lw_g (lw_at lw_m4 14 rfl) rfl
theorem q792 : (Jvm.Cond.classLink "java/util/Arrays" (2 : Nat) "java/lang/Object") ∈ lw_all := lw_g (lw_at lw_m4 16 rfl) rfl

/-! java/lang/StringLatin1 -/
set_option maxRecDepth 100000
def RJ15 : String := "java/lang/StringLatin1"
abbrev cJ15_canEncode : ByteArray := prog_35_method_3_code
def yJ15_canEncode : MethodName := ⟨RJ15, "canEncode", "(C)Z"⟩
def dkwJ15_canEncode_0 : List UInt8 := [26, 17, 0, 255, 163, 0, 7, 4, 167, 0, 4, 3, 172]
abbrev dktJ15_canEncode_0 : List UInt8 := dkwJ15_canEncode_0 ++ []
theorem dksJ15_canEncode_0 : cJ15_canEncode.data.toList.drop 0 = dktJ15_canEncode_0 := by decide +kernel
theorem dJ15_canEncode_0 : decode cJ15_canEncode 0 = .ok (.iload_n 0, 1) := dk_26 (dk_at dksJ15_canEncode_0 0 rfl rfl)
theorem dJ15_canEncode_1 : decode cJ15_canEncode 1 = .ok (.sipush 255, 3) := dk_17 0 255 (dk_at dksJ15_canEncode_0 1 rfl rfl)
theorem dJ15_canEncode_4 : decode cJ15_canEncode 4 = .ok (.if_icmp .gt 7, 3) := dk_163 0 7 (dk_at dksJ15_canEncode_0 4 rfl rfl)
theorem dJ15_canEncode_7 : decode cJ15_canEncode 7 = .ok (.iconst 1, 1) := dk_4 (dk_at dksJ15_canEncode_0 7 rfl rfl)
theorem dJ15_canEncode_8 : decode cJ15_canEncode 8 = .ok (.goto 4, 3) := dk_167 0 4 (dk_at dksJ15_canEncode_0 8 rfl rfl)
theorem dJ15_canEncode_11 : decode cJ15_canEncode 11 = .ok (.iconst 0, 1) := dk_3 (dk_at dksJ15_canEncode_0 11 rfl rfl)
theorem dJ15_canEncode_12 : decode cJ15_canEncode 12 = .ok (.ireturn, 1) := dk_172 (dk_at dksJ15_canEncode_0 12 rfl rfl)
abbrev cJ15_inflate : ByteArray := prog_35_method_50_code
def yJ15_inflate : MethodName := ⟨RJ15, "inflate", "([BI[BII)V"⟩
def dkwJ15_inflate_0 : List UInt8 := [42, 27, 44, 29, 21, 4, 184, 0, 240, 177]
abbrev dktJ15_inflate_0 : List UInt8 := dkwJ15_inflate_0 ++ []
theorem dksJ15_inflate_0 : cJ15_inflate.data.toList.drop 0 = dktJ15_inflate_0 := by decide +kernel
theorem dJ15_inflate_0 : decode cJ15_inflate 0 = .ok (.aload_n 0, 1) := dk_42 (dk_at dksJ15_inflate_0 0 rfl rfl)
theorem dJ15_inflate_1 : decode cJ15_inflate 1 = .ok (.iload_n 1, 1) := dk_27 (dk_at dksJ15_inflate_0 1 rfl rfl)
theorem dJ15_inflate_2 : decode cJ15_inflate 2 = .ok (.aload_n 2, 1) := dk_44 (dk_at dksJ15_inflate_0 2 rfl rfl)
theorem dJ15_inflate_3 : decode cJ15_inflate 3 = .ok (.iload_n 3, 1) := dk_29 (dk_at dksJ15_inflate_0 3 rfl rfl)
theorem dJ15_inflate_4 : decode cJ15_inflate 4 = .ok (.iload 4, 2) := dk_21 4 (dk_at dksJ15_inflate_0 4 rfl rfl)
theorem dJ15_inflate_6 : decode cJ15_inflate 6 = .ok (.invokestatic 240, 3) := dk_184 0 240 (dk_at dksJ15_inflate_0 6 rfl rfl)
theorem dJ15_inflate_9 : decode cJ15_inflate 9 = .ok (.return_, 1) := dk_177 (dk_at dksJ15_inflate_0 9 rfl rfl)
abbrev cJ15_equals : ByteArray := prog_35_method_13_code
def yJ15_equals : MethodName := ⟨RJ15, "equals", "([B[B)Z"⟩
def dkwJ15_equals_1 : List UInt8 := [3, 172, 132, 2, 1, 167, 255, 236, 4, 172, 3, 172]
abbrev dktJ15_equals_1 : List UInt8 := dkwJ15_equals_1 ++ []
def dkwJ15_equals_0 : List UInt8 := [42, 190, 43, 190, 160, 0, 30, 3, 61, 28, 42, 190, 162, 0, 20, 42, 28, 51, 43, 28, 51, 159, 0, 5]
abbrev dktJ15_equals_0 : List UInt8 := dkwJ15_equals_0 ++ dktJ15_equals_1
theorem dksJ15_equals_0 : cJ15_equals.data.toList.drop 0 = dktJ15_equals_0 := by decide +kernel
theorem dksJ15_equals_1 : cJ15_equals.data.toList.drop 24 = dktJ15_equals_1 := dk_seg dksJ15_equals_0 24 rfl rfl
theorem dJ15_equals_0 : decode cJ15_equals 0 = .ok (.aload_n 0, 1) := dk_42 (dk_at dksJ15_equals_0 0 rfl rfl)
theorem dJ15_equals_1 : decode cJ15_equals 1 = .ok (.arraylength, 1) := dk_190 (dk_at dksJ15_equals_0 1 rfl rfl)
theorem dJ15_equals_2 : decode cJ15_equals 2 = .ok (.aload_n 1, 1) := dk_43 (dk_at dksJ15_equals_0 2 rfl rfl)
theorem dJ15_equals_3 : decode cJ15_equals 3 = .ok (.arraylength, 1) := dk_190 (dk_at dksJ15_equals_0 3 rfl rfl)
theorem dJ15_equals_4 : decode cJ15_equals 4 = .ok (.if_icmp .ne 30, 3) := dk_160 0 30 (dk_at dksJ15_equals_0 4 rfl rfl)
theorem dJ15_equals_7 : decode cJ15_equals 7 = .ok (.iconst 0, 1) := dk_3 (dk_at dksJ15_equals_0 7 rfl rfl)
theorem dJ15_equals_8 : decode cJ15_equals 8 = .ok (.istore_n 2, 1) := dk_61 (dk_at dksJ15_equals_0 8 rfl rfl)
theorem dJ15_equals_9 : decode cJ15_equals 9 = .ok (.iload_n 2, 1) := dk_28 (dk_at dksJ15_equals_0 9 rfl rfl)
theorem dJ15_equals_10 : decode cJ15_equals 10 = .ok (.aload_n 0, 1) := dk_42 (dk_at dksJ15_equals_0 10 rfl rfl)
theorem dJ15_equals_11 : decode cJ15_equals 11 = .ok (.arraylength, 1) := dk_190 (dk_at dksJ15_equals_0 11 rfl rfl)
theorem dJ15_equals_12 : decode cJ15_equals 12 = .ok (.if_icmp .ge 20, 3) := dk_162 0 20 (dk_at dksJ15_equals_0 12 rfl rfl)
theorem dJ15_equals_15 : decode cJ15_equals 15 = .ok (.aload_n 0, 1) := dk_42 (dk_at dksJ15_equals_0 15 rfl rfl)
theorem dJ15_equals_16 : decode cJ15_equals 16 = .ok (.iload_n 2, 1) := dk_28 (dk_at dksJ15_equals_0 16 rfl rfl)
theorem dJ15_equals_17 : decode cJ15_equals 17 = .ok (.baload, 1) := dk_51 (dk_at dksJ15_equals_0 17 rfl rfl)
theorem dJ15_equals_18 : decode cJ15_equals 18 = .ok (.aload_n 1, 1) := dk_43 (dk_at dksJ15_equals_0 18 rfl rfl)
theorem dJ15_equals_19 : decode cJ15_equals 19 = .ok (.iload_n 2, 1) := dk_28 (dk_at dksJ15_equals_0 19 rfl rfl)
theorem dJ15_equals_20 : decode cJ15_equals 20 = .ok (.baload, 1) := dk_51 (dk_at dksJ15_equals_0 20 rfl rfl)
theorem dJ15_equals_21 : decode cJ15_equals 21 = .ok (.if_icmp .eq 5, 3) := dk_159 0 5 (dk_at dksJ15_equals_0 21 rfl rfl)
theorem dJ15_equals_24 : decode cJ15_equals 24 = .ok (.iconst 0, 1) := dk_3 (dk_at dksJ15_equals_1 0 rfl rfl)
theorem dJ15_equals_25 : decode cJ15_equals 25 = .ok (.ireturn, 1) := dk_172 (dk_at dksJ15_equals_1 1 rfl rfl)
theorem dJ15_equals_26 : decode cJ15_equals 26 = .ok (.iinc 2 1, 3) := dk_132 2 1 (dk_at dksJ15_equals_1 2 rfl rfl)
theorem dJ15_equals_29 : decode cJ15_equals 29 = .ok (.goto (-20), 3) := dk_167 255 236 (dk_at dksJ15_equals_1 5 rfl rfl)
theorem dJ15_equals_32 : decode cJ15_equals 32 = .ok (.iconst 1, 1) := dk_4 (dk_at dksJ15_equals_1 8 rfl rfl)
theorem dJ15_equals_33 : decode cJ15_equals 33 = .ok (.ireturn, 1) := dk_172 (dk_at dksJ15_equals_1 9 rfl rfl)
theorem dJ15_equals_34 : decode cJ15_equals 34 = .ok (.iconst 0, 1) := dk_3 (dk_at dksJ15_equals_1 10 rfl rfl)
theorem dJ15_equals_35 : decode cJ15_equals 35 = .ok (.ireturn, 1) := dk_172 (dk_at dksJ15_equals_1 11 rfl rfl)
theorem q79 : (Jvm.Cond.initialized "java/lang/StringLatin1") ∈ lw_all := lw_g (lw_at lw_m1 23 rfl) rfl
theorem q557 : (Jvm.Cond.static ({ cls := "java/lang/StringLatin1", name := "canEncode", desc := "(C)Z" } : Jvm.MethodName)) ∈ lw_all := lw_g (lw_at lw_m3 21 rfl) rfl
theorem q558 : (Jvm.Cond.code ({ cls := "java/lang/StringLatin1", name := "canEncode", desc := "(C)Z" } : Jvm.MethodName) prog_35_method_3_code (1 : Nat) (Option.some Jvm.ClassFile.FieldType.boolean)) ∈ lw_all := lw_g (lw_at lw_m3 22 rfl) rfl
theorem q564 : (Jvm.Cond.static ({ cls := "java/lang/StringLatin1", name := "inflate", desc := "([BI[BII)V" } : Jvm.MethodName)) ∈ lw_all := lw_g (lw_at lw_m3 28 rfl) rfl
theorem q565 : (Jvm.Cond.code ({ cls := "java/lang/StringLatin1", name := "inflate", desc := "([BI[BII)V" } : Jvm.MethodName) prog_35_method_50_code (5 : Nat) (Option.none : Option Jvm.ClassFile.FieldType)) ∈ lw_all := lw_g (lw_at lw_m3 29 rfl) rfl
theorem q566 : (Jvm.Cond.methodLink "java/lang/StringLatin1" (240 : Nat) ({ cls := "java/lang/StringUTF16", name := "inflate", desc := "([BI[BII)V" } : Jvm.MethodName)) ∈ lw_all := lw_g (lw_at lw_m3 30 rfl) rfl
theorem q669 : (Jvm.Cond.static ({ cls := "java/lang/StringLatin1", name := "equals", desc := "([B[B)Z" } : Jvm.MethodName)) ∈ lw_all := lw_g (lw_at lw_m3 133 rfl) rfl
theorem q670 : (Jvm.Cond.code ({ cls := "java/lang/StringLatin1", name := "equals", desc := "([B[B)Z" } : Jvm.MethodName) prog_35_method_13_code (3 : Nat) (Option.some Jvm.ClassFile.FieldType.boolean)) ∈ lw_all := lw_g (lw_at lw_m3 134 rfl) rfl

/-! jdk/internal/util/Preconditions -/
set_option maxRecDepth 100000
def RJ16 : String := "jdk/internal/util/Preconditions"
abbrev cJ16_checkFromIndexSize : ByteArray := prog_51_method_13_code
def yJ16_checkFromIndexSize : MethodName := ⟨RJ16, "checkFromIndexSize", "(IIILjava/util/function/BiFunction;)I"⟩
def dkwJ16_checkFromIndexSize_1 : List UInt8 := [172]
abbrev dktJ16_checkFromIndexSize_1 : List UInt8 := dkwJ16_checkFromIndexSize_1 ++ []
def dkwJ16_checkFromIndexSize_0 : List UInt8 := [28, 26, 128, 27, 128, 155, 0, 10, 27, 28, 26, 100, 164, 0, 11, 45, 26, 27, 28, 184, 0, 103, 191, 26]
abbrev dktJ16_checkFromIndexSize_0 : List UInt8 := dkwJ16_checkFromIndexSize_0 ++ dktJ16_checkFromIndexSize_1
theorem dksJ16_checkFromIndexSize_0 : cJ16_checkFromIndexSize.data.toList.drop 0 = dktJ16_checkFromIndexSize_0 := by decide +kernel
theorem dksJ16_checkFromIndexSize_1 : cJ16_checkFromIndexSize.data.toList.drop 24 = dktJ16_checkFromIndexSize_1 := dk_seg dksJ16_checkFromIndexSize_0 24 rfl rfl
theorem dJ16_checkFromIndexSize_0 : decode cJ16_checkFromIndexSize 0 = .ok (.iload_n 2, 1) := dk_28 (dk_at dksJ16_checkFromIndexSize_0 0 rfl rfl)
theorem dJ16_checkFromIndexSize_1 : decode cJ16_checkFromIndexSize 1 = .ok (.iload_n 0, 1) := dk_26 (dk_at dksJ16_checkFromIndexSize_0 1 rfl rfl)
theorem dJ16_checkFromIndexSize_2 : decode cJ16_checkFromIndexSize 2 = .ok (.ior, 1) := dk_128 (dk_at dksJ16_checkFromIndexSize_0 2 rfl rfl)
theorem dJ16_checkFromIndexSize_3 : decode cJ16_checkFromIndexSize 3 = .ok (.iload_n 1, 1) := dk_27 (dk_at dksJ16_checkFromIndexSize_0 3 rfl rfl)
theorem dJ16_checkFromIndexSize_4 : decode cJ16_checkFromIndexSize 4 = .ok (.ior, 1) := dk_128 (dk_at dksJ16_checkFromIndexSize_0 4 rfl rfl)
theorem dJ16_checkFromIndexSize_5 : decode cJ16_checkFromIndexSize 5 = .ok (.ifCond .lt 10, 3) := dk_155 0 10 (dk_at dksJ16_checkFromIndexSize_0 5 rfl rfl)
theorem dJ16_checkFromIndexSize_8 : decode cJ16_checkFromIndexSize 8 = .ok (.iload_n 1, 1) := dk_27 (dk_at dksJ16_checkFromIndexSize_0 8 rfl rfl)
theorem dJ16_checkFromIndexSize_9 : decode cJ16_checkFromIndexSize 9 = .ok (.iload_n 2, 1) := dk_28 (dk_at dksJ16_checkFromIndexSize_0 9 rfl rfl)
theorem dJ16_checkFromIndexSize_10 : decode cJ16_checkFromIndexSize 10 = .ok (.iload_n 0, 1) := dk_26 (dk_at dksJ16_checkFromIndexSize_0 10 rfl rfl)
theorem dJ16_checkFromIndexSize_11 : decode cJ16_checkFromIndexSize 11 = .ok (.isub, 1) := dk_100 (dk_at dksJ16_checkFromIndexSize_0 11 rfl rfl)
theorem dJ16_checkFromIndexSize_12 : decode cJ16_checkFromIndexSize 12 = .ok (.if_icmp .le 11, 3) := dk_164 0 11 (dk_at dksJ16_checkFromIndexSize_0 12 rfl rfl)
theorem dJ16_checkFromIndexSize_15 : decode cJ16_checkFromIndexSize 15 = .ok (.aload_n 3, 1) := dk_45 (dk_at dksJ16_checkFromIndexSize_0 15 rfl rfl)
theorem dJ16_checkFromIndexSize_16 : decode cJ16_checkFromIndexSize 16 = .ok (.iload_n 0, 1) := dk_26 (dk_at dksJ16_checkFromIndexSize_0 16 rfl rfl)
theorem dJ16_checkFromIndexSize_17 : decode cJ16_checkFromIndexSize 17 = .ok (.iload_n 1, 1) := dk_27 (dk_at dksJ16_checkFromIndexSize_0 17 rfl rfl)
theorem dJ16_checkFromIndexSize_18 : decode cJ16_checkFromIndexSize 18 = .ok (.iload_n 2, 1) := dk_28 (dk_at dksJ16_checkFromIndexSize_0 18 rfl rfl)
theorem dJ16_checkFromIndexSize_19 : decode cJ16_checkFromIndexSize 19 = .ok (.invokestatic 103, 3) := dk_184 0 103 (dk_at dksJ16_checkFromIndexSize_0 19 rfl rfl)
theorem dJ16_checkFromIndexSize_22 : decode cJ16_checkFromIndexSize 22 = .ok (.athrow, 1) := dk_191 (dk_at dksJ16_checkFromIndexSize_0 22 rfl rfl)
theorem dJ16_checkFromIndexSize_23 : decode cJ16_checkFromIndexSize 23 = .ok (.iload_n 0, 1) := dk_26 (dk_at dksJ16_checkFromIndexSize_0 23 rfl rfl)
theorem dJ16_checkFromIndexSize_24 : decode cJ16_checkFromIndexSize 24 = .ok (.ireturn, 1) := dk_172 (dk_at dksJ16_checkFromIndexSize_1 0 rfl rfl)
abbrev cJ16_checkIndex : ByteArray := prog_51_method_11_code
def yJ16_checkIndex : MethodName := ⟨RJ16, "checkIndex", "(IILjava/util/function/BiFunction;)I"⟩
def dkwJ16_checkIndex_0 : List UInt8 := [26, 155, 0, 8, 26, 27, 161, 0, 10, 44, 26, 27, 184, 0, 95, 191, 26, 172]
abbrev dktJ16_checkIndex_0 : List UInt8 := dkwJ16_checkIndex_0 ++ []
theorem dksJ16_checkIndex_0 : cJ16_checkIndex.data.toList.drop 0 = dktJ16_checkIndex_0 := by decide +kernel
theorem dJ16_checkIndex_0 : decode cJ16_checkIndex 0 = .ok (.iload_n 0, 1) := dk_26 (dk_at dksJ16_checkIndex_0 0 rfl rfl)
theorem dJ16_checkIndex_1 : decode cJ16_checkIndex 1 = .ok (.ifCond .lt 8, 3) := dk_155 0 8 (dk_at dksJ16_checkIndex_0 1 rfl rfl)
theorem dJ16_checkIndex_4 : decode cJ16_checkIndex 4 = .ok (.iload_n 0, 1) := dk_26 (dk_at dksJ16_checkIndex_0 4 rfl rfl)
theorem dJ16_checkIndex_5 : decode cJ16_checkIndex 5 = .ok (.iload_n 1, 1) := dk_27 (dk_at dksJ16_checkIndex_0 5 rfl rfl)
theorem dJ16_checkIndex_6 : decode cJ16_checkIndex 6 = .ok (.if_icmp .lt 10, 3) := dk_161 0 10 (dk_at dksJ16_checkIndex_0 6 rfl rfl)
theorem dJ16_checkIndex_9 : decode cJ16_checkIndex 9 = .ok (.aload_n 2, 1) := dk_44 (dk_at dksJ16_checkIndex_0 9 rfl rfl)
theorem dJ16_checkIndex_10 : decode cJ16_checkIndex 10 = .ok (.iload_n 0, 1) := dk_26 (dk_at dksJ16_checkIndex_0 10 rfl rfl)
theorem dJ16_checkIndex_11 : decode cJ16_checkIndex 11 = .ok (.iload_n 1, 1) := dk_27 (dk_at dksJ16_checkIndex_0 11 rfl rfl)
theorem dJ16_checkIndex_12 : decode cJ16_checkIndex 12 = .ok (.invokestatic 95, 3) := dk_184 0 95 (dk_at dksJ16_checkIndex_0 12 rfl rfl)
theorem dJ16_checkIndex_15 : decode cJ16_checkIndex 15 = .ok (.athrow, 1) := dk_191 (dk_at dksJ16_checkIndex_0 15 rfl rfl)
theorem dJ16_checkIndex_16 : decode cJ16_checkIndex 16 = .ok (.iload_n 0, 1) := dk_26 (dk_at dksJ16_checkIndex_0 16 rfl rfl)
theorem dJ16_checkIndex_17 : decode cJ16_checkIndex 17 = .ok (.ireturn, 1) := dk_172 (dk_at dksJ16_checkIndex_0 17 rfl rfl)
abbrev cJ16_checkFromToIndex : ByteArray := prog_51_method_12_code
def yJ16_checkFromToIndex : MethodName := ⟨RJ16, "checkFromToIndex", "(IIILjava/util/function/BiFunction;)I"⟩
def dkwJ16_checkFromToIndex_0 : List UInt8 := [26, 155, 0, 13, 26, 27, 163, 0, 8, 27, 28, 164, 0, 11, 45, 26, 27, 28, 184, 0, 99, 191, 26, 172]
abbrev dktJ16_checkFromToIndex_0 : List UInt8 := dkwJ16_checkFromToIndex_0 ++ []
theorem dksJ16_checkFromToIndex_0 : cJ16_checkFromToIndex.data.toList.drop 0 = dktJ16_checkFromToIndex_0 := by decide +kernel
theorem dJ16_checkFromToIndex_0 : decode cJ16_checkFromToIndex 0 = .ok (.iload_n 0, 1) := dk_26 (dk_at dksJ16_checkFromToIndex_0 0 rfl rfl)
theorem dJ16_checkFromToIndex_1 : decode cJ16_checkFromToIndex 1 = .ok (.ifCond .lt 13, 3) := dk_155 0 13 (dk_at dksJ16_checkFromToIndex_0 1 rfl rfl)
theorem dJ16_checkFromToIndex_4 : decode cJ16_checkFromToIndex 4 = .ok (.iload_n 0, 1) := dk_26 (dk_at dksJ16_checkFromToIndex_0 4 rfl rfl)
theorem dJ16_checkFromToIndex_5 : decode cJ16_checkFromToIndex 5 = .ok (.iload_n 1, 1) := dk_27 (dk_at dksJ16_checkFromToIndex_0 5 rfl rfl)
theorem dJ16_checkFromToIndex_6 : decode cJ16_checkFromToIndex 6 = .ok (.if_icmp .gt 8, 3) := dk_163 0 8 (dk_at dksJ16_checkFromToIndex_0 6 rfl rfl)
theorem dJ16_checkFromToIndex_9 : decode cJ16_checkFromToIndex 9 = .ok (.iload_n 1, 1) := dk_27 (dk_at dksJ16_checkFromToIndex_0 9 rfl rfl)
theorem dJ16_checkFromToIndex_10 : decode cJ16_checkFromToIndex 10 = .ok (.iload_n 2, 1) := dk_28 (dk_at dksJ16_checkFromToIndex_0 10 rfl rfl)
theorem dJ16_checkFromToIndex_11 : decode cJ16_checkFromToIndex 11 = .ok (.if_icmp .le 11, 3) := dk_164 0 11 (dk_at dksJ16_checkFromToIndex_0 11 rfl rfl)
theorem dJ16_checkFromToIndex_14 : decode cJ16_checkFromToIndex 14 = .ok (.aload_n 3, 1) := dk_45 (dk_at dksJ16_checkFromToIndex_0 14 rfl rfl)
theorem dJ16_checkFromToIndex_15 : decode cJ16_checkFromToIndex 15 = .ok (.iload_n 0, 1) := dk_26 (dk_at dksJ16_checkFromToIndex_0 15 rfl rfl)
theorem dJ16_checkFromToIndex_16 : decode cJ16_checkFromToIndex 16 = .ok (.iload_n 1, 1) := dk_27 (dk_at dksJ16_checkFromToIndex_0 16 rfl rfl)
theorem dJ16_checkFromToIndex_17 : decode cJ16_checkFromToIndex 17 = .ok (.iload_n 2, 1) := dk_28 (dk_at dksJ16_checkFromToIndex_0 17 rfl rfl)
theorem dJ16_checkFromToIndex_18 : decode cJ16_checkFromToIndex 18 = .ok (.invokestatic 99, 3) := dk_184 0 99 (dk_at dksJ16_checkFromToIndex_0 18 rfl rfl)
theorem dJ16_checkFromToIndex_21 : decode cJ16_checkFromToIndex 21 = .ok (.athrow, 1) := dk_191 (dk_at dksJ16_checkFromToIndex_0 21 rfl rfl)
theorem dJ16_checkFromToIndex_22 : decode cJ16_checkFromToIndex 22 = .ok (.iload_n 0, 1) := dk_26 (dk_at dksJ16_checkFromToIndex_0 22 rfl rfl)
theorem dJ16_checkFromToIndex_23 : decode cJ16_checkFromToIndex 23 = .ok (.ireturn, 1) := dk_172 (dk_at dksJ16_checkFromToIndex_0 23 rfl rfl)
theorem q80 : (Jvm.Cond.initialized "jdk/internal/util/Preconditions") ∈ lw_all := lw_g (lw_at lw_m1 24 rfl) rfl
theorem q579 : (Jvm.Cond.laysStatic "jdk/internal/util/Preconditions" "SIOOBE_FORMATTER" "Ljava/util/function/BiFunction;") ∈ lw_tbl := lw_at lw_m3 43 rfl
theorem q581 : (Jvm.Cond.static ({ cls := "jdk/internal/util/Preconditions", name := "checkFromIndexSize", desc := "(IIILjava/util/function/BiFunction;)I" } : Jvm.MethodName)) ∈ lw_all := lw_g (lw_at lw_m3 45 rfl) rfl
theorem q582 : (Jvm.Cond.code ({ cls := "jdk/internal/util/Preconditions", name := "checkFromIndexSize", desc := "(IIILjava/util/function/BiFunction;)I" } : Jvm.MethodName) prog_51_method_13_code (4 : Nat) (Option.some Jvm.ClassFile.FieldType.int)) ∈ lw_all := lw_g (lw_at lw_m3 46 rfl) rfl
theorem q602 : (Jvm.Cond.static ({ cls := "jdk/internal/util/Preconditions", name := "checkIndex", desc := "(IILjava/util/function/BiFunction;)I" } : Jvm.MethodName)) ∈ lw_all := lw_g (lw_at lw_m3 66 rfl) rfl
theorem q603 : (Jvm.Cond.code ({ cls := "jdk/internal/util/Preconditions", name := "checkIndex", desc := "(IILjava/util/function/BiFunction;)I" } : Jvm.MethodName) prog_51_method_11_code (3 : Nat) (Option.some Jvm.ClassFile.FieldType.int)) ∈ lw_all := lw_g (lw_at lw_m3 67 rfl) rfl
theorem q958 : (Jvm.Cond.static ({ cls := "jdk/internal/util/Preconditions", name := "checkFromToIndex", desc := "(IIILjava/util/function/BiFunction;)I" } : Jvm.MethodName)) ∈ lw_all := lw_g (lw_at lw_m4 182 rfl) rfl
theorem q959 : (Jvm.Cond.code ({ cls := "jdk/internal/util/Preconditions", name := "checkFromToIndex", desc := "(IIILjava/util/function/BiFunction;)I" } : Jvm.MethodName) prog_51_method_12_code (4 : Nat) (Option.some Jvm.ClassFile.FieldType.int)) ∈ lw_all := lw_g (lw_at lw_m4 183 rfl) rfl

/-! java/util/Objects -/
set_option maxRecDepth 100000
def RJ17 : String := "java/util/Objects"
abbrev cJ17_checkIndex : ByteArray := prog_47_method_17_code
def yJ17_checkIndex : MethodName := ⟨RJ17, "checkIndex", "(II)I"⟩
def dkwJ17_checkIndex_0 : List UInt8 := [26, 27, 1, 184, 0, 105, 172]
abbrev dktJ17_checkIndex_0 : List UInt8 := dkwJ17_checkIndex_0 ++ []
theorem dksJ17_checkIndex_0 : cJ17_checkIndex.data.toList.drop 0 = dktJ17_checkIndex_0 := by decide +kernel
theorem dJ17_checkIndex_0 : decode cJ17_checkIndex 0 = .ok (.iload_n 0, 1) := dk_26 (dk_at dksJ17_checkIndex_0 0 rfl rfl)
theorem dJ17_checkIndex_1 : decode cJ17_checkIndex 1 = .ok (.iload_n 1, 1) := dk_27 (dk_at dksJ17_checkIndex_0 1 rfl rfl)
theorem dJ17_checkIndex_2 : decode cJ17_checkIndex 2 = .ok (.aconst_null, 1) := dk_1 (dk_at dksJ17_checkIndex_0 2 rfl rfl)
theorem dJ17_checkIndex_3 : decode cJ17_checkIndex 3 = .ok (.invokestatic 105, 3) := dk_184 0 105 (dk_at dksJ17_checkIndex_0 3 rfl rfl)
theorem dJ17_checkIndex_6 : decode cJ17_checkIndex 6 = .ok (.ireturn, 1) := dk_172 (dk_at dksJ17_checkIndex_0 6 rfl rfl)
theorem q83 : (Jvm.Cond.initialized "java/util/Objects") ∈ lw_all := lw_g (lw_at lw_m1 27 rfl) rfl
theorem q806 : (Jvm.Cond.static ({ cls := "java/util/Objects", name := "checkIndex", desc := "(II)I" } : Jvm.MethodName)) ∈ lw_all := lw_g (lw_at lw_m4 30 rfl) rfl
theorem q807 : (Jvm.Cond.code ({ cls := "java/util/Objects", name := "checkIndex", desc := "(II)I" } : Jvm.MethodName) prog_47_method_17_code (2 : Nat) (Option.some Jvm.ClassFile.FieldType.int)) ∈ lw_all := lw_g (lw_at lw_m4 31 rfl) rfl
theorem q808 : (Jvm.Cond.methodLink "java/util/Objects" (105 : Nat) ({ cls := "jdk/internal/util/Preconditions", name := "checkIndex", desc := "(IILjava/util/function/BiFunction;)I" } : Jvm.MethodName)) ∈ lw_all := lw_g (lw_at lw_m4 32 rfl) rfl

/-! java/lang/Integer -/
set_option maxRecDepth 100000
def RJ18 : String := "java/lang/Integer"
abbrev cJ18_stringSize : ByteArray := prog_28_method_13_code
def yJ18_stringSize : MethodName := ⟨RJ18, "stringSize", "(I)I"⟩
def dkwJ18_stringSize_1 : List UInt8 := [164, 0, 7, 29, 27, 96, 172, 16, 10, 28, 104, 61, 132, 3, 1, 167, 255, 233, 16, 10, 27, 96, 172]
abbrev dktJ18_stringSize_1 : List UInt8 := dkwJ18_stringSize_1 ++ []
def dkwJ18_stringSize_0 : List UInt8 := [4, 60, 26, 155, 0, 8, 3, 60, 26, 116, 59, 16, 246, 61, 4, 62, 29, 16, 10, 162, 0, 23, 26, 28]
abbrev dktJ18_stringSize_0 : List UInt8 := dkwJ18_stringSize_0 ++ dktJ18_stringSize_1
theorem dksJ18_stringSize_0 : cJ18_stringSize.data.toList.drop 0 = dktJ18_stringSize_0 := by decide +kernel
theorem dksJ18_stringSize_1 : cJ18_stringSize.data.toList.drop 24 = dktJ18_stringSize_1 := dk_seg dksJ18_stringSize_0 24 rfl rfl
theorem dJ18_stringSize_0 : decode cJ18_stringSize 0 = .ok (.iconst 1, 1) := dk_4 (dk_at dksJ18_stringSize_0 0 rfl rfl)
theorem dJ18_stringSize_1 : decode cJ18_stringSize 1 = .ok (.istore_n 1, 1) := dk_60 (dk_at dksJ18_stringSize_0 1 rfl rfl)
theorem dJ18_stringSize_2 : decode cJ18_stringSize 2 = .ok (.iload_n 0, 1) := dk_26 (dk_at dksJ18_stringSize_0 2 rfl rfl)
theorem dJ18_stringSize_3 : decode cJ18_stringSize 3 = .ok (.ifCond .lt 8, 3) := dk_155 0 8 (dk_at dksJ18_stringSize_0 3 rfl rfl)
theorem dJ18_stringSize_6 : decode cJ18_stringSize 6 = .ok (.iconst 0, 1) := dk_3 (dk_at dksJ18_stringSize_0 6 rfl rfl)
theorem dJ18_stringSize_7 : decode cJ18_stringSize 7 = .ok (.istore_n 1, 1) := dk_60 (dk_at dksJ18_stringSize_0 7 rfl rfl)
theorem dJ18_stringSize_8 : decode cJ18_stringSize 8 = .ok (.iload_n 0, 1) := dk_26 (dk_at dksJ18_stringSize_0 8 rfl rfl)
theorem dJ18_stringSize_9 : decode cJ18_stringSize 9 = .ok (.ineg, 1) := dk_116 (dk_at dksJ18_stringSize_0 9 rfl rfl)
theorem dJ18_stringSize_10 : decode cJ18_stringSize 10 = .ok (.istore_n 0, 1) := dk_59 (dk_at dksJ18_stringSize_0 10 rfl rfl)
theorem dJ18_stringSize_11 : decode cJ18_stringSize 11 = .ok (.bipush (-10), 2) := dk_16 246 (dk_at dksJ18_stringSize_0 11 rfl rfl)
theorem dJ18_stringSize_13 : decode cJ18_stringSize 13 = .ok (.istore_n 2, 1) := dk_61 (dk_at dksJ18_stringSize_0 13 rfl rfl)
theorem dJ18_stringSize_14 : decode cJ18_stringSize 14 = .ok (.iconst 1, 1) := dk_4 (dk_at dksJ18_stringSize_0 14 rfl rfl)
theorem dJ18_stringSize_15 : decode cJ18_stringSize 15 = .ok (.istore_n 3, 1) := dk_62 (dk_at dksJ18_stringSize_0 15 rfl rfl)
theorem dJ18_stringSize_16 : decode cJ18_stringSize 16 = .ok (.iload_n 3, 1) := dk_29 (dk_at dksJ18_stringSize_0 16 rfl rfl)
theorem dJ18_stringSize_17 : decode cJ18_stringSize 17 = .ok (.bipush 10, 2) := dk_16 10 (dk_at dksJ18_stringSize_0 17 rfl rfl)
theorem dJ18_stringSize_19 : decode cJ18_stringSize 19 = .ok (.if_icmp .ge 23, 3) := dk_162 0 23 (dk_at dksJ18_stringSize_0 19 rfl rfl)
theorem dJ18_stringSize_22 : decode cJ18_stringSize 22 = .ok (.iload_n 0, 1) := dk_26 (dk_at dksJ18_stringSize_0 22 rfl rfl)
theorem dJ18_stringSize_23 : decode cJ18_stringSize 23 = .ok (.iload_n 2, 1) := dk_28 (dk_at dksJ18_stringSize_0 23 rfl rfl)
theorem dJ18_stringSize_24 : decode cJ18_stringSize 24 = .ok (.if_icmp .le 7, 3) := dk_164 0 7 (dk_at dksJ18_stringSize_1 0 rfl rfl)
theorem dJ18_stringSize_27 : decode cJ18_stringSize 27 = .ok (.iload_n 3, 1) := dk_29 (dk_at dksJ18_stringSize_1 3 rfl rfl)
theorem dJ18_stringSize_28 : decode cJ18_stringSize 28 = .ok (.iload_n 1, 1) := dk_27 (dk_at dksJ18_stringSize_1 4 rfl rfl)
theorem dJ18_stringSize_29 : decode cJ18_stringSize 29 = .ok (.iadd, 1) := dk_96 (dk_at dksJ18_stringSize_1 5 rfl rfl)
theorem dJ18_stringSize_30 : decode cJ18_stringSize 30 = .ok (.ireturn, 1) := dk_172 (dk_at dksJ18_stringSize_1 6 rfl rfl)
theorem dJ18_stringSize_31 : decode cJ18_stringSize 31 = .ok (.bipush 10, 2) := dk_16 10 (dk_at dksJ18_stringSize_1 7 rfl rfl)
theorem dJ18_stringSize_33 : decode cJ18_stringSize 33 = .ok (.iload_n 2, 1) := dk_28 (dk_at dksJ18_stringSize_1 9 rfl rfl)
theorem dJ18_stringSize_34 : decode cJ18_stringSize 34 = .ok (.imul, 1) := dk_104 (dk_at dksJ18_stringSize_1 10 rfl rfl)
theorem dJ18_stringSize_35 : decode cJ18_stringSize 35 = .ok (.istore_n 2, 1) := dk_61 (dk_at dksJ18_stringSize_1 11 rfl rfl)
theorem dJ18_stringSize_36 : decode cJ18_stringSize 36 = .ok (.iinc 3 1, 3) := dk_132 3 1 (dk_at dksJ18_stringSize_1 12 rfl rfl)
theorem dJ18_stringSize_39 : decode cJ18_stringSize 39 = .ok (.goto (-23), 3) := dk_167 255 233 (dk_at dksJ18_stringSize_1 15 rfl rfl)
theorem dJ18_stringSize_42 : decode cJ18_stringSize 42 = .ok (.bipush 10, 2) := dk_16 10 (dk_at dksJ18_stringSize_1 18 rfl rfl)
theorem dJ18_stringSize_44 : decode cJ18_stringSize 44 = .ok (.iload_n 1, 1) := dk_27 (dk_at dksJ18_stringSize_1 20 rfl rfl)
theorem dJ18_stringSize_45 : decode cJ18_stringSize 45 = .ok (.iadd, 1) := dk_96 (dk_at dksJ18_stringSize_1 21 rfl rfl)
theorem dJ18_stringSize_46 : decode cJ18_stringSize 46 = .ok (.ireturn, 1) := dk_172 (dk_at dksJ18_stringSize_1 22 rfl rfl)
abbrev cJ18_getChars : ByteArray := prog_28_method_12_code
def yJ18_getChars : MethodName := ⟨RJ18, "getChars", "(II[B)I"⟩
def dkwJ18_getChars_5 : List UInt8 := [16, 45, 84, 21, 5, 172]
abbrev dktJ18_getChars_5 : List UInt8 := dkwJ18_getChars_5 ++ []
def dkwJ18_getChars_4 : List UInt8 := [132, 5, 255, 21, 5, 178, 0, 87, 26, 116, 51, 84, 21, 6, 153, 0, 12, 44, 132, 5, 255, 21, 5]
abbrev dktJ18_getChars_4 : List UInt8 := dkwJ18_getChars_4 ++ dktJ18_getChars_5
def dkwJ18_getChars_3 : List UInt8 := [167, 255, 209, 44, 132, 5, 255, 21, 5, 178, 0, 83, 26, 116, 51, 84, 26, 16, 247, 162, 0, 16, 44]
abbrev dktJ18_getChars_3 : List UInt8 := dkwJ18_getChars_3 ++ dktJ18_getChars_4
def dkwJ18_getChars_2 : List UInt8 := [21, 5, 178, 0, 83, 21, 4, 51, 84, 44, 132, 5, 255, 21, 5, 178, 0, 87, 21, 4, 51, 84]
abbrev dktJ18_getChars_2 : List UInt8 := dkwJ18_getChars_2 ++ dktJ18_getChars_3
def dkwJ18_getChars_1 : List UInt8 := [16, 156, 163, 0, 47, 26, 16, 100, 108, 62, 29, 16, 100, 104, 26, 100, 54, 4, 29, 59, 44, 132, 5, 255]
abbrev dktJ18_getChars_1 : List UInt8 := dkwJ18_getChars_1 ++ dktJ18_getChars_2
def dkwJ18_getChars_0 : List UInt8 := [27, 54, 5, 26, 156, 0, 7, 4, 167, 0, 4, 3, 54, 6, 21, 6, 154, 0, 6, 26, 116, 59, 26]
abbrev dktJ18_getChars_0 : List UInt8 := dkwJ18_getChars_0 ++ dktJ18_getChars_1
theorem dksJ18_getChars_0 : cJ18_getChars.data.toList.drop 0 = dktJ18_getChars_0 := by decide +kernel
theorem dksJ18_getChars_1 : cJ18_getChars.data.toList.drop 23 = dktJ18_getChars_1 := dk_seg dksJ18_getChars_0 23 rfl rfl
theorem dksJ18_getChars_2 : cJ18_getChars.data.toList.drop 47 = dktJ18_getChars_2 := dk_seg dksJ18_getChars_1 24 rfl rfl
theorem dksJ18_getChars_3 : cJ18_getChars.data.toList.drop 69 = dktJ18_getChars_3 := dk_seg dksJ18_getChars_2 22 rfl rfl
theorem dksJ18_getChars_4 : cJ18_getChars.data.toList.drop 92 = dktJ18_getChars_4 := dk_seg dksJ18_getChars_3 23 rfl rfl
theorem dksJ18_getChars_5 : cJ18_getChars.data.toList.drop 115 = dktJ18_getChars_5 := dk_seg dksJ18_getChars_4 23 rfl rfl
theorem dJ18_getChars_0 : decode cJ18_getChars 0 = .ok (.iload_n 1, 1) := dk_27 (dk_at dksJ18_getChars_0 0 rfl rfl)
theorem dJ18_getChars_1 : decode cJ18_getChars 1 = .ok (.istore 5, 2) := dk_54 5 (dk_at dksJ18_getChars_0 1 rfl rfl)
theorem dJ18_getChars_3 : decode cJ18_getChars 3 = .ok (.iload_n 0, 1) := dk_26 (dk_at dksJ18_getChars_0 3 rfl rfl)
theorem dJ18_getChars_4 : decode cJ18_getChars 4 = .ok (.ifCond .ge 7, 3) := dk_156 0 7 (dk_at dksJ18_getChars_0 4 rfl rfl)
theorem dJ18_getChars_7 : decode cJ18_getChars 7 = .ok (.iconst 1, 1) := dk_4 (dk_at dksJ18_getChars_0 7 rfl rfl)
theorem dJ18_getChars_8 : decode cJ18_getChars 8 = .ok (.goto 4, 3) := dk_167 0 4 (dk_at dksJ18_getChars_0 8 rfl rfl)
theorem dJ18_getChars_11 : decode cJ18_getChars 11 = .ok (.iconst 0, 1) := dk_3 (dk_at dksJ18_getChars_0 11 rfl rfl)
theorem dJ18_getChars_12 : decode cJ18_getChars 12 = .ok (.istore 6, 2) := dk_54 6 (dk_at dksJ18_getChars_0 12 rfl rfl)
theorem dJ18_getChars_14 : decode cJ18_getChars 14 = .ok (.iload 6, 2) := dk_21 6 (dk_at dksJ18_getChars_0 14 rfl rfl)
theorem dJ18_getChars_16 : decode cJ18_getChars 16 = .ok (.ifCond .ne 6, 3) := dk_154 0 6 (dk_at dksJ18_getChars_0 16 rfl rfl)
theorem dJ18_getChars_19 : decode cJ18_getChars 19 = .ok (.iload_n 0, 1) := dk_26 (dk_at dksJ18_getChars_0 19 rfl rfl)
theorem dJ18_getChars_20 : decode cJ18_getChars 20 = .ok (.ineg, 1) := dk_116 (dk_at dksJ18_getChars_0 20 rfl rfl)
theorem dJ18_getChars_21 : decode cJ18_getChars 21 = .ok (.istore_n 0, 1) := dk_59 (dk_at dksJ18_getChars_0 21 rfl rfl)
theorem dJ18_getChars_22 : decode cJ18_getChars 22 = .ok (.iload_n 0, 1) := dk_26 (dk_at dksJ18_getChars_0 22 rfl rfl)
theorem dJ18_getChars_23 : decode cJ18_getChars 23 = .ok (.bipush (-100), 2) := dk_16 156 (dk_at dksJ18_getChars_1 0 rfl rfl)
theorem dJ18_getChars_25 : decode cJ18_getChars 25 = .ok (.if_icmp .gt 47, 3) := dk_163 0 47 (dk_at dksJ18_getChars_1 2 rfl rfl)
theorem dJ18_getChars_28 : decode cJ18_getChars 28 = .ok (.iload_n 0, 1) := dk_26 (dk_at dksJ18_getChars_1 5 rfl rfl)
theorem dJ18_getChars_29 : decode cJ18_getChars 29 = .ok (.bipush 100, 2) := dk_16 100 (dk_at dksJ18_getChars_1 6 rfl rfl)
theorem dJ18_getChars_31 : decode cJ18_getChars 31 = .ok (.idiv, 1) := dk_108 (dk_at dksJ18_getChars_1 8 rfl rfl)
theorem dJ18_getChars_32 : decode cJ18_getChars 32 = .ok (.istore_n 3, 1) := dk_62 (dk_at dksJ18_getChars_1 9 rfl rfl)
theorem dJ18_getChars_33 : decode cJ18_getChars 33 = .ok (.iload_n 3, 1) := dk_29 (dk_at dksJ18_getChars_1 10 rfl rfl)
theorem dJ18_getChars_34 : decode cJ18_getChars 34 = .ok (.bipush 100, 2) := dk_16 100 (dk_at dksJ18_getChars_1 11 rfl rfl)
theorem dJ18_getChars_36 : decode cJ18_getChars 36 = .ok (.imul, 1) := dk_104 (dk_at dksJ18_getChars_1 13 rfl rfl)
theorem dJ18_getChars_37 : decode cJ18_getChars 37 = .ok (.iload_n 0, 1) := dk_26 (dk_at dksJ18_getChars_1 14 rfl rfl)
theorem dJ18_getChars_38 : decode cJ18_getChars 38 = .ok (.isub, 1) := dk_100 (dk_at dksJ18_getChars_1 15 rfl rfl)
theorem dJ18_getChars_39 : decode cJ18_getChars 39 = .ok (.istore 4, 2) := dk_54 4 (dk_at dksJ18_getChars_1 16 rfl rfl)
theorem dJ18_getChars_41 : decode cJ18_getChars 41 = .ok (.iload_n 3, 1) := dk_29 (dk_at dksJ18_getChars_1 18 rfl rfl)
theorem dJ18_getChars_42 : decode cJ18_getChars 42 = .ok (.istore_n 0, 1) := dk_59 (dk_at dksJ18_getChars_1 19 rfl rfl)
theorem dJ18_getChars_43 : decode cJ18_getChars 43 = .ok (.aload_n 2, 1) := dk_44 (dk_at dksJ18_getChars_1 20 rfl rfl)
theorem dJ18_getChars_44 : decode cJ18_getChars 44 = .ok (.iinc 5 (-1), 3) := dk_132 5 255 (dk_at dksJ18_getChars_1 21 rfl rfl)
theorem dJ18_getChars_47 : decode cJ18_getChars 47 = .ok (.iload 5, 2) := dk_21 5 (dk_at dksJ18_getChars_2 0 rfl rfl)
theorem dJ18_getChars_49 : decode cJ18_getChars 49 = .ok (.getstatic 83, 3) := dk_178 0 83 (dk_at dksJ18_getChars_2 2 rfl rfl)
theorem dJ18_getChars_52 : decode cJ18_getChars 52 = .ok (.iload 4, 2) := dk_21 4 (dk_at dksJ18_getChars_2 5 rfl rfl)
theorem dJ18_getChars_54 : decode cJ18_getChars 54 = .ok (.baload, 1) := dk_51 (dk_at dksJ18_getChars_2 7 rfl rfl)
theorem dJ18_getChars_55 : decode cJ18_getChars 55 = .ok (.bastore, 1) := dk_84 (dk_at dksJ18_getChars_2 8 rfl rfl)
theorem dJ18_getChars_56 : decode cJ18_getChars 56 = .ok (.aload_n 2, 1) := dk_44 (dk_at dksJ18_getChars_2 9 rfl rfl)
theorem dJ18_getChars_57 : decode cJ18_getChars 57 = .ok (.iinc 5 (-1), 3) := dk_132 5 255 (dk_at dksJ18_getChars_2 10 rfl rfl)
theorem dJ18_getChars_60 : decode cJ18_getChars 60 = .ok (.iload 5, 2) := dk_21 5 (dk_at dksJ18_getChars_2 13 rfl rfl)
theorem dJ18_getChars_62 : decode cJ18_getChars 62 = .ok (.getstatic 87, 3) := dk_178 0 87 (dk_at dksJ18_getChars_2 15 rfl rfl)
theorem dJ18_getChars_65 : decode cJ18_getChars 65 = .ok (.iload 4, 2) := dk_21 4 (dk_at dksJ18_getChars_2 18 rfl rfl)
theorem dJ18_getChars_67 : decode cJ18_getChars 67 = .ok (.baload, 1) := dk_51 (dk_at dksJ18_getChars_2 20 rfl rfl)
theorem dJ18_getChars_68 : decode cJ18_getChars 68 = .ok (.bastore, 1) := dk_84 (dk_at dksJ18_getChars_2 21 rfl rfl)
theorem dJ18_getChars_69 : decode cJ18_getChars 69 = .ok (.goto (-47), 3) := dk_167 255 209 (dk_at dksJ18_getChars_3 0 rfl rfl)
theorem dJ18_getChars_72 : decode cJ18_getChars 72 = .ok (.aload_n 2, 1) := dk_44 (dk_at dksJ18_getChars_3 3 rfl rfl)
theorem dJ18_getChars_73 : decode cJ18_getChars 73 = .ok (.iinc 5 (-1), 3) := dk_132 5 255 (dk_at dksJ18_getChars_3 4 rfl rfl)
theorem dJ18_getChars_76 : decode cJ18_getChars 76 = .ok (.iload 5, 2) := dk_21 5 (dk_at dksJ18_getChars_3 7 rfl rfl)
theorem dJ18_getChars_78 : decode cJ18_getChars 78 = .ok (.getstatic 83, 3) := dk_178 0 83 (dk_at dksJ18_getChars_3 9 rfl rfl)
theorem dJ18_getChars_81 : decode cJ18_getChars 81 = .ok (.iload_n 0, 1) := dk_26 (dk_at dksJ18_getChars_3 12 rfl rfl)
theorem dJ18_getChars_82 : decode cJ18_getChars 82 = .ok (.ineg, 1) := dk_116 (dk_at dksJ18_getChars_3 13 rfl rfl)
theorem dJ18_getChars_83 : decode cJ18_getChars 83 = .ok (.baload, 1) := dk_51 (dk_at dksJ18_getChars_3 14 rfl rfl)
theorem dJ18_getChars_84 : decode cJ18_getChars 84 = .ok (.bastore, 1) := dk_84 (dk_at dksJ18_getChars_3 15 rfl rfl)
theorem dJ18_getChars_85 : decode cJ18_getChars 85 = .ok (.iload_n 0, 1) := dk_26 (dk_at dksJ18_getChars_3 16 rfl rfl)
theorem dJ18_getChars_86 : decode cJ18_getChars 86 = .ok (.bipush (-9), 2) := dk_16 247 (dk_at dksJ18_getChars_3 17 rfl rfl)
theorem dJ18_getChars_88 : decode cJ18_getChars 88 = .ok (.if_icmp .ge 16, 3) := dk_162 0 16 (dk_at dksJ18_getChars_3 19 rfl rfl)
theorem dJ18_getChars_91 : decode cJ18_getChars 91 = .ok (.aload_n 2, 1) := dk_44 (dk_at dksJ18_getChars_3 22 rfl rfl)
theorem dJ18_getChars_92 : decode cJ18_getChars 92 = .ok (.iinc 5 (-1), 3) := dk_132 5 255 (dk_at dksJ18_getChars_4 0 rfl rfl)
theorem dJ18_getChars_95 : decode cJ18_getChars 95 = .ok (.iload 5, 2) := dk_21 5 (dk_at dksJ18_getChars_4 3 rfl rfl)
theorem dJ18_getChars_97 : decode cJ18_getChars 97 = .ok (.getstatic 87, 3) := dk_178 0 87 (dk_at dksJ18_getChars_4 5 rfl rfl)
theorem dJ18_getChars_100 : decode cJ18_getChars 100 = .ok (.iload_n 0, 1) := dk_26 (dk_at dksJ18_getChars_4 8 rfl rfl)
theorem dJ18_getChars_101 : decode cJ18_getChars 101 = .ok (.ineg, 1) := dk_116 (dk_at dksJ18_getChars_4 9 rfl rfl)
theorem dJ18_getChars_102 : decode cJ18_getChars 102 = .ok (.baload, 1) := dk_51 (dk_at dksJ18_getChars_4 10 rfl rfl)
theorem dJ18_getChars_103 : decode cJ18_getChars 103 = .ok (.bastore, 1) := dk_84 (dk_at dksJ18_getChars_4 11 rfl rfl)
theorem dJ18_getChars_104 : decode cJ18_getChars 104 = .ok (.iload 6, 2) := dk_21 6 (dk_at dksJ18_getChars_4 12 rfl rfl)
theorem dJ18_getChars_106 : decode cJ18_getChars 106 = .ok (.ifCond .eq 12, 3) := dk_153 0 12 (dk_at dksJ18_getChars_4 14 rfl rfl)
theorem dJ18_getChars_109 : decode cJ18_getChars 109 = .ok (.aload_n 2, 1) := dk_44 (dk_at dksJ18_getChars_4 17 rfl rfl)
theorem dJ18_getChars_110 : decode cJ18_getChars 110 = .ok (.iinc 5 (-1), 3) := dk_132 5 255 (dk_at dksJ18_getChars_4 18 rfl rfl)
theorem dJ18_getChars_113 : decode cJ18_getChars 113 = .ok (.iload 5, 2) := dk_21 5 (dk_at dksJ18_getChars_4 21 rfl rfl)
theorem dJ18_getChars_115 : decode cJ18_getChars 115 = .ok (.bipush 45, 2) := dk_16 45 (dk_at dksJ18_getChars_5 0 rfl rfl)
theorem dJ18_getChars_117 : decode cJ18_getChars 117 = .ok (.bastore, 1) := dk_84 (dk_at dksJ18_getChars_5 2 rfl rfl)
theorem dJ18_getChars_118 : decode cJ18_getChars 118 = .ok (.iload 5, 2) := dk_21 5 (dk_at dksJ18_getChars_5 3 rfl rfl)
theorem dJ18_getChars_120 : decode cJ18_getChars 120 = .ok (.ireturn, 1) := dk_172 (dk_at dksJ18_getChars_5 5 rfl rfl)
abbrev cJ18_bitCount : ByteArray := prog_28_method_49_code
def yJ18_bitCount : MethodName := ⟨RJ18, "bitCount", "(I)I"⟩
def dkwJ18_bitCount_2 : List UInt8 := [26, 16, 63, 126, 172]
abbrev dktJ18_bitCount_2 : List UInt8 := dkwJ18_bitCount_2 ++ []
def dkwJ18_bitCount_1 : List UInt8 := [26, 26, 7, 124, 96, 19, 1, 11, 126, 59, 26, 26, 16, 8, 124, 96, 59, 26, 26, 16, 16, 124, 96, 59]
abbrev dktJ18_bitCount_1 : List UInt8 := dkwJ18_bitCount_1 ++ dktJ18_bitCount_2
def dkwJ18_bitCount_0 : List UInt8 := [26, 26, 4, 124, 19, 1, 9, 126, 100, 59, 26, 19, 1, 10, 126, 26, 5, 124, 19, 1, 10, 126, 96, 59]
abbrev dktJ18_bitCount_0 : List UInt8 := dkwJ18_bitCount_0 ++ dktJ18_bitCount_1
theorem dksJ18_bitCount_0 : cJ18_bitCount.data.toList.drop 0 = dktJ18_bitCount_0 := by decide +kernel
theorem dksJ18_bitCount_1 : cJ18_bitCount.data.toList.drop 24 = dktJ18_bitCount_1 := dk_seg dksJ18_bitCount_0 24 rfl rfl
theorem dksJ18_bitCount_2 : cJ18_bitCount.data.toList.drop 48 = dktJ18_bitCount_2 := dk_seg dksJ18_bitCount_1 24 rfl rfl
theorem dJ18_bitCount_0 : decode cJ18_bitCount 0 = .ok (.iload_n 0, 1) := dk_26 (dk_at dksJ18_bitCount_0 0 rfl rfl)
theorem dJ18_bitCount_1 : decode cJ18_bitCount 1 = .ok (.iload_n 0, 1) := dk_26 (dk_at dksJ18_bitCount_0 1 rfl rfl)
theorem dJ18_bitCount_2 : decode cJ18_bitCount 2 = .ok (.iconst 1, 1) := dk_4 (dk_at dksJ18_bitCount_0 2 rfl rfl)
theorem dJ18_bitCount_3 : decode cJ18_bitCount 3 = .ok (.iushr, 1) := dk_124 (dk_at dksJ18_bitCount_0 3 rfl rfl)
theorem dJ18_bitCount_4 : decode cJ18_bitCount 4 = .ok (.ldc_w 265, 3) := dk_19 1 9 (dk_at dksJ18_bitCount_0 4 rfl rfl)
theorem dJ18_bitCount_7 : decode cJ18_bitCount 7 = .ok (.iand, 1) := dk_126 (dk_at dksJ18_bitCount_0 7 rfl rfl)
theorem dJ18_bitCount_8 : decode cJ18_bitCount 8 = .ok (.isub, 1) := dk_100 (dk_at dksJ18_bitCount_0 8 rfl rfl)
theorem dJ18_bitCount_9 : decode cJ18_bitCount 9 = .ok (.istore_n 0, 1) := dk_59 (dk_at dksJ18_bitCount_0 9 rfl rfl)
theorem dJ18_bitCount_10 : decode cJ18_bitCount 10 = .ok (.iload_n 0, 1) := dk_26 (dk_at dksJ18_bitCount_0 10 rfl rfl)
theorem dJ18_bitCount_11 : decode cJ18_bitCount 11 = .ok (.ldc_w 266, 3) := dk_19 1 10 (dk_at dksJ18_bitCount_0 11 rfl rfl)
theorem dJ18_bitCount_14 : decode cJ18_bitCount 14 = .ok (.iand, 1) := dk_126 (dk_at dksJ18_bitCount_0 14 rfl rfl)
theorem dJ18_bitCount_15 : decode cJ18_bitCount 15 = .ok (.iload_n 0, 1) := dk_26 (dk_at dksJ18_bitCount_0 15 rfl rfl)
theorem dJ18_bitCount_16 : decode cJ18_bitCount 16 = .ok (.iconst 2, 1) := dk_5 (dk_at dksJ18_bitCount_0 16 rfl rfl)
theorem dJ18_bitCount_17 : decode cJ18_bitCount 17 = .ok (.iushr, 1) := dk_124 (dk_at dksJ18_bitCount_0 17 rfl rfl)
theorem dJ18_bitCount_18 : decode cJ18_bitCount 18 = .ok (.ldc_w 266, 3) := dk_19 1 10 (dk_at dksJ18_bitCount_0 18 rfl rfl)
theorem dJ18_bitCount_21 : decode cJ18_bitCount 21 = .ok (.iand, 1) := dk_126 (dk_at dksJ18_bitCount_0 21 rfl rfl)
theorem dJ18_bitCount_22 : decode cJ18_bitCount 22 = .ok (.iadd, 1) := dk_96 (dk_at dksJ18_bitCount_0 22 rfl rfl)
theorem dJ18_bitCount_23 : decode cJ18_bitCount 23 = .ok (.istore_n 0, 1) := dk_59 (dk_at dksJ18_bitCount_0 23 rfl rfl)
theorem dJ18_bitCount_24 : decode cJ18_bitCount 24 = .ok (.iload_n 0, 1) := dk_26 (dk_at dksJ18_bitCount_1 0 rfl rfl)
theorem dJ18_bitCount_25 : decode cJ18_bitCount 25 = .ok (.iload_n 0, 1) := dk_26 (dk_at dksJ18_bitCount_1 1 rfl rfl)
theorem dJ18_bitCount_26 : decode cJ18_bitCount 26 = .ok (.iconst 4, 1) := dk_7 (dk_at dksJ18_bitCount_1 2 rfl rfl)
theorem dJ18_bitCount_27 : decode cJ18_bitCount 27 = .ok (.iushr, 1) := dk_124 (dk_at dksJ18_bitCount_1 3 rfl rfl)
theorem dJ18_bitCount_28 : decode cJ18_bitCount 28 = .ok (.iadd, 1) := dk_96 (dk_at dksJ18_bitCount_1 4 rfl rfl)
theorem dJ18_bitCount_29 : decode cJ18_bitCount 29 = .ok (.ldc_w 267, 3) := dk_19 1 11 (dk_at dksJ18_bitCount_1 5 rfl rfl)
theorem dJ18_bitCount_32 : decode cJ18_bitCount 32 = .ok (.iand, 1) := dk_126 (dk_at dksJ18_bitCount_1 8 rfl rfl)
theorem dJ18_bitCount_33 : decode cJ18_bitCount 33 = .ok (.istore_n 0, 1) := dk_59 (dk_at dksJ18_bitCount_1 9 rfl rfl)
theorem dJ18_bitCount_34 : decode cJ18_bitCount 34 = .ok (.iload_n 0, 1) := dk_26 (dk_at dksJ18_bitCount_1 10 rfl rfl)
theorem dJ18_bitCount_35 : decode cJ18_bitCount 35 = .ok (.iload_n 0, 1) := dk_26 (dk_at dksJ18_bitCount_1 11 rfl rfl)
theorem dJ18_bitCount_36 : decode cJ18_bitCount 36 = .ok (.bipush 8, 2) := dk_16 8 (dk_at dksJ18_bitCount_1 12 rfl rfl)
theorem dJ18_bitCount_38 : decode cJ18_bitCount 38 = .ok (.iushr, 1) := dk_124 (dk_at dksJ18_bitCount_1 14 rfl rfl)
theorem dJ18_bitCount_39 : decode cJ18_bitCount 39 = .ok (.iadd, 1) := dk_96 (dk_at dksJ18_bitCount_1 15 rfl rfl)
theorem dJ18_bitCount_40 : decode cJ18_bitCount 40 = .ok (.istore_n 0, 1) := dk_59 (dk_at dksJ18_bitCount_1 16 rfl rfl)
theorem dJ18_bitCount_41 : decode cJ18_bitCount 41 = .ok (.iload_n 0, 1) := dk_26 (dk_at dksJ18_bitCount_1 17 rfl rfl)
theorem dJ18_bitCount_42 : decode cJ18_bitCount 42 = .ok (.iload_n 0, 1) := dk_26 (dk_at dksJ18_bitCount_1 18 rfl rfl)
theorem dJ18_bitCount_43 : decode cJ18_bitCount 43 = .ok (.bipush 16, 2) := dk_16 16 (dk_at dksJ18_bitCount_1 19 rfl rfl)
theorem dJ18_bitCount_45 : decode cJ18_bitCount 45 = .ok (.iushr, 1) := dk_124 (dk_at dksJ18_bitCount_1 21 rfl rfl)
theorem dJ18_bitCount_46 : decode cJ18_bitCount 46 = .ok (.iadd, 1) := dk_96 (dk_at dksJ18_bitCount_1 22 rfl rfl)
theorem dJ18_bitCount_47 : decode cJ18_bitCount 47 = .ok (.istore_n 0, 1) := dk_59 (dk_at dksJ18_bitCount_1 23 rfl rfl)
theorem dJ18_bitCount_48 : decode cJ18_bitCount 48 = .ok (.iload_n 0, 1) := dk_26 (dk_at dksJ18_bitCount_2 0 rfl rfl)
theorem dJ18_bitCount_49 : decode cJ18_bitCount 49 = .ok (.bipush 63, 2) := dk_16 63 (dk_at dksJ18_bitCount_2 1 rfl rfl)
theorem dJ18_bitCount_51 : decode cJ18_bitCount 51 = .ok (.iand, 1) := dk_126 (dk_at dksJ18_bitCount_2 3 rfl rfl)
theorem dJ18_bitCount_52 : decode cJ18_bitCount 52 = .ok (.ireturn, 1) := dk_172 (dk_at dksJ18_bitCount_2 4 rfl rfl)
theorem q86 : (Jvm.Cond.initialized "java/lang/Integer") ∈ lw_all := lw_g (lw_at lw_m1 30 rfl) rfl
theorem q991 : (Jvm.Cond.static ({ cls := "java/lang/Integer", name := "stringSize", desc := "(I)I" } : Jvm.MethodName)) ∈ lw_all := lw_g (lw_at lw_m4 215 rfl) rfl
theorem q992 : (Jvm.Cond.code ({ cls := "java/lang/Integer", name := "stringSize", desc := "(I)I" } : Jvm.MethodName) prog_28_method_13_code (4 : Nat) (Option.some Jvm.ClassFile.FieldType.int)) ∈ lw_all := lw_g (lw_at lw_m4 216 rfl) rfl
theorem q994 : (Jvm.Cond.static ({ cls := "java/lang/Integer", name := "getChars", desc := "(II[B)I" } : Jvm.MethodName)) ∈ lw_all := lw_g (lw_at lw_m4 218 rfl) rfl
theorem q995 : (Jvm.Cond.code ({ cls := "java/lang/Integer", name := "getChars", desc := "(II[B)I" } : Jvm.MethodName) prog_28_method_12_code (7 : Nat) (Option.some Jvm.ClassFile.FieldType.int)) ∈ lw_all := lw_g (lw_at lw_m4 219 rfl) rfl
theorem q996 : (Jvm.Cond.fieldLink "java/lang/Integer" (83 : Nat) "java/lang/Integer" "DigitOnes" "[B") ∈ lw_all := lw_g (lw_at lw_m4 220 rfl) rfl
theorem q997 : (Jvm.Cond.laysStatic "java/lang/Integer" "DigitOnes" "[B") ∈ lw_tbl := lw_at lw_m4 221 rfl
theorem q998 : (Jvm.Cond.fieldLink "java/lang/Integer" (87 : Nat) "java/lang/Integer" "DigitTens" "[B") ∈ lw_all := lw_g (lw_at lw_m4 222 rfl) rfl
theorem q999 : (Jvm.Cond.laysStatic "java/lang/Integer" "DigitTens" "[B") ∈ lw_tbl := lw_at lw_m4 223 rfl
theorem q1257 : (Jvm.Cond.static ({ cls := "java/lang/Integer", name := "bitCount", desc := "(I)I" } : Jvm.MethodName)) ∈ lw_all := lw_g (lw_at lw_m6 1 rfl) rfl
theorem q1258 : (Jvm.Cond.code ({ cls := "java/lang/Integer", name := "bitCount", desc := "(I)I" } : Jvm.MethodName) prog_28_method_49_code (1 : Nat) (Option.some Jvm.ClassFile.FieldType.int)) ∈ lw_all := lw_g (lw_at lw_m6 2 rfl) rfl
theorem q1259 : (Jvm.Cond.constant "java/lang/Integer" (265 : Nat) (1431655765 : Int32)) ∈ lw_all := lw_g (lw_at lw_m6 3 rfl) rfl
theorem q1260 : (Jvm.Cond.constant "java/lang/Integer" (266 : Nat) (858993459 : Int32)) ∈ lw_all := lw_g (lw_at lw_m6 4 rfl) rfl
theorem q1261 : (Jvm.Cond.constant "java/lang/Integer" (267 : Nat) (252645135 : Int32)) ∈ lw_all := lw_g (lw_at lw_m6 5 rfl) rfl

/-! java/lang/ClassCastException -/
set_option maxRecDepth 100000
def RJ19 : String := "java/lang/ClassCastException"
def TJ19 : u_T := fun k => match k with
  | 0 => ("java/lang/Throwable", "backtrace", "Ljava/lang/Object;", false)
  | 1 => ("java/lang/Throwable", "detailMessage", "Ljava/lang/String;", false)
  | 2 => ("java/lang/Throwable", "cause", "Ljava/lang/Throwable;", false)
  | 3 => ("java/lang/Throwable", "stackTrace", "[Ljava/lang/StackTraceElement;", false)
  | 4 => ("java/lang/Throwable", "depth", "I", false)
  | _ => ("java/lang/Throwable", "suppressedExceptions", "Ljava/util/List;", false)
def tyJ19 : Nat → FieldType := fun k => match k with
  | 0 => .object "java/lang/Object"
  | 1 => .object "java/lang/String"
  | 2 => .object "java/lang/Throwable"
  | 3 => .array (.object "java/lang/StackTraceElement")
  | 4 => .int
  | _ => .object "java/util/List"
abbrev wsJ190 : List Cond := u_ws RJ19 TJ19 6
theorem nmJ19 : ∀ a, a < 6 → ∀ b, b < 6 → a ≠ b → (TJ19 a).2.1 ≠ (TJ19 b).2.1 := by decide +kernel
theorem tyJ19_ok : ∀ k, k < 6 → parseFieldDescriptor (TJ19 k).2.2.1 = some (tyJ19 k) := by decide +kernel
abbrev cJ19_init : ByteArray := prog_23_method_2_code
def yJ19_init : MethodName := ⟨RJ19, "<init>", "(Ljava/lang/String;)V"⟩
def dkwJ19_init_0 : List UInt8 := [42, 43, 183, 0, 7, 177]
abbrev dktJ19_init_0 : List UInt8 := dkwJ19_init_0 ++ []
theorem dksJ19_init_0 : cJ19_init.data.toList.drop 0 = dktJ19_init_0 := by decide +kernel
theorem dJ19_init_0 : decode cJ19_init 0 = .ok (.aload_n 0, 1) := dk_42 (dk_at dksJ19_init_0 0 rfl rfl)
theorem dJ19_init_1 : decode cJ19_init 1 = .ok (.aload_n 1, 1) := dk_43 (dk_at dksJ19_init_0 1 rfl rfl)
theorem dJ19_init_2 : decode cJ19_init 2 = .ok (.invokespecial 7, 3) := dk_183 0 7 (dk_at dksJ19_init_0 2 rfl rfl)
theorem dJ19_init_5 : decode cJ19_init 5 = .ok (.return_, 1) := dk_177 (dk_at dksJ19_init_0 5 rfl rfl)
theorem q93 : (Jvm.Cond.initialized "java/lang/ClassCastException") ∈ lw_all := lw_g (lw_at lw_m1 37 rfl) rfl
theorem q270 : (Jvm.Cond.selects "java/lang/ClassCastException" ({ cls := "java/lang/Throwable", name := "fillInStackTrace", desc := "()Ljava/lang/Throwable;" } : Jvm.MethodName) ({ cls := "java/lang/Throwable", name := "fillInStackTrace", desc := "()Ljava/lang/Throwable;" } : Jvm.MethodName)) ∈ lw_all := lw_g (lw_at lw_m1 214 rfl) rfl
theorem q781 : (Jvm.Cond.selects "java/lang/ClassCastException" ({ cls := "java/lang/Object", name := "getClass", desc := "()Ljava/lang/Class;" } : Jvm.MethodName) ({ cls := "java/lang/Object", name := "getClass", desc := "()Ljava/lang/Class;" } : Jvm.MethodName)) ∈ lw_all := lw_g (lw_at lw_m4 5 rfl) rfl
theorem q1318 : (Jvm.Cond.instantiable "java/lang/ClassCastException" (6 : Nat)) ∈ lw_all := lw_g (lw_at lw_m6 62 rfl) rfl
theorem q1319 : (Jvm.Cond.instanceMethod ({ cls := "java/lang/ClassCastException", name := "<init>", desc := "(Ljava/lang/String;)V" } : Jvm.MethodName)) ∈ lw_all := lw_g (lw_at lw_m6 63 rfl) rfl
theorem q1320 : (Jvm.Cond.code ({ cls := "java/lang/ClassCastException", name := "<init>", desc := "(Ljava/lang/String;)V" } : Jvm.MethodName) prog_23_method_2_code (2 : Nat) (Option.none : Option Jvm.ClassFile.FieldType)) ∈ lw_all := lw_g (lw_at lw_m6 64 rfl) rfl
theorem q1321 : (Jvm.Cond.methodLink "java/lang/ClassCastException" (7 : Nat) ({ cls := "java/lang/RuntimeException", name := "<init>", desc := "(Ljava/lang/String;)V" } : Jvm.MethodName)) ∈ lw_all := lw_g (lw_at lw_m6 65 rfl) rfl
theorem q1322 : (Jvm.Cond.lays "java/lang/ClassCastException" "java/lang/Throwable" "backtrace" "Ljava/lang/Object;") ∈ lw_all := lw_g (lw_at lw_m6 66 rfl) rfl
theorem q1323 : (Jvm.Cond.lays "java/lang/ClassCastException" "java/lang/Throwable" "detailMessage" "Ljava/lang/String;") ∈ lw_all := lw_g (lw_at lw_m6 67 rfl) rfl
theorem q1324 : (Jvm.Cond.lays "java/lang/ClassCastException" "java/lang/Throwable" "cause" "Ljava/lang/Throwable;") ∈ lw_all := lw_g (lw_at lw_m6 68 rfl) rfl
theorem q1325 : (Jvm.Cond.lays "java/lang/ClassCastException" "java/lang/Throwable" "stackTrace" "[Ljava/lang/StackTraceElement;") ∈ lw_all := lw_g (lw_at lw_m6 69 rfl) rfl
theorem q1326 : (Jvm.Cond.lays "java/lang/ClassCastException" "java/lang/Throwable" "depth" "I") ∈ lw_all := lw_g (lw_at lw_m6 70 rfl) rfl
theorem q1327 : (Jvm.Cond.lays "java/lang/ClassCastException" "java/lang/Throwable" "suppressedExceptions" "Ljava/util/List;") ∈ lw_all := lw_g (lw_at lw_m6 71 rfl) rfl
theorem q1328 : (Jvm.Cond.superclass "java/lang/ClassCastException" "java/lang/RuntimeException") ∈ lw_all := lw_g (lw_at lw_m6 72 rfl) rfl
theorem q1329 : (Jvm.Cond.castable "java/lang/ClassCastException" "java/lang/ClassCastException") ∈ lw_tbl := lw_at lw_m6 73 rfl
theorem q1330 : (Jvm.Cond.selects "java/lang/ClassCastException" ({ cls := "java/lang/Throwable", name := "fillInStackTrace", desc := "(I)Ljava/lang/Throwable;" } : Jvm.MethodName) ({ cls := "java/lang/Throwable", name := "fillInStackTrace", desc := "(I)Ljava/lang/Throwable;" } : Jvm.MethodName)) ∈ lw_all := lw_g (lw_at lw_m6 74 rfl) rfl
theorem q1999 : (Jvm.Cond.castable "java/lang/ClassCastException" "java/lang/Object") ∈ lw_tbl := lw_at lw_m9 23 rfl
theorem in_J19 : ∀ w ∈ wsJ190, w ∈ lw_all := lw_in wsJ190 [1322, 1323, 1324, 1325, 1326, 1327] (by decide +kernel) (by decide +kernel)

theorem q420 : (Jvm.Cond.interfaceMethod "java/util/List" "java/util/List" "size" "()I") ∈ lw_tbl := lw_at lw_m2 124 rfl
set_option maxRecDepth 100000
theorem q421 : (Jvm.Cond.declares ({ cls := "java/util/List", name := "size", desc := "()I" } : Jvm.MethodName)) ∈ lw_tbl := lw_at lw_m2 125 rfl
theorem q739 : (Jvm.Cond.interfaceMethod "java/util/List" "java/util/List" "add" "(Ljava/lang/Object;)Z") ∈ lw_tbl := lw_at lw_m3 203 rfl
theorem q740 : (Jvm.Cond.declares ({ cls := "java/util/List", name := "add", desc := "(Ljava/lang/Object;)Z" } : Jvm.MethodName)) ∈ lw_tbl := lw_at lw_m3 204 rfl
theorem q798 : (Jvm.Cond.interfaceMethod "java/util/List" "java/util/List" "get" "(I)Ljava/lang/Object;") ∈ lw_tbl := lw_at lw_m4 22 rfl
theorem q799 : (Jvm.Cond.declares ({ cls := "java/util/List", name := "get", desc := "(I)Ljava/lang/Object;" } : Jvm.MethodName)) ∈ lw_tbl := lw_at lw_m4 23 rfl
theorem q910 : (Jvm.Cond.interfaceMethod "java/util/List" "java/util/List" "add" "(ILjava/lang/Object;)V") ∈ lw_tbl := lw_at lw_m4 134 rfl
theorem q911 : (Jvm.Cond.declares ({ cls := "java/util/List", name := "add", desc := "(ILjava/lang/Object;)V" } : Jvm.MethodName)) ∈ lw_tbl := lw_at lw_m4 135 rfl

theorem q71 : (Jvm.Cond.initialized "java/lang/System") ∈ lw_all := lw_g (lw_at lw_m1 15 rfl) rfl
set_option maxRecDepth 100000
theorem q378 : (Jvm.Cond.static ({ cls := "java/lang/System", name := "arraycopy", desc := "(Ljava/lang/Object;ILjava/lang/Object;II)V" } : Jvm.MethodName)) ∈ lw_all := lw_g (lw_at lw_m2 82 rfl) rfl
theorem q379 : (Jvm.Cond.native ({ cls := "java/lang/System", name := "arraycopy", desc := "(Ljava/lang/Object;ILjava/lang/Object;II)V" } : Jvm.MethodName)) ∈ lw_all := lw_g (lw_at lw_m2 83 rfl) rfl

theorem q2001 : (Jvm.Cond.sameMethod "[Ljava/lang/Object;" "java/lang/Object" "getClass" "()Ljava/lang/Class;") ∈ lw_all := lw_g (lw_at lw_m9 25 rfl) rfl
set_option maxRecDepth 100000
theorem q2002 : (Jvm.Cond.selects "[Ljava/lang/Object;" ({ cls := "java/lang/Object", name := "getClass", desc := "()Ljava/lang/Class;" } : Jvm.MethodName) ({ cls := "java/lang/Object", name := "getClass", desc := "()Ljava/lang/Class;" } : Jvm.MethodName)) ∈ lw_all := lw_g (lw_at lw_m9 26 rfl) rfl
theorem q2007 : (Jvm.Cond.castable "[Ljava/lang/Object;" "java/lang/Object") ∈ lw_tbl := lw_at lw_m9 31 rfl

theorem q2004 : (Jvm.Cond.castable "[LDuskGates$Sheet;" "java/lang/Object") ∈ lw_tbl := lw_at lw_m9 28 rfl
set_option maxRecDepth 100000

theorem q2009 : (Jvm.Cond.castable "[Ljava/lang/String;" "java/lang/Object") ∈ lw_tbl := lw_at lw_m9 33 rfl
set_option maxRecDepth 100000
