/-! DuskGates$Trail -/
set_option maxRecDepth 100000
def RX1 : String := "DuskGates$Trail"
def TX1 : u_T := fun k => match k with
  | 0 => ("DuskGates$Trail", "body", "[I", true)
  | _ => ("DuskGates$Trail", "many", "I", false)
def tyX1 : Nat → FieldType := fun k => match k with
  | 0 => .array .int
  | _ => .int
abbrev wsX10 : List Cond := u_ws RX1 TX1 2
theorem nmX1 : ∀ a, a < 2 → ∀ b, b < 2 → a ≠ b → (TX1 a).2.1 ≠ (TX1 b).2.1 := by decide +kernel
theorem tyX1_ok : ∀ k, k < 2 → parseFieldDescriptor (TX1 k).2.2.1 = some (tyX1 k) := by decide +kernel
abbrev cX1_init : ByteArray := prog_15_method_1_code
def yX1_init : MethodName := ⟨RX1, "<init>", "()V"⟩
def dkwX1_init_0 : List UInt8 := [42, 183, 0, 3, 42, 16, 16, 188, 10, 181, 0, 9, 177]
abbrev dktX1_init_0 : List UInt8 := dkwX1_init_0 ++ []
theorem dksX1_init_0 : cX1_init.data.toList.drop 0 = dktX1_init_0 := by decide +kernel
theorem dX1_init_0 : decode cX1_init 0 = .ok (.aload_n 0, 1) := dk_42 (dk_at dksX1_init_0 0 rfl rfl)
theorem dX1_init_1 : decode cX1_init 1 = .ok (.invokespecial 3, 3) := dk_183 0 3 (dk_at dksX1_init_0 1 rfl rfl)
theorem dX1_init_4 : decode cX1_init 4 = .ok (.aload_n 0, 1) := dk_42 (dk_at dksX1_init_0 4 rfl rfl)
theorem dX1_init_5 : decode cX1_init 5 = .ok (.bipush 16, 2) := dk_16 16 (dk_at dksX1_init_0 5 rfl rfl)
theorem dX1_init_7 : decode cX1_init 7 = .ok (.newarray .int, 2) := dk_188_10 (dk_at dksX1_init_0 7 rfl rfl)
theorem dX1_init_9 : decode cX1_init 9 = .ok (.putfield 9, 3) := dk_181 0 9 (dk_at dksX1_init_0 9 rfl rfl)
theorem dX1_init_12 : decode cX1_init 12 = .ok (.return_, 1) := dk_177 (dk_at dksX1_init_0 12 rfl rfl)
abbrev cX1_begins : ByteArray := prog_15_method_2_code
def yX1_begins : MethodName := ⟨RX1, "begins", "(I)V"⟩
def dkwX1_begins_1 : List UInt8 := [27, 79, 177]
abbrev dktX1_begins_1 : List UInt8 := dkwX1_begins_1 ++ []
def dkwX1_begins_0 : List UInt8 := [42, 180, 0, 15, 16, 16, 162, 0, 20, 42, 180, 0, 9, 42, 89, 180, 0, 15, 90, 4, 96, 181, 0, 15]
abbrev dktX1_begins_0 : List UInt8 := dkwX1_begins_0 ++ dktX1_begins_1
theorem dksX1_begins_0 : cX1_begins.data.toList.drop 0 = dktX1_begins_0 := by decide +kernel
theorem dksX1_begins_1 : cX1_begins.data.toList.drop 24 = dktX1_begins_1 := dk_seg dksX1_begins_0 24 rfl rfl
theorem dX1_begins_0 : decode cX1_begins 0 = .ok (.aload_n 0, 1) := dk_42 (dk_at dksX1_begins_0 0 rfl rfl)
theorem dX1_begins_1 : decode cX1_begins 1 = .ok (.getfield 15, 3) := dk_180 0 15 (dk_at dksX1_begins_0 1 rfl rfl)
theorem dX1_begins_4 : decode cX1_begins 4 = .ok (.bipush 16, 2) := dk_16 16 (dk_at dksX1_begins_0 4 rfl rfl)
theorem dX1_begins_6 : decode cX1_begins 6 = .ok (.if_icmp .ge 20, 3) := dk_162 0 20 (dk_at dksX1_begins_0 6 rfl rfl)
theorem dX1_begins_9 : decode cX1_begins 9 = .ok (.aload_n 0, 1) := dk_42 (dk_at dksX1_begins_0 9 rfl rfl)
theorem dX1_begins_10 : decode cX1_begins 10 = .ok (.getfield 9, 3) := dk_180 0 9 (dk_at dksX1_begins_0 10 rfl rfl)
theorem dX1_begins_13 : decode cX1_begins 13 = .ok (.aload_n 0, 1) := dk_42 (dk_at dksX1_begins_0 13 rfl rfl)
theorem dX1_begins_14 : decode cX1_begins 14 = .ok (.dup, 1) := dk_89 (dk_at dksX1_begins_0 14 rfl rfl)
theorem dX1_begins_15 : decode cX1_begins 15 = .ok (.getfield 15, 3) := dk_180 0 15 (dk_at dksX1_begins_0 15 rfl rfl)
theorem dX1_begins_18 : decode cX1_begins 18 = .ok (.dup_x1, 1) := dk_90 (dk_at dksX1_begins_0 18 rfl rfl)
theorem dX1_begins_19 : decode cX1_begins 19 = .ok (.iconst 1, 1) := dk_4 (dk_at dksX1_begins_0 19 rfl rfl)
theorem dX1_begins_20 : decode cX1_begins 20 = .ok (.iadd, 1) := dk_96 (dk_at dksX1_begins_0 20 rfl rfl)
theorem dX1_begins_21 : decode cX1_begins 21 = .ok (.putfield 15, 3) := dk_181 0 15 (dk_at dksX1_begins_0 21 rfl rfl)
theorem dX1_begins_24 : decode cX1_begins 24 = .ok (.iload_n 1, 1) := dk_27 (dk_at dksX1_begins_1 0 rfl rfl)
theorem dX1_begins_25 : decode cX1_begins 25 = .ok (.iastore, 1) := dk_79 (dk_at dksX1_begins_1 1 rfl rfl)
theorem dX1_begins_26 : decode cX1_begins 26 = .ok (.return_, 1) := dk_177 (dk_at dksX1_begins_1 2 rfl rfl)
theorem q61 : (Jvm.Cond.initialized "DuskGates$Trail") ∈ lw_all := lw_g (lw_at lw_m1 5 rfl) rfl
theorem q132 : (Jvm.Cond.instantiable "DuskGates$Trail" (2 : Nat)) ∈ lw_all := lw_g (lw_at lw_m1 76 rfl) rfl
theorem q134 : (Jvm.Cond.instanceMethod ({ cls := "DuskGates$Trail", name := "<init>", desc := "()V" } : Jvm.MethodName)) ∈ lw_all := lw_g (lw_at lw_m1 78 rfl) rfl
theorem q135 : (Jvm.Cond.code ({ cls := "DuskGates$Trail", name := "<init>", desc := "()V" } : Jvm.MethodName) prog_15_method_1_code (1 : Nat) (Option.none : Option Jvm.ClassFile.FieldType)) ∈ lw_all := lw_g (lw_at lw_m1 79 rfl) rfl
theorem q136 : (Jvm.Cond.methodLink "DuskGates$Trail" (3 : Nat) ({ cls := "java/lang/Object", name := "<init>", desc := "()V" } : Jvm.MethodName)) ∈ lw_all := lw_g (lw_at lw_m1 80 rfl) rfl
theorem q137 : (Jvm.Cond.fieldLink "DuskGates$Trail" (9 : Nat) "DuskGates$Trail" "body" "[I") ∈ lw_all := lw_g (lw_at lw_m1 81 rfl) rfl
theorem q139 : (Jvm.Cond.fieldLink "DuskGates$Trail" (15 : Nat) "DuskGates$Trail" "many" "I") ∈ lw_all := lw_g (lw_at lw_m1 83 rfl) rfl
theorem q141 : (Jvm.Cond.laysFinal "DuskGates$Trail" "DuskGates$Trail" "body" "[I") ∈ lw_all := lw_g (lw_at lw_m1 85 rfl) rfl
theorem q142 : (Jvm.Cond.soleField "DuskGates$Trail" "body") ∈ lw_all := lw_g (lw_at lw_m1 86 rfl) rfl
theorem q143 : (Jvm.Cond.lays "DuskGates$Trail" "DuskGates$Trail" "many" "I") ∈ lw_all := lw_g (lw_at lw_m1 87 rfl) rfl
theorem q144 : (Jvm.Cond.soleField "DuskGates$Trail" "many") ∈ lw_all := lw_g (lw_at lw_m1 88 rfl) rfl
theorem q145 : (Jvm.Cond.superclass "DuskGates$Trail" "java/lang/Object") ∈ lw_all := lw_g (lw_at lw_m1 89 rfl) rfl
theorem q778 : (Jvm.Cond.selects "DuskGates$Trail" ({ cls := "java/lang/Object", name := "getClass", desc := "()Ljava/lang/Class;" } : Jvm.MethodName) ({ cls := "java/lang/Object", name := "getClass", desc := "()Ljava/lang/Class;" } : Jvm.MethodName)) ∈ lw_all := lw_g (lw_at lw_m4 2 rfl) rfl
theorem q1343 : (Jvm.Cond.instanceMethod ({ cls := "DuskGates$Trail", name := "begins", desc := "(I)V" } : Jvm.MethodName)) ∈ lw_all := lw_g (lw_at lw_m6 87 rfl) rfl
theorem q1344 : (Jvm.Cond.selects "DuskGates$Trail" ({ cls := "DuskGates$Trail", name := "begins", desc := "(I)V" } : Jvm.MethodName) ({ cls := "DuskGates$Trail", name := "begins", desc := "(I)V" } : Jvm.MethodName)) ∈ lw_all := lw_g (lw_at lw_m6 88 rfl) rfl
theorem q1345 : (Jvm.Cond.code ({ cls := "DuskGates$Trail", name := "begins", desc := "(I)V" } : Jvm.MethodName) prog_15_method_2_code (2 : Nat) (Option.none : Option Jvm.ClassFile.FieldType)) ∈ lw_all := lw_g (lw_at lw_m6 89 rfl) rfl
theorem q1983 : (Jvm.Cond.castable "DuskGates$Trail" "java/lang/Object") ∈ lw_tbl := lw_at lw_m9 7 rfl
theorem in_X1 : ∀ w ∈ wsX10, w ∈ lw_all := lw_in wsX10 [141, 143] (by decide +kernel) (by decide +kernel)

/-! DuskGates$Finding -/
set_option maxRecDepth 100000
def RX3 : String := "DuskGates$Finding"
def TX3 : u_T := fun k => match k with
  | 0 => ("java/lang/Throwable", "cause", "Ljava/lang/Throwable;", false)
  | 1 => ("java/lang/Throwable", "stackTrace", "[Ljava/lang/StackTraceElement;", false)
  | 2 => ("java/lang/Throwable", "suppressedExceptions", "Ljava/util/List;", false)
  | 3 => ("java/lang/Throwable", "detailMessage", "Ljava/lang/String;", false)
  | 4 => ("java/lang/Throwable", "backtrace", "Ljava/lang/Object;", false)
  | 5 => ("java/lang/Throwable", "depth", "I", false)
  | _ => ("DuskGates$Finding", "number", "I", true)
def tyX3 : Nat → FieldType := fun k => match k with
  | 0 => .object "java/lang/Throwable"
  | 1 => .array (.object "java/lang/StackTraceElement")
  | 2 => .object "java/util/List"
  | 3 => .object "java/lang/String"
  | 4 => .object "java/lang/Object"
  | 5 => .int
  | _ => .int
abbrev wsX30 : List Cond := u_ws RX3 TX3 7
theorem nmX3 : ∀ a, a < 7 → ∀ b, b < 7 → a ≠ b → (TX3 a).2.1 ≠ (TX3 b).2.1 := by decide +kernel
theorem tyX3_ok : ∀ k, k < 7 → parseFieldDescriptor (TX3 k).2.2.1 = some (tyX3 k) := by decide +kernel
abbrev cX3_init : ByteArray := prog_3_method_1_code
def yX3_init : MethodName := ⟨RX3, "<init>", "(I)V"⟩
def dkwX3_init_0 : List UInt8 := [42, 1, 1, 3, 3, 183, 0, 1, 42, 27, 181, 0, 7, 177]
abbrev dktX3_init_0 : List UInt8 := dkwX3_init_0 ++ []
theorem dksX3_init_0 : cX3_init.data.toList.drop 0 = dktX3_init_0 := by decide +kernel
theorem dX3_init_0 : decode cX3_init 0 = .ok (.aload_n 0, 1) := dk_42 (dk_at dksX3_init_0 0 rfl rfl)
theorem dX3_init_1 : decode cX3_init 1 = .ok (.aconst_null, 1) := dk_1 (dk_at dksX3_init_0 1 rfl rfl)
theorem dX3_init_2 : decode cX3_init 2 = .ok (.aconst_null, 1) := dk_1 (dk_at dksX3_init_0 2 rfl rfl)
theorem dX3_init_3 : decode cX3_init 3 = .ok (.iconst 0, 1) := dk_3 (dk_at dksX3_init_0 3 rfl rfl)
theorem dX3_init_4 : decode cX3_init 4 = .ok (.iconst 0, 1) := dk_3 (dk_at dksX3_init_0 4 rfl rfl)
theorem dX3_init_5 : decode cX3_init 5 = .ok (.invokespecial 1, 3) := dk_183 0 1 (dk_at dksX3_init_0 5 rfl rfl)
theorem dX3_init_8 : decode cX3_init 8 = .ok (.aload_n 0, 1) := dk_42 (dk_at dksX3_init_0 8 rfl rfl)
theorem dX3_init_9 : decode cX3_init 9 = .ok (.iload_n 1, 1) := dk_27 (dk_at dksX3_init_0 9 rfl rfl)
theorem dX3_init_10 : decode cX3_init 10 = .ok (.putfield 7, 3) := dk_181 0 7 (dk_at dksX3_init_0 10 rfl rfl)
theorem dX3_init_13 : decode cX3_init 13 = .ok (.return_, 1) := dk_177 (dk_at dksX3_init_0 13 rfl rfl)
theorem q65 : (Jvm.Cond.initialized "DuskGates$Finding") ∈ lw_all := lw_g (lw_at lw_m1 9 rfl) rfl
theorem q238 : (Jvm.Cond.instantiable "DuskGates$Finding" (7 : Nat)) ∈ lw_all := lw_g (lw_at lw_m1 182 rfl) rfl
theorem q239 : (Jvm.Cond.castable "DuskGates$Finding" "DuskGates$Finding") ∈ lw_tbl := lw_at lw_m1 183 rfl
theorem q244 : (Jvm.Cond.selects "DuskGates$Finding" ({ cls := "java/lang/Throwable", name := "fillInStackTrace", desc := "(I)Ljava/lang/Throwable;" } : Jvm.MethodName) ({ cls := "java/lang/Throwable", name := "fillInStackTrace", desc := "(I)Ljava/lang/Throwable;" } : Jvm.MethodName)) ∈ lw_all := lw_g (lw_at lw_m1 188 rfl) rfl
theorem q245 : (Jvm.Cond.selects "DuskGates$Finding" ({ cls := "java/lang/Throwable", name := "fillInStackTrace", desc := "()Ljava/lang/Throwable;" } : Jvm.MethodName) ({ cls := "java/lang/Throwable", name := "fillInStackTrace", desc := "()Ljava/lang/Throwable;" } : Jvm.MethodName)) ∈ lw_all := lw_g (lw_at lw_m1 189 rfl) rfl
theorem q246 : (Jvm.Cond.lays "DuskGates$Finding" "java/lang/Throwable" "cause" "Ljava/lang/Throwable;") ∈ lw_all := lw_g (lw_at lw_m1 190 rfl) rfl
theorem q248 : (Jvm.Cond.lays "DuskGates$Finding" "java/lang/Throwable" "stackTrace" "[Ljava/lang/StackTraceElement;") ∈ lw_all := lw_g (lw_at lw_m1 192 rfl) rfl
theorem q250 : (Jvm.Cond.lays "DuskGates$Finding" "java/lang/Throwable" "suppressedExceptions" "Ljava/util/List;") ∈ lw_all := lw_g (lw_at lw_m1 194 rfl) rfl
theorem q252 : (Jvm.Cond.lays "DuskGates$Finding" "java/lang/Throwable" "detailMessage" "Ljava/lang/String;") ∈ lw_all := lw_g (lw_at lw_m1 196 rfl) rfl
theorem q254 : (Jvm.Cond.lays "DuskGates$Finding" "java/lang/Throwable" "backtrace" "Ljava/lang/Object;") ∈ lw_all := lw_g (lw_at lw_m1 198 rfl) rfl
theorem q279 : (Jvm.Cond.instanceMethod ({ cls := "DuskGates$Finding", name := "<init>", desc := "(I)V" } : Jvm.MethodName)) ∈ lw_all := lw_g (lw_at lw_m1 223 rfl) rfl
theorem q280 : (Jvm.Cond.code ({ cls := "DuskGates$Finding", name := "<init>", desc := "(I)V" } : Jvm.MethodName) prog_3_method_1_code (2 : Nat) (Option.none : Option Jvm.ClassFile.FieldType)) ∈ lw_all := lw_g (lw_at lw_m1 224 rfl) rfl
theorem q281 : (Jvm.Cond.methodLink "DuskGates$Finding" (1 : Nat) ({ cls := "java/lang/Exception", name := "<init>", desc := "(Ljava/lang/String;Ljava/lang/Throwable;ZZ)V" } : Jvm.MethodName)) ∈ lw_all := lw_g (lw_at lw_m1 225 rfl) rfl
theorem q287 : (Jvm.Cond.fieldLink "DuskGates$Finding" (7 : Nat) "DuskGates$Finding" "number" "I") ∈ lw_all := lw_g (lw_at lw_m1 231 rfl) rfl
theorem q294 : (Jvm.Cond.laysFinal "DuskGates$Finding" "DuskGates$Finding" "number" "I") ∈ lw_all := lw_g (lw_at lw_m1 238 rfl) rfl
theorem q295 : (Jvm.Cond.soleField "DuskGates$Finding" "number") ∈ lw_all := lw_g (lw_at lw_m1 239 rfl) rfl
theorem q300 : (Jvm.Cond.lays "DuskGates$Finding" "java/lang/Throwable" "depth" "I") ∈ lw_all := lw_g (lw_at lw_m2 4 rfl) rfl
theorem q303 : (Jvm.Cond.superclass "DuskGates$Finding" "java/lang/Exception") ∈ lw_all := lw_g (lw_at lw_m2 7 rfl) rfl
theorem q767 : (Jvm.Cond.selects "DuskGates$Finding" ({ cls := "java/lang/Object", name := "getClass", desc := "()Ljava/lang/Class;" } : Jvm.MethodName) ({ cls := "java/lang/Object", name := "getClass", desc := "()Ljava/lang/Class;" } : Jvm.MethodName)) ∈ lw_all := lw_g (lw_at lw_m3 231 rfl) rfl
theorem q1985 : (Jvm.Cond.castable "DuskGates$Finding" "java/lang/Object") ∈ lw_tbl := lw_at lw_m9 9 rfl
theorem in_X3 : ∀ w ∈ wsX30, w ∈ lw_all := lw_in wsX30 [246, 248, 250, 252, 254, 300, 294] (by decide +kernel) (by decide +kernel)

/-! DuskGates$Sheet -/
set_option maxRecDepth 100000
def RX4 : String := "DuskGates$Sheet"
def TX4 : u_T := fun k => match k with
  | 0 => ("DuskGates$Sheet", "lane", "I", true)
  | _ => ("DuskGates$Sheet", "items", "[I", true)
def tyX4 : Nat → FieldType := fun k => match k with
  | 0 => .int
  | _ => .array .int
abbrev wsX40 : List Cond := u_ws RX4 TX4 2
theorem nmX4 : ∀ a, a < 2 → ∀ b, b < 2 → a ≠ b → (TX4 a).2.1 ≠ (TX4 b).2.1 := by decide +kernel
theorem tyX4_ok : ∀ k, k < 2 → parseFieldDescriptor (TX4 k).2.2.1 = some (tyX4 k) := by decide +kernel
abbrev cX4_init : ByteArray := prog_12_method_1_code
def yX4_init : MethodName := ⟨RX4, "<init>", "(II)V"⟩
def dkwX4_init_0 : List UInt8 := [42, 183, 0, 3, 42, 27, 181, 0, 9, 42, 28, 188, 10, 181, 0, 15, 177]
abbrev dktX4_init_0 : List UInt8 := dkwX4_init_0 ++ []
theorem dksX4_init_0 : cX4_init.data.toList.drop 0 = dktX4_init_0 := by decide +kernel
theorem dX4_init_0 : decode cX4_init 0 = .ok (.aload_n 0, 1) := dk_42 (dk_at dksX4_init_0 0 rfl rfl)
theorem dX4_init_1 : decode cX4_init 1 = .ok (.invokespecial 3, 3) := dk_183 0 3 (dk_at dksX4_init_0 1 rfl rfl)
theorem dX4_init_4 : decode cX4_init 4 = .ok (.aload_n 0, 1) := dk_42 (dk_at dksX4_init_0 4 rfl rfl)
theorem dX4_init_5 : decode cX4_init 5 = .ok (.iload_n 1, 1) := dk_27 (dk_at dksX4_init_0 5 rfl rfl)
theorem dX4_init_6 : decode cX4_init 6 = .ok (.putfield 9, 3) := dk_181 0 9 (dk_at dksX4_init_0 6 rfl rfl)
theorem dX4_init_9 : decode cX4_init 9 = .ok (.aload_n 0, 1) := dk_42 (dk_at dksX4_init_0 9 rfl rfl)
theorem dX4_init_10 : decode cX4_init 10 = .ok (.iload_n 2, 1) := dk_28 (dk_at dksX4_init_0 10 rfl rfl)
theorem dX4_init_11 : decode cX4_init 11 = .ok (.newarray .int, 2) := dk_188_10 (dk_at dksX4_init_0 11 rfl rfl)
theorem dX4_init_13 : decode cX4_init 13 = .ok (.putfield 15, 3) := dk_181 0 15 (dk_at dksX4_init_0 13 rfl rfl)
theorem dX4_init_16 : decode cX4_init 16 = .ok (.return_, 1) := dk_177 (dk_at dksX4_init_0 16 rfl rfl)
abbrev cX4_cut : ByteArray := prog_12_method_2_code
def yX4_cut : MethodName := ⟨RX4, "cut", "(I)I"⟩
def dkwX4_cut_1 : List UInt8 := [167, 0, 4, 27, 172]
abbrev dktX4_cut_1 : List UInt8 := dkwX4_cut_1 ++ []
def dkwX4_cut_0 : List UInt8 := [42, 180, 0, 9, 154, 0, 8, 27, 145, 167, 0, 17, 42, 180, 0, 9, 4, 160, 0, 8, 27, 147]
abbrev dktX4_cut_0 : List UInt8 := dkwX4_cut_0 ++ dktX4_cut_1
theorem dksX4_cut_0 : cX4_cut.data.toList.drop 0 = dktX4_cut_0 := by decide +kernel
theorem dksX4_cut_1 : cX4_cut.data.toList.drop 22 = dktX4_cut_1 := dk_seg dksX4_cut_0 22 rfl rfl
theorem dX4_cut_0 : decode cX4_cut 0 = .ok (.aload_n 0, 1) := dk_42 (dk_at dksX4_cut_0 0 rfl rfl)
theorem dX4_cut_1 : decode cX4_cut 1 = .ok (.getfield 9, 3) := dk_180 0 9 (dk_at dksX4_cut_0 1 rfl rfl)
theorem dX4_cut_4 : decode cX4_cut 4 = .ok (.ifCond .ne 8, 3) := dk_154 0 8 (dk_at dksX4_cut_0 4 rfl rfl)
theorem dX4_cut_7 : decode cX4_cut 7 = .ok (.iload_n 1, 1) := dk_27 (dk_at dksX4_cut_0 7 rfl rfl)
theorem dX4_cut_8 : decode cX4_cut 8 = .ok (.i2b, 1) := dk_145 (dk_at dksX4_cut_0 8 rfl rfl)
theorem dX4_cut_9 : decode cX4_cut 9 = .ok (.goto 17, 3) := dk_167 0 17 (dk_at dksX4_cut_0 9 rfl rfl)
theorem dX4_cut_12 : decode cX4_cut 12 = .ok (.aload_n 0, 1) := dk_42 (dk_at dksX4_cut_0 12 rfl rfl)
theorem dX4_cut_13 : decode cX4_cut 13 = .ok (.getfield 9, 3) := dk_180 0 9 (dk_at dksX4_cut_0 13 rfl rfl)
theorem dX4_cut_16 : decode cX4_cut 16 = .ok (.iconst 1, 1) := dk_4 (dk_at dksX4_cut_0 16 rfl rfl)
theorem dX4_cut_17 : decode cX4_cut 17 = .ok (.if_icmp .ne 8, 3) := dk_160 0 8 (dk_at dksX4_cut_0 17 rfl rfl)
theorem dX4_cut_20 : decode cX4_cut 20 = .ok (.iload_n 1, 1) := dk_27 (dk_at dksX4_cut_0 20 rfl rfl)
theorem dX4_cut_21 : decode cX4_cut 21 = .ok (.i2s, 1) := dk_147 (dk_at dksX4_cut_0 21 rfl rfl)
theorem dX4_cut_22 : decode cX4_cut 22 = .ok (.goto 4, 3) := dk_167 0 4 (dk_at dksX4_cut_1 0 rfl rfl)
theorem dX4_cut_25 : decode cX4_cut 25 = .ok (.iload_n 1, 1) := dk_27 (dk_at dksX4_cut_1 3 rfl rfl)
theorem dX4_cut_26 : decode cX4_cut 26 = .ok (.ireturn, 1) := dk_172 (dk_at dksX4_cut_1 4 rfl rfl)
abbrev cX4_row : ByteArray := prog_12_method_3_code
def yX4_row : MethodName := ⟨RX4, "row", "(II)[I"⟩
def dkwX4_row_1 : List UInt8 := [5, 184, 0, 19, 28, 188, 10, 78, 42, 180, 0, 15, 27, 45, 3, 28, 184, 0, 23, 45, 176]
abbrev dktX4_row_1 : List UInt8 := dkwX4_row_1 ++ []
def dkwX4_row_0 : List UInt8 := [27, 155, 0, 22, 27, 133, 28, 133, 97, 42, 180, 0, 15, 190, 133, 148, 157, 0, 7, 4, 167, 0, 4, 3]
abbrev dktX4_row_0 : List UInt8 := dkwX4_row_0 ++ dktX4_row_1
theorem dksX4_row_0 : cX4_row.data.toList.drop 0 = dktX4_row_0 := by decide +kernel
theorem dksX4_row_1 : cX4_row.data.toList.drop 24 = dktX4_row_1 := dk_seg dksX4_row_0 24 rfl rfl
theorem dX4_row_0 : decode cX4_row 0 = .ok (.iload_n 1, 1) := dk_27 (dk_at dksX4_row_0 0 rfl rfl)
theorem dX4_row_1 : decode cX4_row 1 = .ok (.ifCond .lt 22, 3) := dk_155 0 22 (dk_at dksX4_row_0 1 rfl rfl)
theorem dX4_row_4 : decode cX4_row 4 = .ok (.iload_n 1, 1) := dk_27 (dk_at dksX4_row_0 4 rfl rfl)
theorem dX4_row_5 : decode cX4_row 5 = .ok (.i2l, 1) := dk_133 (dk_at dksX4_row_0 5 rfl rfl)
theorem dX4_row_6 : decode cX4_row 6 = .ok (.iload_n 2, 1) := dk_28 (dk_at dksX4_row_0 6 rfl rfl)
theorem dX4_row_7 : decode cX4_row 7 = .ok (.i2l, 1) := dk_133 (dk_at dksX4_row_0 7 rfl rfl)
theorem dX4_row_8 : decode cX4_row 8 = .ok (.ladd, 1) := dk_97 (dk_at dksX4_row_0 8 rfl rfl)
theorem dX4_row_9 : decode cX4_row 9 = .ok (.aload_n 0, 1) := dk_42 (dk_at dksX4_row_0 9 rfl rfl)
theorem dX4_row_10 : decode cX4_row 10 = .ok (.getfield 15, 3) := dk_180 0 15 (dk_at dksX4_row_0 10 rfl rfl)
theorem dX4_row_13 : decode cX4_row 13 = .ok (.arraylength, 1) := dk_190 (dk_at dksX4_row_0 13 rfl rfl)
theorem dX4_row_14 : decode cX4_row 14 = .ok (.i2l, 1) := dk_133 (dk_at dksX4_row_0 14 rfl rfl)
theorem dX4_row_15 : decode cX4_row 15 = .ok (.lcmp, 1) := dk_148 (dk_at dksX4_row_0 15 rfl rfl)
theorem dX4_row_16 : decode cX4_row 16 = .ok (.ifCond .gt 7, 3) := dk_157 0 7 (dk_at dksX4_row_0 16 rfl rfl)
theorem dX4_row_19 : decode cX4_row 19 = .ok (.iconst 1, 1) := dk_4 (dk_at dksX4_row_0 19 rfl rfl)
theorem dX4_row_20 : decode cX4_row 20 = .ok (.goto 4, 3) := dk_167 0 4 (dk_at dksX4_row_0 20 rfl rfl)
theorem dX4_row_23 : decode cX4_row 23 = .ok (.iconst 0, 1) := dk_3 (dk_at dksX4_row_0 23 rfl rfl)
theorem dX4_row_24 : decode cX4_row 24 = .ok (.iconst 2, 1) := dk_5 (dk_at dksX4_row_1 0 rfl rfl)
theorem dX4_row_25 : decode cX4_row 25 = .ok (.invokestatic 19, 3) := dk_184 0 19 (dk_at dksX4_row_1 1 rfl rfl)
theorem dX4_row_28 : decode cX4_row 28 = .ok (.iload_n 2, 1) := dk_28 (dk_at dksX4_row_1 4 rfl rfl)
theorem dX4_row_29 : decode cX4_row 29 = .ok (.newarray .int, 2) := dk_188_10 (dk_at dksX4_row_1 5 rfl rfl)
theorem dX4_row_31 : decode cX4_row 31 = .ok (.astore_n 3, 1) := dk_78 (dk_at dksX4_row_1 7 rfl rfl)
theorem dX4_row_32 : decode cX4_row 32 = .ok (.aload_n 0, 1) := dk_42 (dk_at dksX4_row_1 8 rfl rfl)
theorem dX4_row_33 : decode cX4_row 33 = .ok (.getfield 15, 3) := dk_180 0 15 (dk_at dksX4_row_1 9 rfl rfl)
theorem dX4_row_36 : decode cX4_row 36 = .ok (.iload_n 1, 1) := dk_27 (dk_at dksX4_row_1 12 rfl rfl)
theorem dX4_row_37 : decode cX4_row 37 = .ok (.aload_n 3, 1) := dk_45 (dk_at dksX4_row_1 13 rfl rfl)
theorem dX4_row_38 : decode cX4_row 38 = .ok (.iconst 0, 1) := dk_3 (dk_at dksX4_row_1 14 rfl rfl)
theorem dX4_row_39 : decode cX4_row 39 = .ok (.iload_n 2, 1) := dk_28 (dk_at dksX4_row_1 15 rfl rfl)
theorem dX4_row_40 : decode cX4_row 40 = .ok (.invokestatic 23, 3) := dk_184 0 23 (dk_at dksX4_row_1 16 rfl rfl)
theorem dX4_row_43 : decode cX4_row 43 = .ok (.aload_n 3, 1) := dk_45 (dk_at dksX4_row_1 19 rfl rfl)
theorem dX4_row_44 : decode cX4_row 44 = .ok (.areturn, 1) := dk_176 (dk_at dksX4_row_1 20 rfl rfl)
theorem q66 : (Jvm.Cond.initialized "DuskGates$Sheet") ∈ lw_all := lw_g (lw_at lw_m1 10 rfl) rfl
theorem q304 : (Jvm.Cond.instantiable "DuskGates$Sheet" (2 : Nat)) ∈ lw_all := lw_g (lw_at lw_m2 8 rfl) rfl
theorem q306 : (Jvm.Cond.instanceMethod ({ cls := "DuskGates$Sheet", name := "<init>", desc := "(II)V" } : Jvm.MethodName)) ∈ lw_all := lw_g (lw_at lw_m2 10 rfl) rfl
theorem q307 : (Jvm.Cond.code ({ cls := "DuskGates$Sheet", name := "<init>", desc := "(II)V" } : Jvm.MethodName) prog_12_method_1_code (3 : Nat) (Option.none : Option Jvm.ClassFile.FieldType)) ∈ lw_all := lw_g (lw_at lw_m2 11 rfl) rfl
theorem q308 : (Jvm.Cond.methodLink "DuskGates$Sheet" (3 : Nat) ({ cls := "java/lang/Object", name := "<init>", desc := "()V" } : Jvm.MethodName)) ∈ lw_all := lw_g (lw_at lw_m2 12 rfl) rfl
theorem q309 : (Jvm.Cond.fieldLink "DuskGates$Sheet" (9 : Nat) "DuskGates$Sheet" "lane" "I") ∈ lw_all := lw_g (lw_at lw_m2 13 rfl) rfl
theorem q311 : (Jvm.Cond.fieldLink "DuskGates$Sheet" (15 : Nat) "DuskGates$Sheet" "items" "[I") ∈ lw_all := lw_g (lw_at lw_m2 15 rfl) rfl
theorem q313 : (Jvm.Cond.laysFinal "DuskGates$Sheet" "DuskGates$Sheet" "lane" "I") ∈ lw_all := lw_g (lw_at lw_m2 17 rfl) rfl
theorem q314 : (Jvm.Cond.soleField "DuskGates$Sheet" "lane") ∈ lw_all := lw_g (lw_at lw_m2 18 rfl) rfl
theorem q315 : (Jvm.Cond.laysFinal "DuskGates$Sheet" "DuskGates$Sheet" "items" "[I") ∈ lw_all := lw_g (lw_at lw_m2 19 rfl) rfl
theorem q316 : (Jvm.Cond.soleField "DuskGates$Sheet" "items") ∈ lw_all := lw_g (lw_at lw_m2 20 rfl) rfl
theorem q317 : (Jvm.Cond.superclass "DuskGates$Sheet" "java/lang/Object") ∈ lw_all := lw_g (lw_at lw_m2 21 rfl) rfl
theorem q336 : (Jvm.Cond.instanceMethod ({ cls := "DuskGates$Sheet", name := "cut", desc := "(I)I" } : Jvm.MethodName)) ∈ lw_all := lw_g (lw_at lw_m2 40 rfl) rfl
theorem q337 : (Jvm.Cond.selects "DuskGates$Sheet" ({ cls := "DuskGates$Sheet", name := "cut", desc := "(I)I" } : Jvm.MethodName) ({ cls := "DuskGates$Sheet", name := "cut", desc := "(I)I" } : Jvm.MethodName)) ∈ lw_all := lw_g (lw_at lw_m2 41 rfl) rfl
theorem q338 : (Jvm.Cond.code ({ cls := "DuskGates$Sheet", name := "cut", desc := "(I)I" } : Jvm.MethodName) prog_12_method_2_code (2 : Nat) (Option.some Jvm.ClassFile.FieldType.int)) ∈ lw_all := lw_g (lw_at lw_m2 42 rfl) rfl
theorem q775 : (Jvm.Cond.selects "DuskGates$Sheet" ({ cls := "java/lang/Object", name := "getClass", desc := "()Ljava/lang/Class;" } : Jvm.MethodName) ({ cls := "java/lang/Object", name := "getClass", desc := "()Ljava/lang/Class;" } : Jvm.MethodName)) ∈ lw_all := lw_g (lw_at lw_m3 239 rfl) rfl
theorem q844 : (Jvm.Cond.instanceMethod ({ cls := "DuskGates$Sheet", name := "row", desc := "(II)[I" } : Jvm.MethodName)) ∈ lw_all := lw_g (lw_at lw_m4 68 rfl) rfl
theorem q845 : (Jvm.Cond.selects "DuskGates$Sheet" ({ cls := "DuskGates$Sheet", name := "row", desc := "(II)[I" } : Jvm.MethodName) ({ cls := "DuskGates$Sheet", name := "row", desc := "(II)[I" } : Jvm.MethodName)) ∈ lw_all := lw_g (lw_at lw_m4 69 rfl) rfl
theorem q846 : (Jvm.Cond.code ({ cls := "DuskGates$Sheet", name := "row", desc := "(II)[I" } : Jvm.MethodName) prog_12_method_3_code (4 : Nat) (Option.some (Jvm.ClassFile.FieldType.array Jvm.ClassFile.FieldType.int))) ∈ lw_all := lw_g (lw_at lw_m4 70 rfl) rfl
theorem q847 : (Jvm.Cond.methodLinkNest "DuskGates$Sheet" (19 : Nat) ({ cls := "DuskGates", name := "must", desc := "(ZI)V" } : Jvm.MethodName) "DuskGates") ∈ lw_tbl := lw_at lw_m4 71 rfl
theorem q848 : (Jvm.Cond.methodLink "DuskGates$Sheet" (23 : Nat) ({ cls := "java/lang/System", name := "arraycopy", desc := "(Ljava/lang/Object;ILjava/lang/Object;II)V" } : Jvm.MethodName)) ∈ lw_all := lw_g (lw_at lw_m4 72 rfl) rfl
theorem q1979 : (Jvm.Cond.castable "DuskGates$Sheet" "java/lang/Object") ∈ lw_tbl := lw_at lw_m9 3 rfl
theorem in_X4 : ∀ w ∈ wsX40, w ∈ lw_all := lw_in wsX40 [313, 315] (by decide +kernel) (by decide +kernel)

/-! DuskGates$Reader -/
set_option maxRecDepth 100000
def RX5 : String := "DuskGates$Reader"
def TX5 : u_T := fun k => match k with
  | 0 => ("DuskGates$Reader", "text", "[B", true)
  | 1 => ("DuskGates$Reader", "size", "I", true)
  | 2 => ("DuskGates$Reader", "may", "I", true)
  | 3 => ("DuskGates$Reader", "at", "I", false)
  | 4 => ("DuskGates$Reader", "token", "I", false)
  | 5 => ("DuskGates$Reader", "from", "I", false)
  | 6 => ("DuskGates$Reader", "number", "I", false)
  | 7 => ("DuskGates$Reader", "name", "Ljava/lang/String;", false)
  | _ => ("DuskGates$Reader", "made", "Ljava/util/List;", true)
def tyX5 : Nat → FieldType := fun k => match k with
  | 0 => .array .byte
  | 1 => .int
  | 2 => .int
  | 3 => .int
  | 4 => .int
  | 5 => .int
  | 6 => .int
  | 7 => .object "java/lang/String"
  | _ => .object "java/util/List"
abbrev wsX50 : List Cond := u_ws RX5 TX5 9
theorem nmX5 : ∀ a, a < 9 → ∀ b, b < 9 → a ≠ b → (TX5 a).2.1 ≠ (TX5 b).2.1 := by decide +kernel
theorem tyX5_ok : ∀ k, k < 9 → parseFieldDescriptor (TX5 k).2.2.1 = some (tyX5 k) := by decide +kernel
abbrev cX5_init : ByteArray := prog_11_method_1_code
def yX5_init : MethodName := ⟨RX5, "<init>", "([BII)V"⟩
def dkwX5_init_1 : List UInt8 := [181, 0, 24, 42, 28, 181, 0, 28, 42, 29, 181, 0, 32, 177]
abbrev dktX5_init_1 : List UInt8 := dkwX5_init_1 ++ []
def dkwX5_init_0 : List UInt8 := [42, 183, 0, 3, 42, 18, 9, 181, 0, 11, 42, 187, 0, 17, 89, 183, 0, 19, 181, 0, 20, 42, 43]
abbrev dktX5_init_0 : List UInt8 := dkwX5_init_0 ++ dktX5_init_1
theorem dksX5_init_0 : cX5_init.data.toList.drop 0 = dktX5_init_0 := by decide +kernel
theorem dksX5_init_1 : cX5_init.data.toList.drop 23 = dktX5_init_1 := dk_seg dksX5_init_0 23 rfl rfl
theorem dX5_init_0 : decode cX5_init 0 = .ok (.aload_n 0, 1) := dk_42 (dk_at dksX5_init_0 0 rfl rfl)
theorem dX5_init_1 : decode cX5_init 1 = .ok (.invokespecial 3, 3) := dk_183 0 3 (dk_at dksX5_init_0 1 rfl rfl)
theorem dX5_init_4 : decode cX5_init 4 = .ok (.aload_n 0, 1) := dk_42 (dk_at dksX5_init_0 4 rfl rfl)
theorem dX5_init_5 : decode cX5_init 5 = .ok (.ldc 9, 2) := dk_18 9 (dk_at dksX5_init_0 5 rfl rfl)
theorem dX5_init_7 : decode cX5_init 7 = .ok (.putfield 11, 3) := dk_181 0 11 (dk_at dksX5_init_0 7 rfl rfl)
theorem dX5_init_10 : decode cX5_init 10 = .ok (.aload_n 0, 1) := dk_42 (dk_at dksX5_init_0 10 rfl rfl)
theorem dX5_init_11 : decode cX5_init 11 = .ok (.new 17, 3) := dk_187 0 17 (dk_at dksX5_init_0 11 rfl rfl)
theorem dX5_init_14 : decode cX5_init 14 = .ok (.dup, 1) := dk_89 (dk_at dksX5_init_0 14 rfl rfl)
theorem dX5_init_15 : decode cX5_init 15 = .ok (.invokespecial 19, 3) := dk_183 0 19 (dk_at dksX5_init_0 15 rfl rfl)
theorem dX5_init_18 : decode cX5_init 18 = .ok (.putfield 20, 3) := dk_181 0 20 (dk_at dksX5_init_0 18 rfl rfl)
theorem dX5_init_21 : decode cX5_init 21 = .ok (.aload_n 0, 1) := dk_42 (dk_at dksX5_init_0 21 rfl rfl)
theorem dX5_init_22 : decode cX5_init 22 = .ok (.aload_n 1, 1) := dk_43 (dk_at dksX5_init_0 22 rfl rfl)
theorem dX5_init_23 : decode cX5_init 23 = .ok (.putfield 24, 3) := dk_181 0 24 (dk_at dksX5_init_1 0 rfl rfl)
theorem dX5_init_26 : decode cX5_init 26 = .ok (.aload_n 0, 1) := dk_42 (dk_at dksX5_init_1 3 rfl rfl)
theorem dX5_init_27 : decode cX5_init 27 = .ok (.iload_n 2, 1) := dk_28 (dk_at dksX5_init_1 4 rfl rfl)
theorem dX5_init_28 : decode cX5_init 28 = .ok (.putfield 28, 3) := dk_181 0 28 (dk_at dksX5_init_1 5 rfl rfl)
theorem dX5_init_31 : decode cX5_init 31 = .ok (.aload_n 0, 1) := dk_42 (dk_at dksX5_init_1 8 rfl rfl)
theorem dX5_init_32 : decode cX5_init 32 = .ok (.iload_n 3, 1) := dk_29 (dk_at dksX5_init_1 9 rfl rfl)
theorem dX5_init_33 : decode cX5_init 33 = .ok (.putfield 32, 3) := dk_181 0 32 (dk_at dksX5_init_1 10 rfl rfl)
theorem dX5_init_36 : decode cX5_init 36 = .ok (.return_, 1) := dk_177 (dk_at dksX5_init_1 13 rfl rfl)
abbrev cX5_all : ByteArray := prog_11_method_7_code
def yX5_all : MethodName := ⟨RX5, "all", "()V"⟩
def dkwX5_all_5 : List UInt8 := [177]
abbrev dktX5_all_5 : List UInt8 := dkwX5_all_5 ++ []
def dkwX5_all_4 : List UInt8 := [42, 182, 0, 84, 167, 255, 162, 42, 42, 180, 0, 46, 154, 0, 7, 4, 167, 0, 4, 3, 4, 182, 0, 80]
abbrev dktX5_all_4 : List UInt8 := dkwX5_all_4 ++ dktX5_all_5
def dkwX5_all_3 : List UInt8 := [182, 0, 105, 167, 255, 238, 42, 42, 180, 0, 46, 6, 160, 0, 7, 4, 167, 0, 4, 3, 4, 182, 0, 80]
abbrev dktX5_all_3 : List UInt8 := dkwX5_all_3 ++ dktX5_all_4
def dkwX5_all_2 : List UInt8 := [167, 0, 4, 3, 4, 182, 0, 80, 42, 182, 0, 102, 18, 38, 159, 0, 15, 42, 27, 42, 182, 0, 102]
abbrev dktX5_all_2 : List UInt8 := dkwX5_all_2 ++ dktX5_all_3
def dkwX5_all_1 : List UInt8 := [42, 182, 0, 84, 42, 17, 3, 231, 182, 0, 98, 60, 42, 42, 182, 0, 102, 18, 38, 159, 0, 7, 4]
abbrev dktX5_all_1 : List UInt8 := dkwX5_all_1 ++ dktX5_all_2
def dkwX5_all_0 : List UInt8 := [42, 182, 0, 84, 42, 180, 0, 46, 4, 160, 0, 92, 42, 180, 0, 11, 18, 97, 182, 0, 91, 153, 0, 80]
abbrev dktX5_all_0 : List UInt8 := dkwX5_all_0 ++ dktX5_all_1
theorem dksX5_all_0 : cX5_all.data.toList.drop 0 = dktX5_all_0 := by decide +kernel
theorem dksX5_all_1 : cX5_all.data.toList.drop 24 = dktX5_all_1 := dk_seg dksX5_all_0 24 rfl rfl
theorem dksX5_all_2 : cX5_all.data.toList.drop 47 = dktX5_all_2 := dk_seg dksX5_all_1 23 rfl rfl
theorem dksX5_all_3 : cX5_all.data.toList.drop 70 = dktX5_all_3 := dk_seg dksX5_all_2 23 rfl rfl
theorem dksX5_all_4 : cX5_all.data.toList.drop 94 = dktX5_all_4 := dk_seg dksX5_all_3 24 rfl rfl
theorem dksX5_all_5 : cX5_all.data.toList.drop 118 = dktX5_all_5 := dk_seg dksX5_all_4 24 rfl rfl
theorem dX5_all_0 : decode cX5_all 0 = .ok (.aload_n 0, 1) := dk_42 (dk_at dksX5_all_0 0 rfl rfl)
theorem dX5_all_1 : decode cX5_all 1 = .ok (.invokevirtual 84, 3) := dk_182 0 84 (dk_at dksX5_all_0 1 rfl rfl)
theorem dX5_all_4 : decode cX5_all 4 = .ok (.aload_n 0, 1) := dk_42 (dk_at dksX5_all_0 4 rfl rfl)
theorem dX5_all_5 : decode cX5_all 5 = .ok (.getfield 46, 3) := dk_180 0 46 (dk_at dksX5_all_0 5 rfl rfl)
theorem dX5_all_8 : decode cX5_all 8 = .ok (.iconst 1, 1) := dk_4 (dk_at dksX5_all_0 8 rfl rfl)
theorem dX5_all_9 : decode cX5_all 9 = .ok (.if_icmp .ne 92, 3) := dk_160 0 92 (dk_at dksX5_all_0 9 rfl rfl)
theorem dX5_all_12 : decode cX5_all 12 = .ok (.aload_n 0, 1) := dk_42 (dk_at dksX5_all_0 12 rfl rfl)
theorem dX5_all_13 : decode cX5_all 13 = .ok (.getfield 11, 3) := dk_180 0 11 (dk_at dksX5_all_0 13 rfl rfl)
theorem dX5_all_16 : decode cX5_all 16 = .ok (.ldc 97, 2) := dk_18 97 (dk_at dksX5_all_0 16 rfl rfl)
theorem dX5_all_18 : decode cX5_all 18 = .ok (.invokevirtual 91, 3) := dk_182 0 91 (dk_at dksX5_all_0 18 rfl rfl)
theorem dX5_all_21 : decode cX5_all 21 = .ok (.ifCond .eq 80, 3) := dk_153 0 80 (dk_at dksX5_all_0 21 rfl rfl)
theorem dX5_all_24 : decode cX5_all 24 = .ok (.aload_n 0, 1) := dk_42 (dk_at dksX5_all_1 0 rfl rfl)
theorem dX5_all_25 : decode cX5_all 25 = .ok (.invokevirtual 84, 3) := dk_182 0 84 (dk_at dksX5_all_1 1 rfl rfl)
theorem dX5_all_28 : decode cX5_all 28 = .ok (.aload_n 0, 1) := dk_42 (dk_at dksX5_all_1 4 rfl rfl)
theorem dX5_all_29 : decode cX5_all 29 = .ok (.sipush 999, 3) := dk_17 3 231 (dk_at dksX5_all_1 5 rfl rfl)
theorem dX5_all_32 : decode cX5_all 32 = .ok (.invokevirtual 98, 3) := dk_182 0 98 (dk_at dksX5_all_1 8 rfl rfl)
theorem dX5_all_35 : decode cX5_all 35 = .ok (.istore_n 1, 1) := dk_60 (dk_at dksX5_all_1 11 rfl rfl)
theorem dX5_all_36 : decode cX5_all 36 = .ok (.aload_n 0, 1) := dk_42 (dk_at dksX5_all_1 12 rfl rfl)
theorem dX5_all_37 : decode cX5_all 37 = .ok (.aload_n 0, 1) := dk_42 (dk_at dksX5_all_1 13 rfl rfl)
theorem dX5_all_38 : decode cX5_all 38 = .ok (.invokevirtual 102, 3) := dk_182 0 102 (dk_at dksX5_all_1 14 rfl rfl)
theorem dX5_all_41 : decode cX5_all 41 = .ok (.ldc 38, 2) := dk_18 38 (dk_at dksX5_all_1 17 rfl rfl)
theorem dX5_all_43 : decode cX5_all 43 = .ok (.if_icmp .eq 7, 3) := dk_159 0 7 (dk_at dksX5_all_1 19 rfl rfl)
theorem dX5_all_46 : decode cX5_all 46 = .ok (.iconst 1, 1) := dk_4 (dk_at dksX5_all_1 22 rfl rfl)
theorem dX5_all_47 : decode cX5_all 47 = .ok (.goto 4, 3) := dk_167 0 4 (dk_at dksX5_all_2 0 rfl rfl)
theorem dX5_all_50 : decode cX5_all 50 = .ok (.iconst 0, 1) := dk_3 (dk_at dksX5_all_2 3 rfl rfl)
theorem dX5_all_51 : decode cX5_all 51 = .ok (.iconst 1, 1) := dk_4 (dk_at dksX5_all_2 4 rfl rfl)
theorem dX5_all_52 : decode cX5_all 52 = .ok (.invokevirtual 80, 3) := dk_182 0 80 (dk_at dksX5_all_2 5 rfl rfl)
theorem dX5_all_55 : decode cX5_all 55 = .ok (.aload_n 0, 1) := dk_42 (dk_at dksX5_all_2 8 rfl rfl)
theorem dX5_all_56 : decode cX5_all 56 = .ok (.invokevirtual 102, 3) := dk_182 0 102 (dk_at dksX5_all_2 9 rfl rfl)
theorem dX5_all_59 : decode cX5_all 59 = .ok (.ldc 38, 2) := dk_18 38 (dk_at dksX5_all_2 12 rfl rfl)
theorem dX5_all_61 : decode cX5_all 61 = .ok (.if_icmp .eq 15, 3) := dk_159 0 15 (dk_at dksX5_all_2 14 rfl rfl)
theorem dX5_all_64 : decode cX5_all 64 = .ok (.aload_n 0, 1) := dk_42 (dk_at dksX5_all_2 17 rfl rfl)
theorem dX5_all_65 : decode cX5_all 65 = .ok (.iload_n 1, 1) := dk_27 (dk_at dksX5_all_2 18 rfl rfl)
theorem dX5_all_66 : decode cX5_all 66 = .ok (.aload_n 0, 1) := dk_42 (dk_at dksX5_all_2 19 rfl rfl)
theorem dX5_all_67 : decode cX5_all 67 = .ok (.invokevirtual 102, 3) := dk_182 0 102 (dk_at dksX5_all_2 20 rfl rfl)
theorem dX5_all_70 : decode cX5_all 70 = .ok (.invokevirtual 105, 3) := dk_182 0 105 (dk_at dksX5_all_3 0 rfl rfl)
theorem dX5_all_73 : decode cX5_all 73 = .ok (.goto (-18), 3) := dk_167 255 238 (dk_at dksX5_all_3 3 rfl rfl)
theorem dX5_all_76 : decode cX5_all 76 = .ok (.aload_n 0, 1) := dk_42 (dk_at dksX5_all_3 6 rfl rfl)
theorem dX5_all_77 : decode cX5_all 77 = .ok (.aload_n 0, 1) := dk_42 (dk_at dksX5_all_3 7 rfl rfl)
theorem dX5_all_78 : decode cX5_all 78 = .ok (.getfield 46, 3) := dk_180 0 46 (dk_at dksX5_all_3 8 rfl rfl)
theorem dX5_all_81 : decode cX5_all 81 = .ok (.iconst 3, 1) := dk_6 (dk_at dksX5_all_3 11 rfl rfl)
theorem dX5_all_82 : decode cX5_all 82 = .ok (.if_icmp .ne 7, 3) := dk_160 0 7 (dk_at dksX5_all_3 12 rfl rfl)
theorem dX5_all_85 : decode cX5_all 85 = .ok (.iconst 1, 1) := dk_4 (dk_at dksX5_all_3 15 rfl rfl)
theorem dX5_all_86 : decode cX5_all 86 = .ok (.goto 4, 3) := dk_167 0 4 (dk_at dksX5_all_3 16 rfl rfl)
theorem dX5_all_89 : decode cX5_all 89 = .ok (.iconst 0, 1) := dk_3 (dk_at dksX5_all_3 19 rfl rfl)
theorem dX5_all_90 : decode cX5_all 90 = .ok (.iconst 1, 1) := dk_4 (dk_at dksX5_all_3 20 rfl rfl)
theorem dX5_all_91 : decode cX5_all 91 = .ok (.invokevirtual 80, 3) := dk_182 0 80 (dk_at dksX5_all_3 21 rfl rfl)
theorem dX5_all_94 : decode cX5_all 94 = .ok (.aload_n 0, 1) := dk_42 (dk_at dksX5_all_4 0 rfl rfl)
theorem dX5_all_95 : decode cX5_all 95 = .ok (.invokevirtual 84, 3) := dk_182 0 84 (dk_at dksX5_all_4 1 rfl rfl)
theorem dX5_all_98 : decode cX5_all 98 = .ok (.goto (-94), 3) := dk_167 255 162 (dk_at dksX5_all_4 4 rfl rfl)
theorem dX5_all_101 : decode cX5_all 101 = .ok (.aload_n 0, 1) := dk_42 (dk_at dksX5_all_4 7 rfl rfl)
theorem dX5_all_102 : decode cX5_all 102 = .ok (.aload_n 0, 1) := dk_42 (dk_at dksX5_all_4 8 rfl rfl)
theorem dX5_all_103 : decode cX5_all 103 = .ok (.getfield 46, 3) := dk_180 0 46 (dk_at dksX5_all_4 9 rfl rfl)
theorem dX5_all_106 : decode cX5_all 106 = .ok (.ifCond .ne 7, 3) := dk_154 0 7 (dk_at dksX5_all_4 12 rfl rfl)
theorem dX5_all_109 : decode cX5_all 109 = .ok (.iconst 1, 1) := dk_4 (dk_at dksX5_all_4 15 rfl rfl)
theorem dX5_all_110 : decode cX5_all 110 = .ok (.goto 4, 3) := dk_167 0 4 (dk_at dksX5_all_4 16 rfl rfl)
theorem dX5_all_113 : decode cX5_all 113 = .ok (.iconst 0, 1) := dk_3 (dk_at dksX5_all_4 19 rfl rfl)
theorem dX5_all_114 : decode cX5_all 114 = .ok (.iconst 1, 1) := dk_4 (dk_at dksX5_all_4 20 rfl rfl)
theorem dX5_all_115 : decode cX5_all 115 = .ok (.invokevirtual 80, 3) := dk_182 0 80 (dk_at dksX5_all_4 21 rfl rfl)
theorem dX5_all_118 : decode cX5_all 118 = .ok (.return_, 1) := dk_177 (dk_at dksX5_all_5 0 rfl rfl)
abbrev cX5_next : ByteArray := prog_11_method_3_code
def yX5_next : MethodName := ⟨RX5, "next", "()V"⟩
def dkwX5_next_12 : List UInt8 := [167, 0, 4, 7, 181, 0, 46, 177]
abbrev dktX5_next_12 : List UInt8 := dkwX5_next_12 ++ []
def dkwX5_next_11 : List UInt8 := [181, 0, 46, 167, 0, 28, 42, 89, 180, 0, 35, 4, 96, 181, 0, 35, 42, 27, 16, 59, 160, 0, 7, 6]
abbrev dktX5_next_11 : List UInt8 := dkwX5_next_11 ++ dktX5_next_12
def dkwX5_next_10 : List UInt8 := [167, 255, 190, 42, 42, 180, 0, 35, 42, 180, 0, 43, 100, 7, 163, 0, 7, 5, 167, 0, 4, 7]
abbrev dktX5_next_10 : List UInt8 := dkwX5_next_10 ++ dktX5_next_11
def dkwX5_next_9 : List UInt8 := [16, 48, 100, 167, 0, 7, 42, 180, 0, 72, 181, 0, 72, 42, 89, 180, 0, 35, 4, 96, 181, 0, 35]
abbrev dktX5_next_9 : List UInt8 := dkwX5_next_9 ++ dktX5_next_10
def dkwX5_next_8 : List UInt8 := [180, 0, 35, 42, 180, 0, 43, 100, 7, 162, 0, 21, 16, 10, 42, 180, 0, 72, 104, 42, 182, 0, 39, 96]
abbrev dktX5_next_8 : List UInt8 := dkwX5_next_8 ++ dktX5_next_9
def dkwX5_next_7 : List UInt8 := [181, 0, 72, 42, 182, 0, 39, 133, 20, 0, 68, 20, 0, 70, 184, 0, 53, 153, 0, 55, 42, 42]
abbrev dktX5_next_7 : List UInt8 := dkwX5_next_7 ++ dktX5_next_8
def dkwX5_next_6 : List UInt8 := [181, 0, 46, 167, 0, 141, 27, 133, 20, 0, 68, 20, 0, 70, 184, 0, 53, 153, 0, 102, 42, 3]
abbrev dktX5_next_6 : List UInt8 := dkwX5_next_6 ++ dktX5_next_7
def dkwX5_next_5 : List UInt8 := [17, 0, 255, 126, 146, 182, 0, 60, 87, 167, 255, 213, 42, 44, 182, 0, 64, 181, 0, 11, 42, 4]
abbrev dktX5_next_5 : List UInt8 := dkwX5_next_5 ++ dktX5_next_6
def dkwX5_next_4 : List UInt8 := [184, 0, 53, 153, 0, 32, 44, 42, 180, 0, 24, 42, 89, 180, 0, 35, 90, 4, 96, 181, 0, 35, 51]
abbrev dktX5_next_4 : List UInt8 := dkwX5_next_4 ++ dktX5_next_5
def dkwX5_next_3 : List UInt8 := [153, 0, 73, 187, 0, 57, 89, 183, 0, 59, 77, 42, 182, 0, 39, 133, 20, 0, 49, 20, 0, 51]
abbrev dktX5_next_3 : List UInt8 := dkwX5_next_3 ++ dktX5_next_4
def dkwX5_next_2 : List UInt8 := [160, 0, 11, 42, 3, 181, 0, 46, 167, 0, 225, 27, 133, 20, 0, 49, 20, 0, 51, 184, 0, 53]
abbrev dktX5_next_2 : List UInt8 := dkwX5_next_2 ++ dktX5_next_3
def dkwX5_next_1 : List UInt8 := [96, 181, 0, 35, 167, 255, 228, 42, 42, 180, 0, 35, 181, 0, 43, 42, 182, 0, 39, 60, 27, 18, 38]
abbrev dktX5_next_1 : List UInt8 := dkwX5_next_1 ++ dktX5_next_2
def dkwX5_next_0 : List UInt8 := [42, 182, 0, 39, 16, 32, 159, 0, 12, 42, 182, 0, 39, 16, 10, 160, 0, 16, 42, 89, 180, 0, 35, 4]
abbrev dktX5_next_0 : List UInt8 := dkwX5_next_0 ++ dktX5_next_1
theorem dksX5_next_0 : cX5_next.data.toList.drop 0 = dktX5_next_0 := by decide +kernel
theorem dksX5_next_1 : cX5_next.data.toList.drop 24 = dktX5_next_1 := dk_seg dksX5_next_0 24 rfl rfl
theorem dksX5_next_2 : cX5_next.data.toList.drop 47 = dktX5_next_2 := dk_seg dksX5_next_1 23 rfl rfl
theorem dksX5_next_3 : cX5_next.data.toList.drop 69 = dktX5_next_3 := dk_seg dksX5_next_2 22 rfl rfl
theorem dksX5_next_4 : cX5_next.data.toList.drop 91 = dktX5_next_4 := dk_seg dksX5_next_3 22 rfl rfl
theorem dksX5_next_5 : cX5_next.data.toList.drop 114 = dktX5_next_5 := dk_seg dksX5_next_4 23 rfl rfl
theorem dksX5_next_6 : cX5_next.data.toList.drop 136 = dktX5_next_6 := dk_seg dksX5_next_5 22 rfl rfl
theorem dksX5_next_7 : cX5_next.data.toList.drop 158 = dktX5_next_7 := dk_seg dksX5_next_6 22 rfl rfl
theorem dksX5_next_8 : cX5_next.data.toList.drop 180 = dktX5_next_8 := dk_seg dksX5_next_7 22 rfl rfl
theorem dksX5_next_9 : cX5_next.data.toList.drop 204 = dktX5_next_9 := dk_seg dksX5_next_8 24 rfl rfl
theorem dksX5_next_10 : cX5_next.data.toList.drop 227 = dktX5_next_10 := dk_seg dksX5_next_9 23 rfl rfl
theorem dksX5_next_11 : cX5_next.data.toList.drop 249 = dktX5_next_11 := dk_seg dksX5_next_10 22 rfl rfl
theorem dksX5_next_12 : cX5_next.data.toList.drop 273 = dktX5_next_12 := dk_seg dksX5_next_11 24 rfl rfl
theorem dX5_next_0 : decode cX5_next 0 = .ok (.aload_n 0, 1) := dk_42 (dk_at dksX5_next_0 0 rfl rfl)
theorem dX5_next_1 : decode cX5_next 1 = .ok (.invokevirtual 39, 3) := dk_182 0 39 (dk_at dksX5_next_0 1 rfl rfl)
theorem dX5_next_4 : decode cX5_next 4 = .ok (.bipush 32, 2) := dk_16 32 (dk_at dksX5_next_0 4 rfl rfl)
theorem dX5_next_6 : decode cX5_next 6 = .ok (.if_icmp .eq 12, 3) := dk_159 0 12 (dk_at dksX5_next_0 6 rfl rfl)
theorem dX5_next_9 : decode cX5_next 9 = .ok (.aload_n 0, 1) := dk_42 (dk_at dksX5_next_0 9 rfl rfl)
theorem dX5_next_10 : decode cX5_next 10 = .ok (.invokevirtual 39, 3) := dk_182 0 39 (dk_at dksX5_next_0 10 rfl rfl)
theorem dX5_next_13 : decode cX5_next 13 = .ok (.bipush 10, 2) := dk_16 10 (dk_at dksX5_next_0 13 rfl rfl)
theorem dX5_next_15 : decode cX5_next 15 = .ok (.if_icmp .ne 16, 3) := dk_160 0 16 (dk_at dksX5_next_0 15 rfl rfl)
theorem dX5_next_18 : decode cX5_next 18 = .ok (.aload_n 0, 1) := dk_42 (dk_at dksX5_next_0 18 rfl rfl)
theorem dX5_next_19 : decode cX5_next 19 = .ok (.dup, 1) := dk_89 (dk_at dksX5_next_0 19 rfl rfl)
theorem dX5_next_20 : decode cX5_next 20 = .ok (.getfield 35, 3) := dk_180 0 35 (dk_at dksX5_next_0 20 rfl rfl)
theorem dX5_next_23 : decode cX5_next 23 = .ok (.iconst 1, 1) := dk_4 (dk_at dksX5_next_0 23 rfl rfl)
theorem dX5_next_24 : decode cX5_next 24 = .ok (.iadd, 1) := dk_96 (dk_at dksX5_next_1 0 rfl rfl)
theorem dX5_next_25 : decode cX5_next 25 = .ok (.putfield 35, 3) := dk_181 0 35 (dk_at dksX5_next_1 1 rfl rfl)
theorem dX5_next_28 : decode cX5_next 28 = .ok (.goto (-28), 3) := dk_167 255 228 (dk_at dksX5_next_1 4 rfl rfl)
theorem dX5_next_31 : decode cX5_next 31 = .ok (.aload_n 0, 1) := dk_42 (dk_at dksX5_next_1 7 rfl rfl)
theorem dX5_next_32 : decode cX5_next 32 = .ok (.aload_n 0, 1) := dk_42 (dk_at dksX5_next_1 8 rfl rfl)
theorem dX5_next_33 : decode cX5_next 33 = .ok (.getfield 35, 3) := dk_180 0 35 (dk_at dksX5_next_1 9 rfl rfl)
theorem dX5_next_36 : decode cX5_next 36 = .ok (.putfield 43, 3) := dk_181 0 43 (dk_at dksX5_next_1 12 rfl rfl)
theorem dX5_next_39 : decode cX5_next 39 = .ok (.aload_n 0, 1) := dk_42 (dk_at dksX5_next_1 15 rfl rfl)
theorem dX5_next_40 : decode cX5_next 40 = .ok (.invokevirtual 39, 3) := dk_182 0 39 (dk_at dksX5_next_1 16 rfl rfl)
theorem dX5_next_43 : decode cX5_next 43 = .ok (.istore_n 1, 1) := dk_60 (dk_at dksX5_next_1 19 rfl rfl)
theorem dX5_next_44 : decode cX5_next 44 = .ok (.iload_n 1, 1) := dk_27 (dk_at dksX5_next_1 20 rfl rfl)
theorem dX5_next_45 : decode cX5_next 45 = .ok (.ldc 38, 2) := dk_18 38 (dk_at dksX5_next_1 21 rfl rfl)
theorem dX5_next_47 : decode cX5_next 47 = .ok (.if_icmp .ne 11, 3) := dk_160 0 11 (dk_at dksX5_next_2 0 rfl rfl)
theorem dX5_next_50 : decode cX5_next 50 = .ok (.aload_n 0, 1) := dk_42 (dk_at dksX5_next_2 3 rfl rfl)
theorem dX5_next_51 : decode cX5_next 51 = .ok (.iconst 0, 1) := dk_3 (dk_at dksX5_next_2 4 rfl rfl)
theorem dX5_next_52 : decode cX5_next 52 = .ok (.putfield 46, 3) := dk_181 0 46 (dk_at dksX5_next_2 5 rfl rfl)
theorem dX5_next_55 : decode cX5_next 55 = .ok (.goto 225, 3) := dk_167 0 225 (dk_at dksX5_next_2 8 rfl rfl)
theorem dX5_next_58 : decode cX5_next 58 = .ok (.iload_n 1, 1) := dk_27 (dk_at dksX5_next_2 11 rfl rfl)
theorem dX5_next_59 : decode cX5_next 59 = .ok (.i2l, 1) := dk_133 (dk_at dksX5_next_2 12 rfl rfl)
theorem dX5_next_60 : decode cX5_next 60 = .ok (.ldc2_w 49, 3) := dk_20 0 49 (dk_at dksX5_next_2 13 rfl rfl)
theorem dX5_next_63 : decode cX5_next 63 = .ok (.ldc2_w 51, 3) := dk_20 0 51 (dk_at dksX5_next_2 16 rfl rfl)
theorem dX5_next_66 : decode cX5_next 66 = .ok (.invokestatic 53, 3) := dk_184 0 53 (dk_at dksX5_next_2 19 rfl rfl)
theorem dX5_next_69 : decode cX5_next 69 = .ok (.ifCond .eq 73, 3) := dk_153 0 73 (dk_at dksX5_next_3 0 rfl rfl)
theorem dX5_next_72 : decode cX5_next 72 = .ok (.new 57, 3) := dk_187 0 57 (dk_at dksX5_next_3 3 rfl rfl)
theorem dX5_next_75 : decode cX5_next 75 = .ok (.dup, 1) := dk_89 (dk_at dksX5_next_3 6 rfl rfl)
theorem dX5_next_76 : decode cX5_next 76 = .ok (.invokespecial 59, 3) := dk_183 0 59 (dk_at dksX5_next_3 7 rfl rfl)
theorem dX5_next_79 : decode cX5_next 79 = .ok (.astore_n 2, 1) := dk_77 (dk_at dksX5_next_3 10 rfl rfl)
theorem dX5_next_80 : decode cX5_next 80 = .ok (.aload_n 0, 1) := dk_42 (dk_at dksX5_next_3 11 rfl rfl)
theorem dX5_next_81 : decode cX5_next 81 = .ok (.invokevirtual 39, 3) := dk_182 0 39 (dk_at dksX5_next_3 12 rfl rfl)
theorem dX5_next_84 : decode cX5_next 84 = .ok (.i2l, 1) := dk_133 (dk_at dksX5_next_3 15 rfl rfl)
theorem dX5_next_85 : decode cX5_next 85 = .ok (.ldc2_w 49, 3) := dk_20 0 49 (dk_at dksX5_next_3 16 rfl rfl)
theorem dX5_next_88 : decode cX5_next 88 = .ok (.ldc2_w 51, 3) := dk_20 0 51 (dk_at dksX5_next_3 19 rfl rfl)
theorem dX5_next_91 : decode cX5_next 91 = .ok (.invokestatic 53, 3) := dk_184 0 53 (dk_at dksX5_next_4 0 rfl rfl)
theorem dX5_next_94 : decode cX5_next 94 = .ok (.ifCond .eq 32, 3) := dk_153 0 32 (dk_at dksX5_next_4 3 rfl rfl)
theorem dX5_next_97 : decode cX5_next 97 = .ok (.aload_n 2, 1) := dk_44 (dk_at dksX5_next_4 6 rfl rfl)
theorem dX5_next_98 : decode cX5_next 98 = .ok (.aload_n 0, 1) := dk_42 (dk_at dksX5_next_4 7 rfl rfl)
theorem dX5_next_99 : decode cX5_next 99 = .ok (.getfield 24, 3) := dk_180 0 24 (dk_at dksX5_next_4 8 rfl rfl)
theorem dX5_next_102 : decode cX5_next 102 = .ok (.aload_n 0, 1) := dk_42 (dk_at dksX5_next_4 11 rfl rfl)
theorem dX5_next_103 : decode cX5_next 103 = .ok (.dup, 1) := dk_89 (dk_at dksX5_next_4 12 rfl rfl)
theorem dX5_next_104 : decode cX5_next 104 = .ok (.getfield 35, 3) := dk_180 0 35 (dk_at dksX5_next_4 13 rfl rfl)
theorem dX5_next_107 : decode cX5_next 107 = .ok (.dup_x1, 1) := dk_90 (dk_at dksX5_next_4 16 rfl rfl)
theorem dX5_next_108 : decode cX5_next 108 = .ok (.iconst 1, 1) := dk_4 (dk_at dksX5_next_4 17 rfl rfl)
theorem dX5_next_109 : decode cX5_next 109 = .ok (.iadd, 1) := dk_96 (dk_at dksX5_next_4 18 rfl rfl)
theorem dX5_next_110 : decode cX5_next 110 = .ok (.putfield 35, 3) := dk_181 0 35 (dk_at dksX5_next_4 19 rfl rfl)
theorem dX5_next_113 : decode cX5_next 113 = .ok (.baload, 1) := dk_51 (dk_at dksX5_next_4 22 rfl rfl)
theorem dX5_next_114 : decode cX5_next 114 = .ok (.sipush 255, 3) := dk_17 0 255 (dk_at dksX5_next_5 0 rfl rfl)
theorem dX5_next_117 : decode cX5_next 117 = .ok (.iand, 1) := dk_126 (dk_at dksX5_next_5 3 rfl rfl)
theorem dX5_next_118 : decode cX5_next 118 = .ok (.i2c, 1) := dk_146 (dk_at dksX5_next_5 4 rfl rfl)
theorem dX5_next_119 : decode cX5_next 119 = .ok (.invokevirtual 60, 3) := dk_182 0 60 (dk_at dksX5_next_5 5 rfl rfl)
theorem dX5_next_122 : decode cX5_next 122 = .ok (.pop, 1) := dk_87 (dk_at dksX5_next_5 8 rfl rfl)
theorem dX5_next_123 : decode cX5_next 123 = .ok (.goto (-43), 3) := dk_167 255 213 (dk_at dksX5_next_5 9 rfl rfl)
theorem dX5_next_126 : decode cX5_next 126 = .ok (.aload_n 0, 1) := dk_42 (dk_at dksX5_next_5 12 rfl rfl)
theorem dX5_next_127 : decode cX5_next 127 = .ok (.aload_n 2, 1) := dk_44 (dk_at dksX5_next_5 13 rfl rfl)
theorem dX5_next_128 : decode cX5_next 128 = .ok (.invokevirtual 64, 3) := dk_182 0 64 (dk_at dksX5_next_5 14 rfl rfl)
theorem dX5_next_131 : decode cX5_next 131 = .ok (.putfield 11, 3) := dk_181 0 11 (dk_at dksX5_next_5 17 rfl rfl)
theorem dX5_next_134 : decode cX5_next 134 = .ok (.aload_n 0, 1) := dk_42 (dk_at dksX5_next_5 20 rfl rfl)
theorem dX5_next_135 : decode cX5_next 135 = .ok (.iconst 1, 1) := dk_4 (dk_at dksX5_next_5 21 rfl rfl)
theorem dX5_next_136 : decode cX5_next 136 = .ok (.putfield 46, 3) := dk_181 0 46 (dk_at dksX5_next_6 0 rfl rfl)
theorem dX5_next_139 : decode cX5_next 139 = .ok (.goto 141, 3) := dk_167 0 141 (dk_at dksX5_next_6 3 rfl rfl)
theorem dX5_next_142 : decode cX5_next 142 = .ok (.iload_n 1, 1) := dk_27 (dk_at dksX5_next_6 6 rfl rfl)
theorem dX5_next_143 : decode cX5_next 143 = .ok (.i2l, 1) := dk_133 (dk_at dksX5_next_6 7 rfl rfl)
theorem dX5_next_144 : decode cX5_next 144 = .ok (.ldc2_w 68, 3) := dk_20 0 68 (dk_at dksX5_next_6 8 rfl rfl)
theorem dX5_next_147 : decode cX5_next 147 = .ok (.ldc2_w 70, 3) := dk_20 0 70 (dk_at dksX5_next_6 11 rfl rfl)
theorem dX5_next_150 : decode cX5_next 150 = .ok (.invokestatic 53, 3) := dk_184 0 53 (dk_at dksX5_next_6 14 rfl rfl)
theorem dX5_next_153 : decode cX5_next 153 = .ok (.ifCond .eq 102, 3) := dk_153 0 102 (dk_at dksX5_next_6 17 rfl rfl)
theorem dX5_next_156 : decode cX5_next 156 = .ok (.aload_n 0, 1) := dk_42 (dk_at dksX5_next_6 20 rfl rfl)
theorem dX5_next_157 : decode cX5_next 157 = .ok (.iconst 0, 1) := dk_3 (dk_at dksX5_next_6 21 rfl rfl)
theorem dX5_next_158 : decode cX5_next 158 = .ok (.putfield 72, 3) := dk_181 0 72 (dk_at dksX5_next_7 0 rfl rfl)
theorem dX5_next_161 : decode cX5_next 161 = .ok (.aload_n 0, 1) := dk_42 (dk_at dksX5_next_7 3 rfl rfl)
theorem dX5_next_162 : decode cX5_next 162 = .ok (.invokevirtual 39, 3) := dk_182 0 39 (dk_at dksX5_next_7 4 rfl rfl)
theorem dX5_next_165 : decode cX5_next 165 = .ok (.i2l, 1) := dk_133 (dk_at dksX5_next_7 7 rfl rfl)
theorem dX5_next_166 : decode cX5_next 166 = .ok (.ldc2_w 68, 3) := dk_20 0 68 (dk_at dksX5_next_7 8 rfl rfl)
theorem dX5_next_169 : decode cX5_next 169 = .ok (.ldc2_w 70, 3) := dk_20 0 70 (dk_at dksX5_next_7 11 rfl rfl)
theorem dX5_next_172 : decode cX5_next 172 = .ok (.invokestatic 53, 3) := dk_184 0 53 (dk_at dksX5_next_7 14 rfl rfl)
theorem dX5_next_175 : decode cX5_next 175 = .ok (.ifCond .eq 55, 3) := dk_153 0 55 (dk_at dksX5_next_7 17 rfl rfl)
theorem dX5_next_178 : decode cX5_next 178 = .ok (.aload_n 0, 1) := dk_42 (dk_at dksX5_next_7 20 rfl rfl)
theorem dX5_next_179 : decode cX5_next 179 = .ok (.aload_n 0, 1) := dk_42 (dk_at dksX5_next_7 21 rfl rfl)
theorem dX5_next_180 : decode cX5_next 180 = .ok (.getfield 35, 3) := dk_180 0 35 (dk_at dksX5_next_8 0 rfl rfl)
theorem dX5_next_183 : decode cX5_next 183 = .ok (.aload_n 0, 1) := dk_42 (dk_at dksX5_next_8 3 rfl rfl)
theorem dX5_next_184 : decode cX5_next 184 = .ok (.getfield 43, 3) := dk_180 0 43 (dk_at dksX5_next_8 4 rfl rfl)
theorem dX5_next_187 : decode cX5_next 187 = .ok (.isub, 1) := dk_100 (dk_at dksX5_next_8 7 rfl rfl)
theorem dX5_next_188 : decode cX5_next 188 = .ok (.iconst 4, 1) := dk_7 (dk_at dksX5_next_8 8 rfl rfl)
theorem dX5_next_189 : decode cX5_next 189 = .ok (.if_icmp .ge 21, 3) := dk_162 0 21 (dk_at dksX5_next_8 9 rfl rfl)
theorem dX5_next_192 : decode cX5_next 192 = .ok (.bipush 10, 2) := dk_16 10 (dk_at dksX5_next_8 12 rfl rfl)
theorem dX5_next_194 : decode cX5_next 194 = .ok (.aload_n 0, 1) := dk_42 (dk_at dksX5_next_8 14 rfl rfl)
theorem dX5_next_195 : decode cX5_next 195 = .ok (.getfield 72, 3) := dk_180 0 72 (dk_at dksX5_next_8 15 rfl rfl)
theorem dX5_next_198 : decode cX5_next 198 = .ok (.imul, 1) := dk_104 (dk_at dksX5_next_8 18 rfl rfl)
theorem dX5_next_199 : decode cX5_next 199 = .ok (.aload_n 0, 1) := dk_42 (dk_at dksX5_next_8 19 rfl rfl)
theorem dX5_next_200 : decode cX5_next 200 = .ok (.invokevirtual 39, 3) := dk_182 0 39 (dk_at dksX5_next_8 20 rfl rfl)
theorem dX5_next_203 : decode cX5_next 203 = .ok (.iadd, 1) := dk_96 (dk_at dksX5_next_8 23 rfl rfl)
theorem dX5_next_204 : decode cX5_next 204 = .ok (.bipush 48, 2) := dk_16 48 (dk_at dksX5_next_9 0 rfl rfl)
theorem dX5_next_206 : decode cX5_next 206 = .ok (.isub, 1) := dk_100 (dk_at dksX5_next_9 2 rfl rfl)
theorem dX5_next_207 : decode cX5_next 207 = .ok (.goto 7, 3) := dk_167 0 7 (dk_at dksX5_next_9 3 rfl rfl)
theorem dX5_next_210 : decode cX5_next 210 = .ok (.aload_n 0, 1) := dk_42 (dk_at dksX5_next_9 6 rfl rfl)
theorem dX5_next_211 : decode cX5_next 211 = .ok (.getfield 72, 3) := dk_180 0 72 (dk_at dksX5_next_9 7 rfl rfl)
theorem dX5_next_214 : decode cX5_next 214 = .ok (.putfield 72, 3) := dk_181 0 72 (dk_at dksX5_next_9 10 rfl rfl)
theorem dX5_next_217 : decode cX5_next 217 = .ok (.aload_n 0, 1) := dk_42 (dk_at dksX5_next_9 13 rfl rfl)
theorem dX5_next_218 : decode cX5_next 218 = .ok (.dup, 1) := dk_89 (dk_at dksX5_next_9 14 rfl rfl)
theorem dX5_next_219 : decode cX5_next 219 = .ok (.getfield 35, 3) := dk_180 0 35 (dk_at dksX5_next_9 15 rfl rfl)
theorem dX5_next_222 : decode cX5_next 222 = .ok (.iconst 1, 1) := dk_4 (dk_at dksX5_next_9 18 rfl rfl)
theorem dX5_next_223 : decode cX5_next 223 = .ok (.iadd, 1) := dk_96 (dk_at dksX5_next_9 19 rfl rfl)
theorem dX5_next_224 : decode cX5_next 224 = .ok (.putfield 35, 3) := dk_181 0 35 (dk_at dksX5_next_9 20 rfl rfl)
theorem dX5_next_227 : decode cX5_next 227 = .ok (.goto (-66), 3) := dk_167 255 190 (dk_at dksX5_next_10 0 rfl rfl)
theorem dX5_next_230 : decode cX5_next 230 = .ok (.aload_n 0, 1) := dk_42 (dk_at dksX5_next_10 3 rfl rfl)
theorem dX5_next_231 : decode cX5_next 231 = .ok (.aload_n 0, 1) := dk_42 (dk_at dksX5_next_10 4 rfl rfl)
theorem dX5_next_232 : decode cX5_next 232 = .ok (.getfield 35, 3) := dk_180 0 35 (dk_at dksX5_next_10 5 rfl rfl)
theorem dX5_next_235 : decode cX5_next 235 = .ok (.aload_n 0, 1) := dk_42 (dk_at dksX5_next_10 8 rfl rfl)
theorem dX5_next_236 : decode cX5_next 236 = .ok (.getfield 43, 3) := dk_180 0 43 (dk_at dksX5_next_10 9 rfl rfl)
theorem dX5_next_239 : decode cX5_next 239 = .ok (.isub, 1) := dk_100 (dk_at dksX5_next_10 12 rfl rfl)
theorem dX5_next_240 : decode cX5_next 240 = .ok (.iconst 4, 1) := dk_7 (dk_at dksX5_next_10 13 rfl rfl)
theorem dX5_next_241 : decode cX5_next 241 = .ok (.if_icmp .gt 7, 3) := dk_163 0 7 (dk_at dksX5_next_10 14 rfl rfl)
theorem dX5_next_244 : decode cX5_next 244 = .ok (.iconst 2, 1) := dk_5 (dk_at dksX5_next_10 17 rfl rfl)
theorem dX5_next_245 : decode cX5_next 245 = .ok (.goto 4, 3) := dk_167 0 4 (dk_at dksX5_next_10 18 rfl rfl)
theorem dX5_next_248 : decode cX5_next 248 = .ok (.iconst 4, 1) := dk_7 (dk_at dksX5_next_10 21 rfl rfl)
theorem dX5_next_249 : decode cX5_next 249 = .ok (.putfield 46, 3) := dk_181 0 46 (dk_at dksX5_next_11 0 rfl rfl)
theorem dX5_next_252 : decode cX5_next 252 = .ok (.goto 28, 3) := dk_167 0 28 (dk_at dksX5_next_11 3 rfl rfl)
theorem dX5_next_255 : decode cX5_next 255 = .ok (.aload_n 0, 1) := dk_42 (dk_at dksX5_next_11 6 rfl rfl)
theorem dX5_next_256 : decode cX5_next 256 = .ok (.dup, 1) := dk_89 (dk_at dksX5_next_11 7 rfl rfl)
theorem dX5_next_257 : decode cX5_next 257 = .ok (.getfield 35, 3) := dk_180 0 35 (dk_at dksX5_next_11 8 rfl rfl)
theorem dX5_next_260 : decode cX5_next 260 = .ok (.iconst 1, 1) := dk_4 (dk_at dksX5_next_11 11 rfl rfl)
theorem dX5_next_261 : decode cX5_next 261 = .ok (.iadd, 1) := dk_96 (dk_at dksX5_next_11 12 rfl rfl)
theorem dX5_next_262 : decode cX5_next 262 = .ok (.putfield 35, 3) := dk_181 0 35 (dk_at dksX5_next_11 13 rfl rfl)
theorem dX5_next_265 : decode cX5_next 265 = .ok (.aload_n 0, 1) := dk_42 (dk_at dksX5_next_11 16 rfl rfl)
theorem dX5_next_266 : decode cX5_next 266 = .ok (.iload_n 1, 1) := dk_27 (dk_at dksX5_next_11 17 rfl rfl)
theorem dX5_next_267 : decode cX5_next 267 = .ok (.bipush 59, 2) := dk_16 59 (dk_at dksX5_next_11 18 rfl rfl)
theorem dX5_next_269 : decode cX5_next 269 = .ok (.if_icmp .ne 7, 3) := dk_160 0 7 (dk_at dksX5_next_11 20 rfl rfl)
theorem dX5_next_272 : decode cX5_next 272 = .ok (.iconst 3, 1) := dk_6 (dk_at dksX5_next_11 23 rfl rfl)
theorem dX5_next_273 : decode cX5_next 273 = .ok (.goto 4, 3) := dk_167 0 4 (dk_at dksX5_next_12 0 rfl rfl)
theorem dX5_next_276 : decode cX5_next 276 = .ok (.iconst 4, 1) := dk_7 (dk_at dksX5_next_12 3 rfl rfl)
theorem dX5_next_277 : decode cX5_next 277 = .ok (.putfield 46, 3) := dk_181 0 46 (dk_at dksX5_next_12 4 rfl rfl)
theorem dX5_next_280 : decode cX5_next 280 = .ok (.return_, 1) := dk_177 (dk_at dksX5_next_12 7 rfl rfl)
abbrev cX5_look : ByteArray := prog_11_method_2_code
def yX5_look : MethodName := ⟨RX5, "look", "()I"⟩
def dkwX5_look_1 : List UInt8 := [167, 0, 5, 18, 38, 172]
abbrev dktX5_look_1 : List UInt8 := dkwX5_look_1 ++ []
def dkwX5_look_0 : List UInt8 := [42, 180, 0, 35, 42, 180, 0, 28, 162, 0, 19, 42, 180, 0, 24, 42, 180, 0, 35, 51, 17, 0, 255, 126]
abbrev dktX5_look_0 : List UInt8 := dkwX5_look_0 ++ dktX5_look_1
theorem dksX5_look_0 : cX5_look.data.toList.drop 0 = dktX5_look_0 := by decide +kernel
theorem dksX5_look_1 : cX5_look.data.toList.drop 24 = dktX5_look_1 := dk_seg dksX5_look_0 24 rfl rfl
theorem dX5_look_0 : decode cX5_look 0 = .ok (.aload_n 0, 1) := dk_42 (dk_at dksX5_look_0 0 rfl rfl)
theorem dX5_look_1 : decode cX5_look 1 = .ok (.getfield 35, 3) := dk_180 0 35 (dk_at dksX5_look_0 1 rfl rfl)
theorem dX5_look_4 : decode cX5_look 4 = .ok (.aload_n 0, 1) := dk_42 (dk_at dksX5_look_0 4 rfl rfl)
theorem dX5_look_5 : decode cX5_look 5 = .ok (.getfield 28, 3) := dk_180 0 28 (dk_at dksX5_look_0 5 rfl rfl)
theorem dX5_look_8 : decode cX5_look 8 = .ok (.if_icmp .ge 19, 3) := dk_162 0 19 (dk_at dksX5_look_0 8 rfl rfl)
theorem dX5_look_11 : decode cX5_look 11 = .ok (.aload_n 0, 1) := dk_42 (dk_at dksX5_look_0 11 rfl rfl)
theorem dX5_look_12 : decode cX5_look 12 = .ok (.getfield 24, 3) := dk_180 0 24 (dk_at dksX5_look_0 12 rfl rfl)
theorem dX5_look_15 : decode cX5_look 15 = .ok (.aload_n 0, 1) := dk_42 (dk_at dksX5_look_0 15 rfl rfl)
theorem dX5_look_16 : decode cX5_look 16 = .ok (.getfield 35, 3) := dk_180 0 35 (dk_at dksX5_look_0 16 rfl rfl)
theorem dX5_look_19 : decode cX5_look 19 = .ok (.baload, 1) := dk_51 (dk_at dksX5_look_0 19 rfl rfl)
theorem dX5_look_20 : decode cX5_look 20 = .ok (.sipush 255, 3) := dk_17 0 255 (dk_at dksX5_look_0 20 rfl rfl)
theorem dX5_look_23 : decode cX5_look 23 = .ok (.iand, 1) := dk_126 (dk_at dksX5_look_0 23 rfl rfl)
theorem dX5_look_24 : decode cX5_look 24 = .ok (.goto 5, 3) := dk_167 0 5 (dk_at dksX5_look_1 0 rfl rfl)
theorem dX5_look_27 : decode cX5_look 27 = .ok (.ldc 38, 2) := dk_18 38 (dk_at dksX5_look_1 3 rfl rfl)
theorem dX5_look_29 : decode cX5_look 29 = .ok (.ireturn, 1) := dk_172 (dk_at dksX5_look_1 5 rfl rfl)
abbrev cX5_figure : ByteArray := prog_11_method_5_code
def yX5_figure : MethodName := ⟨RX5, "figure", "(I)I"⟩
def dkwX5_figure_1 : List UInt8 := [163, 0, 7, 4, 167, 0, 4, 3, 5, 182, 0, 80, 42, 180, 0, 72, 61, 42, 182, 0, 84, 28, 172]
abbrev dktX5_figure_1 : List UInt8 := dkwX5_figure_1 ++ []
def dkwX5_figure_0 : List UInt8 := [42, 42, 180, 0, 46, 5, 160, 0, 7, 4, 167, 0, 4, 3, 4, 182, 0, 80, 42, 42, 180, 0, 72, 27]
abbrev dktX5_figure_0 : List UInt8 := dkwX5_figure_0 ++ dktX5_figure_1
theorem dksX5_figure_0 : cX5_figure.data.toList.drop 0 = dktX5_figure_0 := by decide +kernel
theorem dksX5_figure_1 : cX5_figure.data.toList.drop 24 = dktX5_figure_1 := dk_seg dksX5_figure_0 24 rfl rfl
theorem dX5_figure_0 : decode cX5_figure 0 = .ok (.aload_n 0, 1) := dk_42 (dk_at dksX5_figure_0 0 rfl rfl)
theorem dX5_figure_1 : decode cX5_figure 1 = .ok (.aload_n 0, 1) := dk_42 (dk_at dksX5_figure_0 1 rfl rfl)
theorem dX5_figure_2 : decode cX5_figure 2 = .ok (.getfield 46, 3) := dk_180 0 46 (dk_at dksX5_figure_0 2 rfl rfl)
theorem dX5_figure_5 : decode cX5_figure 5 = .ok (.iconst 2, 1) := dk_5 (dk_at dksX5_figure_0 5 rfl rfl)
theorem dX5_figure_6 : decode cX5_figure 6 = .ok (.if_icmp .ne 7, 3) := dk_160 0 7 (dk_at dksX5_figure_0 6 rfl rfl)
theorem dX5_figure_9 : decode cX5_figure 9 = .ok (.iconst 1, 1) := dk_4 (dk_at dksX5_figure_0 9 rfl rfl)
theorem dX5_figure_10 : decode cX5_figure 10 = .ok (.goto 4, 3) := dk_167 0 4 (dk_at dksX5_figure_0 10 rfl rfl)
theorem dX5_figure_13 : decode cX5_figure 13 = .ok (.iconst 0, 1) := dk_3 (dk_at dksX5_figure_0 13 rfl rfl)
theorem dX5_figure_14 : decode cX5_figure 14 = .ok (.iconst 1, 1) := dk_4 (dk_at dksX5_figure_0 14 rfl rfl)
theorem dX5_figure_15 : decode cX5_figure 15 = .ok (.invokevirtual 80, 3) := dk_182 0 80 (dk_at dksX5_figure_0 15 rfl rfl)
theorem dX5_figure_18 : decode cX5_figure 18 = .ok (.aload_n 0, 1) := dk_42 (dk_at dksX5_figure_0 18 rfl rfl)
theorem dX5_figure_19 : decode cX5_figure 19 = .ok (.aload_n 0, 1) := dk_42 (dk_at dksX5_figure_0 19 rfl rfl)
theorem dX5_figure_20 : decode cX5_figure 20 = .ok (.getfield 72, 3) := dk_180 0 72 (dk_at dksX5_figure_0 20 rfl rfl)
theorem dX5_figure_23 : decode cX5_figure 23 = .ok (.iload_n 1, 1) := dk_27 (dk_at dksX5_figure_0 23 rfl rfl)
theorem dX5_figure_24 : decode cX5_figure 24 = .ok (.if_icmp .gt 7, 3) := dk_163 0 7 (dk_at dksX5_figure_1 0 rfl rfl)
theorem dX5_figure_27 : decode cX5_figure 27 = .ok (.iconst 1, 1) := dk_4 (dk_at dksX5_figure_1 3 rfl rfl)
theorem dX5_figure_28 : decode cX5_figure 28 = .ok (.goto 4, 3) := dk_167 0 4 (dk_at dksX5_figure_1 4 rfl rfl)
theorem dX5_figure_31 : decode cX5_figure 31 = .ok (.iconst 0, 1) := dk_3 (dk_at dksX5_figure_1 7 rfl rfl)
theorem dX5_figure_32 : decode cX5_figure 32 = .ok (.iconst 2, 1) := dk_5 (dk_at dksX5_figure_1 8 rfl rfl)
theorem dX5_figure_33 : decode cX5_figure 33 = .ok (.invokevirtual 80, 3) := dk_182 0 80 (dk_at dksX5_figure_1 9 rfl rfl)
theorem dX5_figure_36 : decode cX5_figure 36 = .ok (.aload_n 0, 1) := dk_42 (dk_at dksX5_figure_1 12 rfl rfl)
theorem dX5_figure_37 : decode cX5_figure 37 = .ok (.getfield 72, 3) := dk_180 0 72 (dk_at dksX5_figure_1 13 rfl rfl)
theorem dX5_figure_40 : decode cX5_figure 40 = .ok (.istore_n 2, 1) := dk_61 (dk_at dksX5_figure_1 16 rfl rfl)
theorem dX5_figure_41 : decode cX5_figure 41 = .ok (.aload_n 0, 1) := dk_42 (dk_at dksX5_figure_1 17 rfl rfl)
theorem dX5_figure_42 : decode cX5_figure 42 = .ok (.invokevirtual 84, 3) := dk_182 0 84 (dk_at dksX5_figure_1 18 rfl rfl)
theorem dX5_figure_45 : decode cX5_figure 45 = .ok (.iload_n 2, 1) := dk_28 (dk_at dksX5_figure_1 21 rfl rfl)
theorem dX5_figure_46 : decode cX5_figure 46 = .ok (.ireturn, 1) := dk_172 (dk_at dksX5_figure_1 22 rfl rfl)
abbrev cX5_must : ByteArray := prog_11_method_4_code
def yX5_must : MethodName := ⟨RX5, "must", "(ZI)V"⟩
def dkwX5_must_0 : List UInt8 := [27, 154, 0, 16, 187, 0, 75, 89, 28, 42, 180, 0, 43, 183, 0, 77, 191, 177]
abbrev dktX5_must_0 : List UInt8 := dkwX5_must_0 ++ []
theorem dksX5_must_0 : cX5_must.data.toList.drop 0 = dktX5_must_0 := by decide +kernel
theorem dX5_must_0 : decode cX5_must 0 = .ok (.iload_n 1, 1) := dk_27 (dk_at dksX5_must_0 0 rfl rfl)
theorem dX5_must_1 : decode cX5_must 1 = .ok (.ifCond .ne 16, 3) := dk_154 0 16 (dk_at dksX5_must_0 1 rfl rfl)
theorem dX5_must_4 : decode cX5_must 4 = .ok (.new 75, 3) := dk_187 0 75 (dk_at dksX5_must_0 4 rfl rfl)
theorem dX5_must_7 : decode cX5_must 7 = .ok (.dup, 1) := dk_89 (dk_at dksX5_must_0 7 rfl rfl)
theorem dX5_must_8 : decode cX5_must 8 = .ok (.iload_n 2, 1) := dk_28 (dk_at dksX5_must_0 8 rfl rfl)
theorem dX5_must_9 : decode cX5_must 9 = .ok (.aload_n 0, 1) := dk_42 (dk_at dksX5_must_0 9 rfl rfl)
theorem dX5_must_10 : decode cX5_must 10 = .ok (.getfield 43, 3) := dk_180 0 43 (dk_at dksX5_must_0 10 rfl rfl)
theorem dX5_must_13 : decode cX5_must 13 = .ok (.invokespecial 77, 3) := dk_183 0 77 (dk_at dksX5_must_0 13 rfl rfl)
theorem dX5_must_16 : decode cX5_must 16 = .ok (.athrow, 1) := dk_191 (dk_at dksX5_must_0 16 rfl rfl)
theorem dX5_must_17 : decode cX5_must 17 = .ok (.return_, 1) := dk_177 (dk_at dksX5_must_0 17 rfl rfl)
abbrev cX5_word : ByteArray := prog_11_method_6_code
def yX5_word : MethodName := ⟨RX5, "word", "()I"⟩
def dkwX5_word_1 : List UInt8 := [178, 0, 87, 27, 50, 182, 0, 91, 153, 0, 5, 27, 172, 132, 1, 1, 167, 255, 220, 18, 38, 172]
abbrev dktX5_word_1 : List UInt8 := dkwX5_word_1 ++ []
def dkwX5_word_0 : List UInt8 := [3, 60, 42, 180, 0, 46, 4, 160, 0, 34, 27, 178, 0, 87, 190, 162, 0, 26, 42, 180, 0, 11]
abbrev dktX5_word_0 : List UInt8 := dkwX5_word_0 ++ dktX5_word_1
theorem dksX5_word_0 : cX5_word.data.toList.drop 0 = dktX5_word_0 := by decide +kernel
theorem dksX5_word_1 : cX5_word.data.toList.drop 22 = dktX5_word_1 := dk_seg dksX5_word_0 22 rfl rfl
theorem dX5_word_0 : decode cX5_word 0 = .ok (.iconst 0, 1) := dk_3 (dk_at dksX5_word_0 0 rfl rfl)
theorem dX5_word_1 : decode cX5_word 1 = .ok (.istore_n 1, 1) := dk_60 (dk_at dksX5_word_0 1 rfl rfl)
theorem dX5_word_2 : decode cX5_word 2 = .ok (.aload_n 0, 1) := dk_42 (dk_at dksX5_word_0 2 rfl rfl)
theorem dX5_word_3 : decode cX5_word 3 = .ok (.getfield 46, 3) := dk_180 0 46 (dk_at dksX5_word_0 3 rfl rfl)
theorem dX5_word_6 : decode cX5_word 6 = .ok (.iconst 1, 1) := dk_4 (dk_at dksX5_word_0 6 rfl rfl)
theorem dX5_word_7 : decode cX5_word 7 = .ok (.if_icmp .ne 34, 3) := dk_160 0 34 (dk_at dksX5_word_0 7 rfl rfl)
theorem dX5_word_10 : decode cX5_word 10 = .ok (.iload_n 1, 1) := dk_27 (dk_at dksX5_word_0 10 rfl rfl)
theorem dX5_word_11 : decode cX5_word 11 = .ok (.getstatic 87, 3) := dk_178 0 87 (dk_at dksX5_word_0 11 rfl rfl)
theorem dX5_word_14 : decode cX5_word 14 = .ok (.arraylength, 1) := dk_190 (dk_at dksX5_word_0 14 rfl rfl)
theorem dX5_word_15 : decode cX5_word 15 = .ok (.if_icmp .ge 26, 3) := dk_162 0 26 (dk_at dksX5_word_0 15 rfl rfl)
theorem dX5_word_18 : decode cX5_word 18 = .ok (.aload_n 0, 1) := dk_42 (dk_at dksX5_word_0 18 rfl rfl)
theorem dX5_word_19 : decode cX5_word 19 = .ok (.getfield 11, 3) := dk_180 0 11 (dk_at dksX5_word_0 19 rfl rfl)
theorem dX5_word_22 : decode cX5_word 22 = .ok (.getstatic 87, 3) := dk_178 0 87 (dk_at dksX5_word_1 0 rfl rfl)
theorem dX5_word_25 : decode cX5_word 25 = .ok (.iload_n 1, 1) := dk_27 (dk_at dksX5_word_1 3 rfl rfl)
theorem dX5_word_26 : decode cX5_word 26 = .ok (.aaload, 1) := dk_50 (dk_at dksX5_word_1 4 rfl rfl)
theorem dX5_word_27 : decode cX5_word 27 = .ok (.invokevirtual 91, 3) := dk_182 0 91 (dk_at dksX5_word_1 5 rfl rfl)
theorem dX5_word_30 : decode cX5_word 30 = .ok (.ifCond .eq 5, 3) := dk_153 0 5 (dk_at dksX5_word_1 8 rfl rfl)
theorem dX5_word_33 : decode cX5_word 33 = .ok (.iload_n 1, 1) := dk_27 (dk_at dksX5_word_1 11 rfl rfl)
theorem dX5_word_34 : decode cX5_word 34 = .ok (.ireturn, 1) := dk_172 (dk_at dksX5_word_1 12 rfl rfl)
theorem dX5_word_35 : decode cX5_word 35 = .ok (.iinc 1 1, 3) := dk_132 1 1 (dk_at dksX5_word_1 13 rfl rfl)
theorem dX5_word_38 : decode cX5_word 38 = .ok (.goto (-36), 3) := dk_167 255 220 (dk_at dksX5_word_1 16 rfl rfl)
theorem dX5_word_41 : decode cX5_word 41 = .ok (.ldc 38, 2) := dk_18 38 (dk_at dksX5_word_1 19 rfl rfl)
theorem dX5_word_43 : decode cX5_word 43 = .ok (.ireturn, 1) := dk_172 (dk_at dksX5_word_1 21 rfl rfl)
abbrev cX5_law : ByteArray := prog_11_method_8_code
def yX5_law : MethodName := ⟨RX5, "law", "(II)V"⟩
def dkwX5_law_7 : List UInt8 := [182, 0, 98, 28, 8, 160, 0, 7, 4, 167, 0, 4, 3, 183, 0, 114, 185, 0, 117, 2, 0, 87, 177]
abbrev dktX5_law_7 : List UInt8 := dkwX5_law_7 ++ []
def dkwX5_law_6 : List UInt8 := [185, 0, 117, 2, 0, 87, 167, 0, 38, 42, 180, 0, 20, 187, 0, 112, 89, 27, 7, 42, 16, 11]
abbrev dktX5_law_6 : List UInt8 := dkwX5_law_6 ++ dktX5_law_7
def dkwX5_law_5 : List UInt8 := [89, 27, 6, 42, 16, 7, 182, 0, 98, 28, 6, 160, 0, 7, 4, 167, 0, 4, 3, 183, 0, 114]
abbrev dktX5_law_5 : List UInt8 := dkwX5_law_5 ++ dktX5_law_6
def dkwX5_law_4 : List UInt8 := [183, 0, 114, 185, 0, 117, 2, 0, 87, 167, 0, 81, 28, 8, 162, 0, 41, 42, 180, 0, 20, 187, 0, 112]
abbrev dktX5_law_4 : List UInt8 := dkwX5_law_4 ++ dktX5_law_5
def dkwX5_law_3 : List UInt8 := [16, 7, 182, 0, 98, 62, 42, 180, 0, 20, 187, 0, 112, 89, 27, 28, 29, 42, 17, 3, 231, 182, 0, 98]
abbrev dktX5_law_3 : List UInt8 := dkwX5_law_3 ++ dktX5_law_4
def dkwX5_law_2 : List UInt8 := [17, 3, 231, 182, 0, 98, 183, 0, 114, 185, 0, 117, 2, 0, 87, 167, 0, 123, 28, 6, 162, 0, 40, 42]
abbrev dktX5_law_2 : List UInt8 := dkwX5_law_2 ++ dktX5_law_3
def dkwX5_law_1 : List UInt8 := [182, 0, 80, 42, 182, 0, 84, 28, 154, 0, 33, 42, 180, 0, 20, 187, 0, 112, 89, 27, 3, 3, 42]
abbrev dktX5_law_1 : List UInt8 := dkwX5_law_1 ++ dktX5_law_2
def dkwX5_law_0 : List UInt8 := [42, 42, 180, 0, 20, 185, 0, 108, 1, 0, 42, 180, 0, 32, 162, 0, 7, 4, 167, 0, 4, 3, 6]
abbrev dktX5_law_0 : List UInt8 := dkwX5_law_0 ++ dktX5_law_1
theorem dksX5_law_0 : cX5_law.data.toList.drop 0 = dktX5_law_0 := by decide +kernel
theorem dksX5_law_1 : cX5_law.data.toList.drop 23 = dktX5_law_1 := dk_seg dksX5_law_0 23 rfl rfl
theorem dksX5_law_2 : cX5_law.data.toList.drop 46 = dktX5_law_2 := dk_seg dksX5_law_1 23 rfl rfl
theorem dksX5_law_3 : cX5_law.data.toList.drop 70 = dktX5_law_3 := dk_seg dksX5_law_2 24 rfl rfl
theorem dksX5_law_4 : cX5_law.data.toList.drop 94 = dktX5_law_4 := dk_seg dksX5_law_3 24 rfl rfl
theorem dksX5_law_5 : cX5_law.data.toList.drop 118 = dktX5_law_5 := dk_seg dksX5_law_4 24 rfl rfl
theorem dksX5_law_6 : cX5_law.data.toList.drop 140 = dktX5_law_6 := dk_seg dksX5_law_5 22 rfl rfl
theorem dksX5_law_7 : cX5_law.data.toList.drop 162 = dktX5_law_7 := dk_seg dksX5_law_6 22 rfl rfl
theorem dX5_law_0 : decode cX5_law 0 = .ok (.aload_n 0, 1) := dk_42 (dk_at dksX5_law_0 0 rfl rfl)
theorem dX5_law_1 : decode cX5_law 1 = .ok (.aload_n 0, 1) := dk_42 (dk_at dksX5_law_0 1 rfl rfl)
theorem dX5_law_2 : decode cX5_law 2 = .ok (.getfield 20, 3) := dk_180 0 20 (dk_at dksX5_law_0 2 rfl rfl)
theorem dX5_law_5 : decode cX5_law 5 = .ok (.invokeinterface 108 1, 5) := by decide +kernel
theorem dX5_law_10 : decode cX5_law 10 = .ok (.aload_n 0, 1) := dk_42 (dk_at dksX5_law_0 10 rfl rfl)
theorem dX5_law_11 : decode cX5_law 11 = .ok (.getfield 32, 3) := dk_180 0 32 (dk_at dksX5_law_0 11 rfl rfl)
theorem dX5_law_14 : decode cX5_law 14 = .ok (.if_icmp .ge 7, 3) := dk_162 0 7 (dk_at dksX5_law_0 14 rfl rfl)
theorem dX5_law_17 : decode cX5_law 17 = .ok (.iconst 1, 1) := dk_4 (dk_at dksX5_law_0 17 rfl rfl)
theorem dX5_law_18 : decode cX5_law 18 = .ok (.goto 4, 3) := dk_167 0 4 (dk_at dksX5_law_0 18 rfl rfl)
theorem dX5_law_21 : decode cX5_law 21 = .ok (.iconst 0, 1) := dk_3 (dk_at dksX5_law_0 21 rfl rfl)
theorem dX5_law_22 : decode cX5_law 22 = .ok (.iconst 3, 1) := dk_6 (dk_at dksX5_law_0 22 rfl rfl)
theorem dX5_law_23 : decode cX5_law 23 = .ok (.invokevirtual 80, 3) := dk_182 0 80 (dk_at dksX5_law_1 0 rfl rfl)
theorem dX5_law_26 : decode cX5_law 26 = .ok (.aload_n 0, 1) := dk_42 (dk_at dksX5_law_1 3 rfl rfl)
theorem dX5_law_27 : decode cX5_law 27 = .ok (.invokevirtual 84, 3) := dk_182 0 84 (dk_at dksX5_law_1 4 rfl rfl)
theorem dX5_law_30 : decode cX5_law 30 = .ok (.iload_n 2, 1) := dk_28 (dk_at dksX5_law_1 7 rfl rfl)
theorem dX5_law_31 : decode cX5_law 31 = .ok (.ifCond .ne 33, 3) := dk_154 0 33 (dk_at dksX5_law_1 8 rfl rfl)
theorem dX5_law_34 : decode cX5_law 34 = .ok (.aload_n 0, 1) := dk_42 (dk_at dksX5_law_1 11 rfl rfl)
theorem dX5_law_35 : decode cX5_law 35 = .ok (.getfield 20, 3) := dk_180 0 20 (dk_at dksX5_law_1 12 rfl rfl)
theorem dX5_law_38 : decode cX5_law 38 = .ok (.new 112, 3) := dk_187 0 112 (dk_at dksX5_law_1 15 rfl rfl)
theorem dX5_law_41 : decode cX5_law 41 = .ok (.dup, 1) := dk_89 (dk_at dksX5_law_1 18 rfl rfl)
theorem dX5_law_42 : decode cX5_law 42 = .ok (.iload_n 1, 1) := dk_27 (dk_at dksX5_law_1 19 rfl rfl)
theorem dX5_law_43 : decode cX5_law 43 = .ok (.iconst 0, 1) := dk_3 (dk_at dksX5_law_1 20 rfl rfl)
theorem dX5_law_44 : decode cX5_law 44 = .ok (.iconst 0, 1) := dk_3 (dk_at dksX5_law_1 21 rfl rfl)
theorem dX5_law_45 : decode cX5_law 45 = .ok (.aload_n 0, 1) := dk_42 (dk_at dksX5_law_1 22 rfl rfl)
theorem dX5_law_46 : decode cX5_law 46 = .ok (.sipush 999, 3) := dk_17 3 231 (dk_at dksX5_law_2 0 rfl rfl)
theorem dX5_law_49 : decode cX5_law 49 = .ok (.invokevirtual 98, 3) := dk_182 0 98 (dk_at dksX5_law_2 3 rfl rfl)
theorem dX5_law_52 : decode cX5_law 52 = .ok (.invokespecial 114, 3) := dk_183 0 114 (dk_at dksX5_law_2 6 rfl rfl)
theorem dX5_law_55 : decode cX5_law 55 = .ok (.invokeinterface 117 2, 5) := by decide +kernel
theorem dX5_law_60 : decode cX5_law 60 = .ok (.pop, 1) := dk_87 (dk_at dksX5_law_2 14 rfl rfl)
theorem dX5_law_61 : decode cX5_law 61 = .ok (.goto 123, 3) := dk_167 0 123 (dk_at dksX5_law_2 15 rfl rfl)
theorem dX5_law_64 : decode cX5_law 64 = .ok (.iload_n 2, 1) := dk_28 (dk_at dksX5_law_2 18 rfl rfl)
theorem dX5_law_65 : decode cX5_law 65 = .ok (.iconst 3, 1) := dk_6 (dk_at dksX5_law_2 19 rfl rfl)
theorem dX5_law_66 : decode cX5_law 66 = .ok (.if_icmp .ge 40, 3) := dk_162 0 40 (dk_at dksX5_law_2 20 rfl rfl)
theorem dX5_law_69 : decode cX5_law 69 = .ok (.aload_n 0, 1) := dk_42 (dk_at dksX5_law_2 23 rfl rfl)
theorem dX5_law_70 : decode cX5_law 70 = .ok (.bipush 7, 2) := dk_16 7 (dk_at dksX5_law_3 0 rfl rfl)
theorem dX5_law_72 : decode cX5_law 72 = .ok (.invokevirtual 98, 3) := dk_182 0 98 (dk_at dksX5_law_3 2 rfl rfl)
theorem dX5_law_75 : decode cX5_law 75 = .ok (.istore_n 3, 1) := dk_62 (dk_at dksX5_law_3 5 rfl rfl)
theorem dX5_law_76 : decode cX5_law 76 = .ok (.aload_n 0, 1) := dk_42 (dk_at dksX5_law_3 6 rfl rfl)
theorem dX5_law_77 : decode cX5_law 77 = .ok (.getfield 20, 3) := dk_180 0 20 (dk_at dksX5_law_3 7 rfl rfl)
theorem dX5_law_80 : decode cX5_law 80 = .ok (.new 112, 3) := dk_187 0 112 (dk_at dksX5_law_3 10 rfl rfl)
theorem dX5_law_83 : decode cX5_law 83 = .ok (.dup, 1) := dk_89 (dk_at dksX5_law_3 13 rfl rfl)
theorem dX5_law_84 : decode cX5_law 84 = .ok (.iload_n 1, 1) := dk_27 (dk_at dksX5_law_3 14 rfl rfl)
theorem dX5_law_85 : decode cX5_law 85 = .ok (.iload_n 2, 1) := dk_28 (dk_at dksX5_law_3 15 rfl rfl)
theorem dX5_law_86 : decode cX5_law 86 = .ok (.iload_n 3, 1) := dk_29 (dk_at dksX5_law_3 16 rfl rfl)
theorem dX5_law_87 : decode cX5_law 87 = .ok (.aload_n 0, 1) := dk_42 (dk_at dksX5_law_3 17 rfl rfl)
theorem dX5_law_88 : decode cX5_law 88 = .ok (.sipush 999, 3) := dk_17 3 231 (dk_at dksX5_law_3 18 rfl rfl)
theorem dX5_law_91 : decode cX5_law 91 = .ok (.invokevirtual 98, 3) := dk_182 0 98 (dk_at dksX5_law_3 21 rfl rfl)
theorem dX5_law_94 : decode cX5_law 94 = .ok (.invokespecial 114, 3) := dk_183 0 114 (dk_at dksX5_law_4 0 rfl rfl)
theorem dX5_law_97 : decode cX5_law 97 = .ok (.invokeinterface 117 2, 5) := by decide +kernel
theorem dX5_law_102 : decode cX5_law 102 = .ok (.pop, 1) := dk_87 (dk_at dksX5_law_4 8 rfl rfl)
theorem dX5_law_103 : decode cX5_law 103 = .ok (.goto 81, 3) := dk_167 0 81 (dk_at dksX5_law_4 9 rfl rfl)
theorem dX5_law_106 : decode cX5_law 106 = .ok (.iload_n 2, 1) := dk_28 (dk_at dksX5_law_4 12 rfl rfl)
theorem dX5_law_107 : decode cX5_law 107 = .ok (.iconst 5, 1) := dk_8 (dk_at dksX5_law_4 13 rfl rfl)
theorem dX5_law_108 : decode cX5_law 108 = .ok (.if_icmp .ge 41, 3) := dk_162 0 41 (dk_at dksX5_law_4 14 rfl rfl)
theorem dX5_law_111 : decode cX5_law 111 = .ok (.aload_n 0, 1) := dk_42 (dk_at dksX5_law_4 17 rfl rfl)
theorem dX5_law_112 : decode cX5_law 112 = .ok (.getfield 20, 3) := dk_180 0 20 (dk_at dksX5_law_4 18 rfl rfl)
theorem dX5_law_115 : decode cX5_law 115 = .ok (.new 112, 3) := dk_187 0 112 (dk_at dksX5_law_4 21 rfl rfl)
theorem dX5_law_118 : decode cX5_law 118 = .ok (.dup, 1) := dk_89 (dk_at dksX5_law_5 0 rfl rfl)
theorem dX5_law_119 : decode cX5_law 119 = .ok (.iload_n 1, 1) := dk_27 (dk_at dksX5_law_5 1 rfl rfl)
theorem dX5_law_120 : decode cX5_law 120 = .ok (.iconst 3, 1) := dk_6 (dk_at dksX5_law_5 2 rfl rfl)
theorem dX5_law_121 : decode cX5_law 121 = .ok (.aload_n 0, 1) := dk_42 (dk_at dksX5_law_5 3 rfl rfl)
theorem dX5_law_122 : decode cX5_law 122 = .ok (.bipush 7, 2) := dk_16 7 (dk_at dksX5_law_5 4 rfl rfl)
theorem dX5_law_124 : decode cX5_law 124 = .ok (.invokevirtual 98, 3) := dk_182 0 98 (dk_at dksX5_law_5 6 rfl rfl)
theorem dX5_law_127 : decode cX5_law 127 = .ok (.iload_n 2, 1) := dk_28 (dk_at dksX5_law_5 9 rfl rfl)
theorem dX5_law_128 : decode cX5_law 128 = .ok (.iconst 3, 1) := dk_6 (dk_at dksX5_law_5 10 rfl rfl)
theorem dX5_law_129 : decode cX5_law 129 = .ok (.if_icmp .ne 7, 3) := dk_160 0 7 (dk_at dksX5_law_5 11 rfl rfl)
theorem dX5_law_132 : decode cX5_law 132 = .ok (.iconst 1, 1) := dk_4 (dk_at dksX5_law_5 14 rfl rfl)
theorem dX5_law_133 : decode cX5_law 133 = .ok (.goto 4, 3) := dk_167 0 4 (dk_at dksX5_law_5 15 rfl rfl)
theorem dX5_law_136 : decode cX5_law 136 = .ok (.iconst 0, 1) := dk_3 (dk_at dksX5_law_5 18 rfl rfl)
theorem dX5_law_137 : decode cX5_law 137 = .ok (.invokespecial 114, 3) := dk_183 0 114 (dk_at dksX5_law_5 19 rfl rfl)
theorem dX5_law_140 : decode cX5_law 140 = .ok (.invokeinterface 117 2, 5) := by decide +kernel
theorem dX5_law_145 : decode cX5_law 145 = .ok (.pop, 1) := dk_87 (dk_at dksX5_law_6 5 rfl rfl)
theorem dX5_law_146 : decode cX5_law 146 = .ok (.goto 38, 3) := dk_167 0 38 (dk_at dksX5_law_6 6 rfl rfl)
theorem dX5_law_149 : decode cX5_law 149 = .ok (.aload_n 0, 1) := dk_42 (dk_at dksX5_law_6 9 rfl rfl)
theorem dX5_law_150 : decode cX5_law 150 = .ok (.getfield 20, 3) := dk_180 0 20 (dk_at dksX5_law_6 10 rfl rfl)
theorem dX5_law_153 : decode cX5_law 153 = .ok (.new 112, 3) := dk_187 0 112 (dk_at dksX5_law_6 13 rfl rfl)
theorem dX5_law_156 : decode cX5_law 156 = .ok (.dup, 1) := dk_89 (dk_at dksX5_law_6 16 rfl rfl)
theorem dX5_law_157 : decode cX5_law 157 = .ok (.iload_n 1, 1) := dk_27 (dk_at dksX5_law_6 17 rfl rfl)
theorem dX5_law_158 : decode cX5_law 158 = .ok (.iconst 4, 1) := dk_7 (dk_at dksX5_law_6 18 rfl rfl)
theorem dX5_law_159 : decode cX5_law 159 = .ok (.aload_n 0, 1) := dk_42 (dk_at dksX5_law_6 19 rfl rfl)
theorem dX5_law_160 : decode cX5_law 160 = .ok (.bipush 11, 2) := dk_16 11 (dk_at dksX5_law_6 20 rfl rfl)
theorem dX5_law_162 : decode cX5_law 162 = .ok (.invokevirtual 98, 3) := dk_182 0 98 (dk_at dksX5_law_7 0 rfl rfl)
theorem dX5_law_165 : decode cX5_law 165 = .ok (.iload_n 2, 1) := dk_28 (dk_at dksX5_law_7 3 rfl rfl)
theorem dX5_law_166 : decode cX5_law 166 = .ok (.iconst 5, 1) := dk_8 (dk_at dksX5_law_7 4 rfl rfl)
theorem dX5_law_167 : decode cX5_law 167 = .ok (.if_icmp .ne 7, 3) := dk_160 0 7 (dk_at dksX5_law_7 5 rfl rfl)
theorem dX5_law_170 : decode cX5_law 170 = .ok (.iconst 1, 1) := dk_4 (dk_at dksX5_law_7 8 rfl rfl)
theorem dX5_law_171 : decode cX5_law 171 = .ok (.goto 4, 3) := dk_167 0 4 (dk_at dksX5_law_7 9 rfl rfl)
theorem dX5_law_174 : decode cX5_law 174 = .ok (.iconst 0, 1) := dk_3 (dk_at dksX5_law_7 12 rfl rfl)
theorem dX5_law_175 : decode cX5_law 175 = .ok (.invokespecial 114, 3) := dk_183 0 114 (dk_at dksX5_law_7 13 rfl rfl)
theorem dX5_law_178 : decode cX5_law 178 = .ok (.invokeinterface 117 2, 5) := by decide +kernel
theorem dX5_law_183 : decode cX5_law 183 = .ok (.pop, 1) := dk_87 (dk_at dksX5_law_7 21 rfl rfl)
theorem dX5_law_184 : decode cX5_law 184 = .ok (.return_, 1) := dk_177 (dk_at dksX5_law_7 22 rfl rfl)
theorem q72 : (Jvm.Cond.initialized "DuskGates$Reader") ∈ lw_all := lw_g (lw_at lw_m1 16 rfl) rfl
theorem q417 : (Jvm.Cond.instantiable "DuskGates$Reader" (9 : Nat)) ∈ lw_all := lw_g (lw_at lw_m2 121 rfl) rfl
theorem q429 : (Jvm.Cond.instanceMethod ({ cls := "DuskGates$Reader", name := "<init>", desc := "([BII)V" } : Jvm.MethodName)) ∈ lw_all := lw_g (lw_at lw_m2 133 rfl) rfl
theorem q430 : (Jvm.Cond.code ({ cls := "DuskGates$Reader", name := "<init>", desc := "([BII)V" } : Jvm.MethodName) prog_11_method_1_code (4 : Nat) (Option.none : Option Jvm.ClassFile.FieldType)) ∈ lw_all := lw_g (lw_at lw_m2 134 rfl) rfl
theorem q431 : (Jvm.Cond.methodLink "DuskGates$Reader" (3 : Nat) ({ cls := "java/lang/Object", name := "<init>", desc := "()V" } : Jvm.MethodName)) ∈ lw_all := lw_g (lw_at lw_m2 135 rfl) rfl
theorem q432 : (Jvm.Cond.stringRef "DuskGates$Reader" (9 : Nat) "") ∈ lw_tbl := lw_at lw_m2 136 rfl
theorem q433 : (Jvm.Cond.classLink "DuskGates$Reader" (17 : Nat) "java/util/ArrayList") ∈ lw_all := lw_g (lw_at lw_m2 137 rfl) rfl
theorem q434 : (Jvm.Cond.methodLink "DuskGates$Reader" (19 : Nat) ({ cls := "java/util/ArrayList", name := "<init>", desc := "()V" } : Jvm.MethodName)) ∈ lw_all := lw_g (lw_at lw_m2 138 rfl) rfl
theorem q435 : (Jvm.Cond.fieldLink "DuskGates$Reader" (24 : Nat) "DuskGates$Reader" "text" "[B") ∈ lw_all := lw_g (lw_at lw_m2 139 rfl) rfl
theorem q436 : (Jvm.Cond.fieldLink "DuskGates$Reader" (28 : Nat) "DuskGates$Reader" "size" "I") ∈ lw_all := lw_g (lw_at lw_m2 140 rfl) rfl
theorem q437 : (Jvm.Cond.fieldLink "DuskGates$Reader" (32 : Nat) "DuskGates$Reader" "may" "I") ∈ lw_all := lw_g (lw_at lw_m2 141 rfl) rfl
theorem q438 : (Jvm.Cond.fieldLink "DuskGates$Reader" (35 : Nat) "DuskGates$Reader" "at" "I") ∈ lw_all := lw_g (lw_at lw_m2 142 rfl) rfl
theorem q439 : (Jvm.Cond.fieldLink "DuskGates$Reader" (46 : Nat) "DuskGates$Reader" "token" "I") ∈ lw_all := lw_g (lw_at lw_m2 143 rfl) rfl
theorem q440 : (Jvm.Cond.fieldLink "DuskGates$Reader" (43 : Nat) "DuskGates$Reader" "from" "I") ∈ lw_all := lw_g (lw_at lw_m2 144 rfl) rfl
theorem q441 : (Jvm.Cond.fieldLink "DuskGates$Reader" (72 : Nat) "DuskGates$Reader" "number" "I") ∈ lw_all := lw_g (lw_at lw_m2 145 rfl) rfl
theorem q442 : (Jvm.Cond.fieldLink "DuskGates$Reader" (11 : Nat) "DuskGates$Reader" "name" "Ljava/lang/String;") ∈ lw_all := lw_g (lw_at lw_m2 146 rfl) rfl
theorem q443 : (Jvm.Cond.fieldLink "DuskGates$Reader" (20 : Nat) "DuskGates$Reader" "made" "Ljava/util/List;") ∈ lw_all := lw_g (lw_at lw_m2 147 rfl) rfl
theorem q445 : (Jvm.Cond.laysFinal "DuskGates$Reader" "DuskGates$Reader" "text" "[B") ∈ lw_all := lw_g (lw_at lw_m2 149 rfl) rfl
theorem q446 : (Jvm.Cond.soleField "DuskGates$Reader" "text") ∈ lw_all := lw_g (lw_at lw_m2 150 rfl) rfl
theorem q447 : (Jvm.Cond.laysFinal "DuskGates$Reader" "DuskGates$Reader" "size" "I") ∈ lw_all := lw_g (lw_at lw_m2 151 rfl) rfl
theorem q448 : (Jvm.Cond.soleField "DuskGates$Reader" "size") ∈ lw_all := lw_g (lw_at lw_m2 152 rfl) rfl
theorem q449 : (Jvm.Cond.laysFinal "DuskGates$Reader" "DuskGates$Reader" "may" "I") ∈ lw_all := lw_g (lw_at lw_m2 153 rfl) rfl
theorem q450 : (Jvm.Cond.soleField "DuskGates$Reader" "may") ∈ lw_all := lw_g (lw_at lw_m2 154 rfl) rfl
theorem q451 : (Jvm.Cond.lays "DuskGates$Reader" "DuskGates$Reader" "at" "I") ∈ lw_all := lw_g (lw_at lw_m2 155 rfl) rfl
theorem q452 : (Jvm.Cond.soleField "DuskGates$Reader" "at") ∈ lw_all := lw_g (lw_at lw_m2 156 rfl) rfl
theorem q453 : (Jvm.Cond.lays "DuskGates$Reader" "DuskGates$Reader" "token" "I") ∈ lw_all := lw_g (lw_at lw_m2 157 rfl) rfl
theorem q454 : (Jvm.Cond.soleField "DuskGates$Reader" "token") ∈ lw_all := lw_g (lw_at lw_m2 158 rfl) rfl
theorem q455 : (Jvm.Cond.lays "DuskGates$Reader" "DuskGates$Reader" "from" "I") ∈ lw_all := lw_g (lw_at lw_m2 159 rfl) rfl
theorem q456 : (Jvm.Cond.soleField "DuskGates$Reader" "from") ∈ lw_all := lw_g (lw_at lw_m2 160 rfl) rfl
theorem q457 : (Jvm.Cond.lays "DuskGates$Reader" "DuskGates$Reader" "number" "I") ∈ lw_all := lw_g (lw_at lw_m2 161 rfl) rfl
theorem q458 : (Jvm.Cond.soleField "DuskGates$Reader" "number") ∈ lw_all := lw_g (lw_at lw_m2 162 rfl) rfl
theorem q459 : (Jvm.Cond.lays "DuskGates$Reader" "DuskGates$Reader" "name" "Ljava/lang/String;") ∈ lw_all := lw_g (lw_at lw_m2 163 rfl) rfl
theorem q460 : (Jvm.Cond.soleField "DuskGates$Reader" "name") ∈ lw_all := lw_g (lw_at lw_m2 164 rfl) rfl
theorem q461 : (Jvm.Cond.laysFinal "DuskGates$Reader" "DuskGates$Reader" "made" "Ljava/util/List;") ∈ lw_all := lw_g (lw_at lw_m2 165 rfl) rfl
theorem q462 : (Jvm.Cond.soleField "DuskGates$Reader" "made") ∈ lw_all := lw_g (lw_at lw_m2 166 rfl) rfl
theorem q463 : (Jvm.Cond.superclass "DuskGates$Reader" "java/lang/Object") ∈ lw_all := lw_g (lw_at lw_m2 167 rfl) rfl
theorem q465 : (Jvm.Cond.instanceMethod ({ cls := "DuskGates$Reader", name := "all", desc := "()V" } : Jvm.MethodName)) ∈ lw_all := lw_g (lw_at lw_m2 169 rfl) rfl
theorem q466 : (Jvm.Cond.selects "DuskGates$Reader" ({ cls := "DuskGates$Reader", name := "all", desc := "()V" } : Jvm.MethodName) ({ cls := "DuskGates$Reader", name := "all", desc := "()V" } : Jvm.MethodName)) ∈ lw_all := lw_g (lw_at lw_m2 170 rfl) rfl
theorem q467 : (Jvm.Cond.code ({ cls := "DuskGates$Reader", name := "all", desc := "()V" } : Jvm.MethodName) prog_11_method_7_code (2 : Nat) (Option.none : Option Jvm.ClassFile.FieldType)) ∈ lw_all := lw_g (lw_at lw_m2 171 rfl) rfl
theorem q468 : (Jvm.Cond.methodLink "DuskGates$Reader" (84 : Nat) ({ cls := "DuskGates$Reader", name := "next", desc := "()V" } : Jvm.MethodName)) ∈ lw_all := lw_g (lw_at lw_m2 172 rfl) rfl
theorem q469 : (Jvm.Cond.privateMethod ({ cls := "DuskGates$Reader", name := "next", desc := "()V" } : Jvm.MethodName)) ∈ lw_tbl := lw_at lw_m2 173 rfl
theorem q470 : (Jvm.Cond.instanceMethod ({ cls := "DuskGates$Reader", name := "next", desc := "()V" } : Jvm.MethodName)) ∈ lw_all := lw_g (lw_at lw_m2 174 rfl) rfl
theorem q471 : (Jvm.Cond.code ({ cls := "DuskGates$Reader", name := "next", desc := "()V" } : Jvm.MethodName) prog_11_method_3_code (3 : Nat) (Option.none : Option Jvm.ClassFile.FieldType)) ∈ lw_all := lw_g (lw_at lw_m2 175 rfl) rfl
theorem q472 : (Jvm.Cond.methodLink "DuskGates$Reader" (39 : Nat) ({ cls := "DuskGates$Reader", name := "look", desc := "()I" } : Jvm.MethodName)) ∈ lw_all := lw_g (lw_at lw_m2 176 rfl) rfl
theorem q473 : (Jvm.Cond.privateMethod ({ cls := "DuskGates$Reader", name := "look", desc := "()I" } : Jvm.MethodName)) ∈ lw_tbl := lw_at lw_m2 177 rfl
theorem q474 : (Jvm.Cond.instanceMethod ({ cls := "DuskGates$Reader", name := "look", desc := "()I" } : Jvm.MethodName)) ∈ lw_all := lw_g (lw_at lw_m2 178 rfl) rfl
theorem q475 : (Jvm.Cond.code ({ cls := "DuskGates$Reader", name := "look", desc := "()I" } : Jvm.MethodName) prog_11_method_2_code (1 : Nat) (Option.some Jvm.ClassFile.FieldType.int)) ∈ lw_all := lw_g (lw_at lw_m2 179 rfl) rfl
theorem q476 : (Jvm.Cond.constant "DuskGates$Reader" (38 : Nat) (-1000000 : Int32)) ∈ lw_all := lw_g (lw_at lw_m2 180 rfl) rfl
theorem q477 : (Jvm.Cond.constantLong "DuskGates$Reader" (49 : Nat) (97 : Int64)) ∈ lw_all := lw_g (lw_at lw_m2 181 rfl) rfl
theorem q478 : (Jvm.Cond.constantLong "DuskGates$Reader" (51 : Nat) (122 : Int64)) ∈ lw_all := lw_g (lw_at lw_m2 182 rfl) rfl
theorem q479 : (Jvm.Cond.methodLinkNest "DuskGates$Reader" (53 : Nat) ({ cls := "DuskGates", name := "isIn", desc := "(JJJ)Z" } : Jvm.MethodName) "DuskGates") ∈ lw_tbl := lw_at lw_m2 183 rfl
theorem q480 : (Jvm.Cond.classLink "DuskGates$Reader" (57 : Nat) "java/lang/StringBuilder") ∈ lw_all := lw_g (lw_at lw_m2 184 rfl) rfl
theorem q482 : (Jvm.Cond.methodLink "DuskGates$Reader" (59 : Nat) ({ cls := "java/lang/StringBuilder", name := "<init>", desc := "()V" } : Jvm.MethodName)) ∈ lw_all := lw_g (lw_at lw_m2 186 rfl) rfl
theorem q511 : (Jvm.Cond.methodLink "DuskGates$Reader" (60 : Nat) ({ cls := "java/lang/StringBuilder", name := "append", desc := "(C)Ljava/lang/StringBuilder;" } : Jvm.MethodName)) ∈ lw_all := lw_g (lw_at lw_m2 215 rfl) rfl
theorem q604 : (Jvm.Cond.methodLink "DuskGates$Reader" (64 : Nat) ({ cls := "java/lang/StringBuilder", name := "toString", desc := "()Ljava/lang/String;" } : Jvm.MethodName)) ∈ lw_all := lw_g (lw_at lw_m3 68 rfl) rfl
theorem q660 : (Jvm.Cond.constantLong "DuskGates$Reader" (68 : Nat) (48 : Int64)) ∈ lw_all := lw_g (lw_at lw_m3 124 rfl) rfl
theorem q661 : (Jvm.Cond.constantLong "DuskGates$Reader" (70 : Nat) (57 : Int64)) ∈ lw_all := lw_g (lw_at lw_m3 125 rfl) rfl
theorem q662 : (Jvm.Cond.stringRef "DuskGates$Reader" (97 : Nat) "from") ∈ lw_tbl := lw_at lw_m3 126 rfl
theorem q663 : (Jvm.Cond.methodLink "DuskGates$Reader" (91 : Nat) ({ cls := "java/lang/String", name := "equals", desc := "(Ljava/lang/Object;)Z" } : Jvm.MethodName)) ∈ lw_all := lw_g (lw_at lw_m3 127 rfl) rfl
theorem q671 : (Jvm.Cond.methodLink "DuskGates$Reader" (98 : Nat) ({ cls := "DuskGates$Reader", name := "figure", desc := "(I)I" } : Jvm.MethodName)) ∈ lw_all := lw_g (lw_at lw_m3 135 rfl) rfl
theorem q672 : (Jvm.Cond.privateMethod ({ cls := "DuskGates$Reader", name := "figure", desc := "(I)I" } : Jvm.MethodName)) ∈ lw_tbl := lw_at lw_m3 136 rfl
theorem q673 : (Jvm.Cond.instanceMethod ({ cls := "DuskGates$Reader", name := "figure", desc := "(I)I" } : Jvm.MethodName)) ∈ lw_all := lw_g (lw_at lw_m3 137 rfl) rfl
theorem q674 : (Jvm.Cond.code ({ cls := "DuskGates$Reader", name := "figure", desc := "(I)I" } : Jvm.MethodName) prog_11_method_5_code (3 : Nat) (Option.some Jvm.ClassFile.FieldType.int)) ∈ lw_all := lw_g (lw_at lw_m3 138 rfl) rfl
theorem q675 : (Jvm.Cond.methodLink "DuskGates$Reader" (80 : Nat) ({ cls := "DuskGates$Reader", name := "must", desc := "(ZI)V" } : Jvm.MethodName)) ∈ lw_all := lw_g (lw_at lw_m3 139 rfl) rfl
theorem q676 : (Jvm.Cond.privateMethod ({ cls := "DuskGates$Reader", name := "must", desc := "(ZI)V" } : Jvm.MethodName)) ∈ lw_tbl := lw_at lw_m3 140 rfl
theorem q677 : (Jvm.Cond.instanceMethod ({ cls := "DuskGates$Reader", name := "must", desc := "(ZI)V" } : Jvm.MethodName)) ∈ lw_all := lw_g (lw_at lw_m3 141 rfl) rfl
theorem q678 : (Jvm.Cond.code ({ cls := "DuskGates$Reader", name := "must", desc := "(ZI)V" } : Jvm.MethodName) prog_11_method_4_code (3 : Nat) (Option.none : Option Jvm.ClassFile.FieldType)) ∈ lw_all := lw_g (lw_at lw_m3 142 rfl) rfl
theorem q679 : (Jvm.Cond.classLink "DuskGates$Reader" (75 : Nat) "DuskGates$Fault") ∈ lw_all := lw_g (lw_at lw_m3 143 rfl) rfl
theorem q688 : (Jvm.Cond.methodLink "DuskGates$Reader" (77 : Nat) ({ cls := "DuskGates$Fault", name := "<init>", desc := "(II)V" } : Jvm.MethodName)) ∈ lw_all := lw_g (lw_at lw_m3 152 rfl) rfl
theorem q702 : (Jvm.Cond.methodLink "DuskGates$Reader" (102 : Nat) ({ cls := "DuskGates$Reader", name := "word", desc := "()I" } : Jvm.MethodName)) ∈ lw_all := lw_g (lw_at lw_m3 166 rfl) rfl
theorem q703 : (Jvm.Cond.privateMethod ({ cls := "DuskGates$Reader", name := "word", desc := "()I" } : Jvm.MethodName)) ∈ lw_tbl := lw_at lw_m3 167 rfl
theorem q704 : (Jvm.Cond.instanceMethod ({ cls := "DuskGates$Reader", name := "word", desc := "()I" } : Jvm.MethodName)) ∈ lw_all := lw_g (lw_at lw_m3 168 rfl) rfl
theorem q705 : (Jvm.Cond.code ({ cls := "DuskGates$Reader", name := "word", desc := "()I" } : Jvm.MethodName) prog_11_method_6_code (2 : Nat) (Option.some Jvm.ClassFile.FieldType.int)) ∈ lw_all := lw_g (lw_at lw_m3 169 rfl) rfl
theorem q706 : (Jvm.Cond.fieldLinkNest "DuskGates$Reader" (87 : Nat) "DuskGates" "WORDS_OF" "[Ljava/lang/String;" "DuskGates") ∈ lw_tbl := lw_at lw_m3 170 rfl
theorem q708 : (Jvm.Cond.methodLink "DuskGates$Reader" (105 : Nat) ({ cls := "DuskGates$Reader", name := "law", desc := "(II)V" } : Jvm.MethodName)) ∈ lw_all := lw_g (lw_at lw_m3 172 rfl) rfl
theorem q709 : (Jvm.Cond.privateMethod ({ cls := "DuskGates$Reader", name := "law", desc := "(II)V" } : Jvm.MethodName)) ∈ lw_tbl := lw_at lw_m3 173 rfl
theorem q710 : (Jvm.Cond.instanceMethod ({ cls := "DuskGates$Reader", name := "law", desc := "(II)V" } : Jvm.MethodName)) ∈ lw_all := lw_g (lw_at lw_m3 174 rfl) rfl
theorem q711 : (Jvm.Cond.code ({ cls := "DuskGates$Reader", name := "law", desc := "(II)V" } : Jvm.MethodName) prog_11_method_8_code (4 : Nat) (Option.none : Option Jvm.ClassFile.FieldType)) ∈ lw_all := lw_g (lw_at lw_m3 175 rfl) rfl
theorem q712 : (Jvm.Cond.interfaceEntry "DuskGates$Reader" (108 : Nat)) ∈ lw_tbl := lw_at lw_m3 176 rfl
theorem q713 : (Jvm.Cond.methodLink "DuskGates$Reader" (108 : Nat) ({ cls := "java/util/List", name := "size", desc := "()I" } : Jvm.MethodName)) ∈ lw_all := lw_g (lw_at lw_m3 177 rfl) rfl
theorem q714 : (Jvm.Cond.classLink "DuskGates$Reader" (112 : Nat) "DuskGates$Law") ∈ lw_all := lw_g (lw_at lw_m3 178 rfl) rfl
theorem q716 : (Jvm.Cond.methodLink "DuskGates$Reader" (114 : Nat) ({ cls := "DuskGates$Law", name := "<init>", desc := "(IIII)V" } : Jvm.MethodName)) ∈ lw_all := lw_g (lw_at lw_m3 180 rfl) rfl
theorem q737 : (Jvm.Cond.interfaceEntry "DuskGates$Reader" (117 : Nat)) ∈ lw_tbl := lw_at lw_m3 201 rfl
theorem q738 : (Jvm.Cond.methodLink "DuskGates$Reader" (117 : Nat) ({ cls := "java/util/List", name := "add", desc := "(Ljava/lang/Object;)Z" } : Jvm.MethodName)) ∈ lw_all := lw_g (lw_at lw_m3 202 rfl) rfl
theorem q774 : (Jvm.Cond.selects "DuskGates$Reader" ({ cls := "java/lang/Object", name := "getClass", desc := "()Ljava/lang/Class;" } : Jvm.MethodName) ({ cls := "java/lang/Object", name := "getClass", desc := "()Ljava/lang/Class;" } : Jvm.MethodName)) ∈ lw_all := lw_g (lw_at lw_m3 238 rfl) rfl
theorem q1987 : (Jvm.Cond.castable "DuskGates$Reader" "java/lang/Object") ∈ lw_tbl := lw_at lw_m9 11 rfl
theorem in_X5 : ∀ w ∈ wsX50, w ∈ lw_all := lw_in wsX50 [445, 447, 449, 451, 453, 455, 457, 459, 461] (by decide +kernel) (by decide +kernel)

/-! DuskGates$Fault -/
set_option maxRecDepth 100000
def RX6 : String := "DuskGates$Fault"
def TX6 : u_T := fun k => match k with
  | 0 => ("java/lang/Throwable", "cause", "Ljava/lang/Throwable;", false)
  | 1 => ("java/lang/Throwable", "stackTrace", "[Ljava/lang/StackTraceElement;", false)
  | 2 => ("java/lang/Throwable", "suppressedExceptions", "Ljava/util/List;", false)
  | 3 => ("java/lang/Throwable", "detailMessage", "Ljava/lang/String;", false)
  | 4 => ("java/lang/Throwable", "backtrace", "Ljava/lang/Object;", false)
  | 5 => ("java/lang/Throwable", "depth", "I", false)
  | 6 => ("DuskGates$Fault", "kind", "I", true)
  | _ => ("DuskGates$Fault", "place", "I", true)
def tyX6 : Nat → FieldType := fun k => match k with
  | 0 => .object "java/lang/Throwable"
  | 1 => .array (.object "java/lang/StackTraceElement")
  | 2 => .object "java/util/List"
  | 3 => .object "java/lang/String"
  | 4 => .object "java/lang/Object"
  | 5 => .int
  | 6 => .int
  | _ => .int
abbrev wsX60 : List Cond := u_ws RX6 TX6 8
theorem nmX6 : ∀ a, a < 8 → ∀ b, b < 8 → a ≠ b → (TX6 a).2.1 ≠ (TX6 b).2.1 := by decide +kernel
theorem tyX6_ok : ∀ k, k < 8 → parseFieldDescriptor (TX6 k).2.2.1 = some (tyX6 k) := by decide +kernel
abbrev cX6_init : ByteArray := prog_2_method_1_code
def yX6_init : MethodName := ⟨RX6, "<init>", "(II)V"⟩
def dkwX6_init_0 : List UInt8 := [42, 1, 1, 3, 3, 183, 0, 1, 42, 27, 181, 0, 7, 42, 28, 181, 0, 13, 177]
abbrev dktX6_init_0 : List UInt8 := dkwX6_init_0 ++ []
theorem dksX6_init_0 : cX6_init.data.toList.drop 0 = dktX6_init_0 := by decide +kernel
theorem dX6_init_0 : decode cX6_init 0 = .ok (.aload_n 0, 1) := dk_42 (dk_at dksX6_init_0 0 rfl rfl)
theorem dX6_init_1 : decode cX6_init 1 = .ok (.aconst_null, 1) := dk_1 (dk_at dksX6_init_0 1 rfl rfl)
theorem dX6_init_2 : decode cX6_init 2 = .ok (.aconst_null, 1) := dk_1 (dk_at dksX6_init_0 2 rfl rfl)
theorem dX6_init_3 : decode cX6_init 3 = .ok (.iconst 0, 1) := dk_3 (dk_at dksX6_init_0 3 rfl rfl)
theorem dX6_init_4 : decode cX6_init 4 = .ok (.iconst 0, 1) := dk_3 (dk_at dksX6_init_0 4 rfl rfl)
theorem dX6_init_5 : decode cX6_init 5 = .ok (.invokespecial 1, 3) := dk_183 0 1 (dk_at dksX6_init_0 5 rfl rfl)
theorem dX6_init_8 : decode cX6_init 8 = .ok (.aload_n 0, 1) := dk_42 (dk_at dksX6_init_0 8 rfl rfl)
theorem dX6_init_9 : decode cX6_init 9 = .ok (.iload_n 1, 1) := dk_27 (dk_at dksX6_init_0 9 rfl rfl)
theorem dX6_init_10 : decode cX6_init 10 = .ok (.putfield 7, 3) := dk_181 0 7 (dk_at dksX6_init_0 10 rfl rfl)
theorem dX6_init_13 : decode cX6_init 13 = .ok (.aload_n 0, 1) := dk_42 (dk_at dksX6_init_0 13 rfl rfl)
theorem dX6_init_14 : decode cX6_init 14 = .ok (.iload_n 2, 1) := dk_28 (dk_at dksX6_init_0 14 rfl rfl)
theorem dX6_init_15 : decode cX6_init 15 = .ok (.putfield 13, 3) := dk_181 0 13 (dk_at dksX6_init_0 15 rfl rfl)
theorem dX6_init_18 : decode cX6_init 18 = .ok (.return_, 1) := dk_177 (dk_at dksX6_init_0 18 rfl rfl)
theorem q81 : (Jvm.Cond.initialized "DuskGates$Fault") ∈ lw_all := lw_g (lw_at lw_m1 25 rfl) rfl
theorem q268 : (Jvm.Cond.selects "DuskGates$Fault" ({ cls := "java/lang/Throwable", name := "fillInStackTrace", desc := "()Ljava/lang/Throwable;" } : Jvm.MethodName) ({ cls := "java/lang/Throwable", name := "fillInStackTrace", desc := "()Ljava/lang/Throwable;" } : Jvm.MethodName)) ∈ lw_all := lw_g (lw_at lw_m1 212 rfl) rfl
theorem q680 : (Jvm.Cond.instantiable "DuskGates$Fault" (8 : Nat)) ∈ lw_all := lw_g (lw_at lw_m3 144 rfl) rfl
theorem q681 : (Jvm.Cond.castable "DuskGates$Fault" "DuskGates$Fault") ∈ lw_tbl := lw_at lw_m3 145 rfl
theorem q682 : (Jvm.Cond.selects "DuskGates$Fault" ({ cls := "java/lang/Throwable", name := "fillInStackTrace", desc := "(I)Ljava/lang/Throwable;" } : Jvm.MethodName) ({ cls := "java/lang/Throwable", name := "fillInStackTrace", desc := "(I)Ljava/lang/Throwable;" } : Jvm.MethodName)) ∈ lw_all := lw_g (lw_at lw_m3 146 rfl) rfl
theorem q683 : (Jvm.Cond.lays "DuskGates$Fault" "java/lang/Throwable" "cause" "Ljava/lang/Throwable;") ∈ lw_all := lw_g (lw_at lw_m3 147 rfl) rfl
theorem q684 : (Jvm.Cond.lays "DuskGates$Fault" "java/lang/Throwable" "stackTrace" "[Ljava/lang/StackTraceElement;") ∈ lw_all := lw_g (lw_at lw_m3 148 rfl) rfl
theorem q685 : (Jvm.Cond.lays "DuskGates$Fault" "java/lang/Throwable" "suppressedExceptions" "Ljava/util/List;") ∈ lw_all := lw_g (lw_at lw_m3 149 rfl) rfl
theorem q686 : (Jvm.Cond.lays "DuskGates$Fault" "java/lang/Throwable" "detailMessage" "Ljava/lang/String;") ∈ lw_all := lw_g (lw_at lw_m3 150 rfl) rfl
theorem q687 : (Jvm.Cond.lays "DuskGates$Fault" "java/lang/Throwable" "backtrace" "Ljava/lang/Object;") ∈ lw_all := lw_g (lw_at lw_m3 151 rfl) rfl
theorem q689 : (Jvm.Cond.instanceMethod ({ cls := "DuskGates$Fault", name := "<init>", desc := "(II)V" } : Jvm.MethodName)) ∈ lw_all := lw_g (lw_at lw_m3 153 rfl) rfl
theorem q690 : (Jvm.Cond.code ({ cls := "DuskGates$Fault", name := "<init>", desc := "(II)V" } : Jvm.MethodName) prog_2_method_1_code (3 : Nat) (Option.none : Option Jvm.ClassFile.FieldType)) ∈ lw_all := lw_g (lw_at lw_m3 154 rfl) rfl
theorem q691 : (Jvm.Cond.methodLink "DuskGates$Fault" (1 : Nat) ({ cls := "java/lang/Exception", name := "<init>", desc := "(Ljava/lang/String;Ljava/lang/Throwable;ZZ)V" } : Jvm.MethodName)) ∈ lw_all := lw_g (lw_at lw_m3 155 rfl) rfl
theorem q692 : (Jvm.Cond.fieldLink "DuskGates$Fault" (7 : Nat) "DuskGates$Fault" "kind" "I") ∈ lw_all := lw_g (lw_at lw_m3 156 rfl) rfl
theorem q694 : (Jvm.Cond.fieldLink "DuskGates$Fault" (13 : Nat) "DuskGates$Fault" "place" "I") ∈ lw_all := lw_g (lw_at lw_m3 158 rfl) rfl
theorem q696 : (Jvm.Cond.laysFinal "DuskGates$Fault" "DuskGates$Fault" "kind" "I") ∈ lw_all := lw_g (lw_at lw_m3 160 rfl) rfl
theorem q697 : (Jvm.Cond.soleField "DuskGates$Fault" "kind") ∈ lw_all := lw_g (lw_at lw_m3 161 rfl) rfl
theorem q698 : (Jvm.Cond.laysFinal "DuskGates$Fault" "DuskGates$Fault" "place" "I") ∈ lw_all := lw_g (lw_at lw_m3 162 rfl) rfl
theorem q699 : (Jvm.Cond.soleField "DuskGates$Fault" "place") ∈ lw_all := lw_g (lw_at lw_m3 163 rfl) rfl
theorem q700 : (Jvm.Cond.lays "DuskGates$Fault" "java/lang/Throwable" "depth" "I") ∈ lw_all := lw_g (lw_at lw_m3 164 rfl) rfl
theorem q701 : (Jvm.Cond.superclass "DuskGates$Fault" "java/lang/Exception") ∈ lw_all := lw_g (lw_at lw_m3 165 rfl) rfl
theorem q766 : (Jvm.Cond.selects "DuskGates$Fault" ({ cls := "java/lang/Object", name := "getClass", desc := "()Ljava/lang/Class;" } : Jvm.MethodName) ({ cls := "java/lang/Object", name := "getClass", desc := "()Ljava/lang/Class;" } : Jvm.MethodName)) ∈ lw_all := lw_g (lw_at lw_m3 230 rfl) rfl
theorem q1989 : (Jvm.Cond.castable "DuskGates$Fault" "java/lang/Object") ∈ lw_tbl := lw_at lw_m9 13 rfl
theorem in_X6 : ∀ w ∈ wsX60, w ∈ lw_all := lw_in wsX60 [683, 684, 685, 686, 687, 700, 696, 698] (by decide +kernel) (by decide +kernel)

/-! DuskGates$Law -/
set_option maxRecDepth 100000
def RX7 : String := "DuskGates$Law"
def TX7 : u_T := fun k => match k with
  | 0 => ("DuskGates$Law", "day", "I", true)
  | 1 => ("DuskGates$Law", "what", "I", true)
  | 2 => ("DuskGates$Law", "of", "I", true)
  | _ => ("DuskGates$Law", "number", "I", true)
def tyX7 : Nat → FieldType := fun k => match k with
  | 0 => .int
  | 1 => .int
  | 2 => .int
  | _ => .int
abbrev wsX70 : List Cond := u_ws RX7 TX7 4
theorem nmX7 : ∀ a, a < 4 → ∀ b, b < 4 → a ≠ b → (TX7 a).2.1 ≠ (TX7 b).2.1 := by decide +kernel
theorem tyX7_ok : ∀ k, k < 4 → parseFieldDescriptor (TX7 k).2.2.1 = some (tyX7 k) := by decide +kernel
abbrev cX7_init : ByteArray := prog_6_method_1_code
def yX7_init : MethodName := ⟨RX7, "<init>", "(IIII)V"⟩
def dkwX7_init_1 : List UInt8 := [181, 0, 19, 177]
abbrev dktX7_init_1 : List UInt8 := dkwX7_init_1 ++ []
def dkwX7_init_0 : List UInt8 := [42, 183, 0, 1, 42, 27, 181, 0, 7, 42, 28, 181, 0, 13, 42, 29, 181, 0, 16, 42, 21, 4]
abbrev dktX7_init_0 : List UInt8 := dkwX7_init_0 ++ dktX7_init_1
theorem dksX7_init_0 : cX7_init.data.toList.drop 0 = dktX7_init_0 := by decide +kernel
theorem dksX7_init_1 : cX7_init.data.toList.drop 22 = dktX7_init_1 := dk_seg dksX7_init_0 22 rfl rfl
theorem dX7_init_0 : decode cX7_init 0 = .ok (.aload_n 0, 1) := dk_42 (dk_at dksX7_init_0 0 rfl rfl)
theorem dX7_init_1 : decode cX7_init 1 = .ok (.invokespecial 1, 3) := dk_183 0 1 (dk_at dksX7_init_0 1 rfl rfl)
theorem dX7_init_4 : decode cX7_init 4 = .ok (.aload_n 0, 1) := dk_42 (dk_at dksX7_init_0 4 rfl rfl)
theorem dX7_init_5 : decode cX7_init 5 = .ok (.iload_n 1, 1) := dk_27 (dk_at dksX7_init_0 5 rfl rfl)
theorem dX7_init_6 : decode cX7_init 6 = .ok (.putfield 7, 3) := dk_181 0 7 (dk_at dksX7_init_0 6 rfl rfl)
theorem dX7_init_9 : decode cX7_init 9 = .ok (.aload_n 0, 1) := dk_42 (dk_at dksX7_init_0 9 rfl rfl)
theorem dX7_init_10 : decode cX7_init 10 = .ok (.iload_n 2, 1) := dk_28 (dk_at dksX7_init_0 10 rfl rfl)
theorem dX7_init_11 : decode cX7_init 11 = .ok (.putfield 13, 3) := dk_181 0 13 (dk_at dksX7_init_0 11 rfl rfl)
theorem dX7_init_14 : decode cX7_init 14 = .ok (.aload_n 0, 1) := dk_42 (dk_at dksX7_init_0 14 rfl rfl)
theorem dX7_init_15 : decode cX7_init 15 = .ok (.iload_n 3, 1) := dk_29 (dk_at dksX7_init_0 15 rfl rfl)
theorem dX7_init_16 : decode cX7_init 16 = .ok (.putfield 16, 3) := dk_181 0 16 (dk_at dksX7_init_0 16 rfl rfl)
theorem dX7_init_19 : decode cX7_init 19 = .ok (.aload_n 0, 1) := dk_42 (dk_at dksX7_init_0 19 rfl rfl)
theorem dX7_init_20 : decode cX7_init 20 = .ok (.iload 4, 2) := dk_21 4 (dk_at dksX7_init_0 20 rfl rfl)
theorem dX7_init_22 : decode cX7_init 22 = .ok (.putfield 19, 3) := dk_181 0 19 (dk_at dksX7_init_1 0 rfl rfl)
theorem dX7_init_25 : decode cX7_init 25 = .ok (.return_, 1) := dk_177 (dk_at dksX7_init_1 3 rfl rfl)
theorem q82 : (Jvm.Cond.initialized "DuskGates$Law") ∈ lw_all := lw_g (lw_at lw_m1 26 rfl) rfl
theorem q715 : (Jvm.Cond.instantiable "DuskGates$Law" (4 : Nat)) ∈ lw_all := lw_g (lw_at lw_m3 179 rfl) rfl
theorem q717 : (Jvm.Cond.instanceMethod ({ cls := "DuskGates$Law", name := "<init>", desc := "(IIII)V" } : Jvm.MethodName)) ∈ lw_all := lw_g (lw_at lw_m3 181 rfl) rfl
theorem q718 : (Jvm.Cond.code ({ cls := "DuskGates$Law", name := "<init>", desc := "(IIII)V" } : Jvm.MethodName) prog_6_method_1_code (5 : Nat) (Option.none : Option Jvm.ClassFile.FieldType)) ∈ lw_all := lw_g (lw_at lw_m3 182 rfl) rfl
theorem q719 : (Jvm.Cond.methodLink "DuskGates$Law" (1 : Nat) ({ cls := "java/lang/Object", name := "<init>", desc := "()V" } : Jvm.MethodName)) ∈ lw_all := lw_g (lw_at lw_m3 183 rfl) rfl
theorem q720 : (Jvm.Cond.fieldLink "DuskGates$Law" (7 : Nat) "DuskGates$Law" "day" "I") ∈ lw_all := lw_g (lw_at lw_m3 184 rfl) rfl
theorem q722 : (Jvm.Cond.fieldLink "DuskGates$Law" (13 : Nat) "DuskGates$Law" "what" "I") ∈ lw_all := lw_g (lw_at lw_m3 186 rfl) rfl
theorem q724 : (Jvm.Cond.fieldLink "DuskGates$Law" (16 : Nat) "DuskGates$Law" "of" "I") ∈ lw_all := lw_g (lw_at lw_m3 188 rfl) rfl
theorem q726 : (Jvm.Cond.fieldLink "DuskGates$Law" (19 : Nat) "DuskGates$Law" "number" "I") ∈ lw_all := lw_g (lw_at lw_m3 190 rfl) rfl
theorem q728 : (Jvm.Cond.laysFinal "DuskGates$Law" "DuskGates$Law" "day" "I") ∈ lw_all := lw_g (lw_at lw_m3 192 rfl) rfl
theorem q729 : (Jvm.Cond.soleField "DuskGates$Law" "day") ∈ lw_all := lw_g (lw_at lw_m3 193 rfl) rfl
theorem q730 : (Jvm.Cond.laysFinal "DuskGates$Law" "DuskGates$Law" "what" "I") ∈ lw_all := lw_g (lw_at lw_m3 194 rfl) rfl
theorem q731 : (Jvm.Cond.soleField "DuskGates$Law" "what") ∈ lw_all := lw_g (lw_at lw_m3 195 rfl) rfl
theorem q732 : (Jvm.Cond.laysFinal "DuskGates$Law" "DuskGates$Law" "of" "I") ∈ lw_all := lw_g (lw_at lw_m3 196 rfl) rfl
theorem q733 : (Jvm.Cond.soleField "DuskGates$Law" "of") ∈ lw_all := lw_g (lw_at lw_m3 197 rfl) rfl
theorem q734 : (Jvm.Cond.laysFinal "DuskGates$Law" "DuskGates$Law" "number" "I") ∈ lw_all := lw_g (lw_at lw_m3 198 rfl) rfl
theorem q735 : (Jvm.Cond.soleField "DuskGates$Law" "number") ∈ lw_all := lw_g (lw_at lw_m3 199 rfl) rfl
theorem q736 : (Jvm.Cond.superclass "DuskGates$Law" "java/lang/Object") ∈ lw_all := lw_g (lw_at lw_m3 200 rfl) rfl
theorem q770 : (Jvm.Cond.selects "DuskGates$Law" ({ cls := "java/lang/Object", name := "getClass", desc := "()Ljava/lang/Class;" } : Jvm.MethodName) ({ cls := "java/lang/Object", name := "getClass", desc := "()Ljava/lang/Class;" } : Jvm.MethodName)) ∈ lw_all := lw_g (lw_at lw_m3 234 rfl) rfl
theorem q1990 : (Jvm.Cond.castable "DuskGates$Law" "java/lang/Object") ∈ lw_tbl := lw_at lw_m9 14 rfl
theorem in_X7 : ∀ w ∈ wsX70, w ∈ lw_all := lw_in wsX70 [728, 730, 732, 734] (by decide +kernel) (by decide +kernel)

/-! DuskGates$Passing -/
set_option maxRecDepth 100000
def RX8 : String := "DuskGates$Passing"
def TX8 : u_T := fun k => match k with
  | 0 => ("DuskGates$Passing", "cart", "I", true)
  | 1 => ("DuskGates$Passing", "isIn", "Z", true)
  | 2 => ("DuskGates$Passing", "gate", "I", true)
  | 3 => ("DuskGates$Passing", "day", "I", true)
  | 4 => ("DuskGates$Passing", "minute", "I", true)
  | _ => ("DuskGates$Passing", "paid", "I", true)
def tyX8 : Nat → FieldType := fun k => match k with
  | 0 => .int
  | 1 => .boolean
  | 2 => .int
  | 3 => .int
  | 4 => .int
  | _ => .int
abbrev wsX80 : List Cond := u_ws RX8 TX8 6
theorem nmX8 : ∀ a, a < 6 → ∀ b, b < 6 → a ≠ b → (TX8 a).2.1 ≠ (TX8 b).2.1 := by decide +kernel
theorem tyX8_ok : ∀ k, k < 6 → parseFieldDescriptor (TX8 k).2.2.1 = some (tyX8 k) := by decide +kernel
abbrev cX8_init : ByteArray := prog_10_method_1_code
def yX8_init : MethodName := ⟨RX8, "<init>", "(IZIIII)V"⟩
def dkwX8_init_1 : List UInt8 := [181, 0, 20, 42, 21, 5, 181, 0, 23, 42, 21, 6, 181, 0, 26, 177]
abbrev dktX8_init_1 : List UInt8 := dkwX8_init_1 ++ []
def dkwX8_init_0 : List UInt8 := [42, 183, 0, 1, 42, 27, 181, 0, 7, 42, 28, 181, 0, 13, 42, 29, 181, 0, 17, 42, 21, 4]
abbrev dktX8_init_0 : List UInt8 := dkwX8_init_0 ++ dktX8_init_1
theorem dksX8_init_0 : cX8_init.data.toList.drop 0 = dktX8_init_0 := by decide +kernel
theorem dksX8_init_1 : cX8_init.data.toList.drop 22 = dktX8_init_1 := dk_seg dksX8_init_0 22 rfl rfl
theorem dX8_init_0 : decode cX8_init 0 = .ok (.aload_n 0, 1) := dk_42 (dk_at dksX8_init_0 0 rfl rfl)
theorem dX8_init_1 : decode cX8_init 1 = .ok (.invokespecial 1, 3) := dk_183 0 1 (dk_at dksX8_init_0 1 rfl rfl)
theorem dX8_init_4 : decode cX8_init 4 = .ok (.aload_n 0, 1) := dk_42 (dk_at dksX8_init_0 4 rfl rfl)
theorem dX8_init_5 : decode cX8_init 5 = .ok (.iload_n 1, 1) := dk_27 (dk_at dksX8_init_0 5 rfl rfl)
theorem dX8_init_6 : decode cX8_init 6 = .ok (.putfield 7, 3) := dk_181 0 7 (dk_at dksX8_init_0 6 rfl rfl)
theorem dX8_init_9 : decode cX8_init 9 = .ok (.aload_n 0, 1) := dk_42 (dk_at dksX8_init_0 9 rfl rfl)
theorem dX8_init_10 : decode cX8_init 10 = .ok (.iload_n 2, 1) := dk_28 (dk_at dksX8_init_0 10 rfl rfl)
theorem dX8_init_11 : decode cX8_init 11 = .ok (.putfield 13, 3) := dk_181 0 13 (dk_at dksX8_init_0 11 rfl rfl)
theorem dX8_init_14 : decode cX8_init 14 = .ok (.aload_n 0, 1) := dk_42 (dk_at dksX8_init_0 14 rfl rfl)
theorem dX8_init_15 : decode cX8_init 15 = .ok (.iload_n 3, 1) := dk_29 (dk_at dksX8_init_0 15 rfl rfl)
theorem dX8_init_16 : decode cX8_init 16 = .ok (.putfield 17, 3) := dk_181 0 17 (dk_at dksX8_init_0 16 rfl rfl)
theorem dX8_init_19 : decode cX8_init 19 = .ok (.aload_n 0, 1) := dk_42 (dk_at dksX8_init_0 19 rfl rfl)
theorem dX8_init_20 : decode cX8_init 20 = .ok (.iload 4, 2) := dk_21 4 (dk_at dksX8_init_0 20 rfl rfl)
theorem dX8_init_22 : decode cX8_init 22 = .ok (.putfield 20, 3) := dk_181 0 20 (dk_at dksX8_init_1 0 rfl rfl)
theorem dX8_init_25 : decode cX8_init 25 = .ok (.aload_n 0, 1) := dk_42 (dk_at dksX8_init_1 3 rfl rfl)
theorem dX8_init_26 : decode cX8_init 26 = .ok (.iload 5, 2) := dk_21 5 (dk_at dksX8_init_1 4 rfl rfl)
theorem dX8_init_28 : decode cX8_init 28 = .ok (.putfield 23, 3) := dk_181 0 23 (dk_at dksX8_init_1 6 rfl rfl)
theorem dX8_init_31 : decode cX8_init 31 = .ok (.aload_n 0, 1) := dk_42 (dk_at dksX8_init_1 9 rfl rfl)
theorem dX8_init_32 : decode cX8_init 32 = .ok (.iload 6, 2) := dk_21 6 (dk_at dksX8_init_1 10 rfl rfl)
theorem dX8_init_34 : decode cX8_init 34 = .ok (.putfield 26, 3) := dk_181 0 26 (dk_at dksX8_init_1 12 rfl rfl)
theorem dX8_init_37 : decode cX8_init 37 = .ok (.return_, 1) := dk_177 (dk_at dksX8_init_1 15 rfl rfl)
abbrev cX8_isBefore : ByteArray := prog_10_method_2_code
def yX8_isBefore : MethodName := ⟨RX8, "isBefore", "(LDuskGates$Passing;)Z"⟩
def dkwX8_isBefore_1 : List UInt8 := [167, 0, 23, 3, 167, 0, 19, 42, 180, 0, 23, 43, 180, 0, 23, 162, 0, 7, 4, 167, 0, 4, 3, 172]
abbrev dktX8_isBefore_1 : List UInt8 := dkwX8_isBefore_1 ++ []
def dkwX8_isBefore_0 : List UInt8 := [42, 180, 0, 20, 43, 180, 0, 20, 159, 0, 22, 42, 180, 0, 20, 43, 180, 0, 20, 162, 0, 7, 4]
abbrev dktX8_isBefore_0 : List UInt8 := dkwX8_isBefore_0 ++ dktX8_isBefore_1
theorem dksX8_isBefore_0 : cX8_isBefore.data.toList.drop 0 = dktX8_isBefore_0 := by decide +kernel
theorem dksX8_isBefore_1 : cX8_isBefore.data.toList.drop 23 = dktX8_isBefore_1 := dk_seg dksX8_isBefore_0 23 rfl rfl
theorem dX8_isBefore_0 : decode cX8_isBefore 0 = .ok (.aload_n 0, 1) := dk_42 (dk_at dksX8_isBefore_0 0 rfl rfl)
theorem dX8_isBefore_1 : decode cX8_isBefore 1 = .ok (.getfield 20, 3) := dk_180 0 20 (dk_at dksX8_isBefore_0 1 rfl rfl)
theorem dX8_isBefore_4 : decode cX8_isBefore 4 = .ok (.aload_n 1, 1) := dk_43 (dk_at dksX8_isBefore_0 4 rfl rfl)
theorem dX8_isBefore_5 : decode cX8_isBefore 5 = .ok (.getfield 20, 3) := dk_180 0 20 (dk_at dksX8_isBefore_0 5 rfl rfl)
theorem dX8_isBefore_8 : decode cX8_isBefore 8 = .ok (.if_icmp .eq 22, 3) := dk_159 0 22 (dk_at dksX8_isBefore_0 8 rfl rfl)
theorem dX8_isBefore_11 : decode cX8_isBefore 11 = .ok (.aload_n 0, 1) := dk_42 (dk_at dksX8_isBefore_0 11 rfl rfl)
theorem dX8_isBefore_12 : decode cX8_isBefore 12 = .ok (.getfield 20, 3) := dk_180 0 20 (dk_at dksX8_isBefore_0 12 rfl rfl)
theorem dX8_isBefore_15 : decode cX8_isBefore 15 = .ok (.aload_n 1, 1) := dk_43 (dk_at dksX8_isBefore_0 15 rfl rfl)
theorem dX8_isBefore_16 : decode cX8_isBefore 16 = .ok (.getfield 20, 3) := dk_180 0 20 (dk_at dksX8_isBefore_0 16 rfl rfl)
theorem dX8_isBefore_19 : decode cX8_isBefore 19 = .ok (.if_icmp .ge 7, 3) := dk_162 0 7 (dk_at dksX8_isBefore_0 19 rfl rfl)
theorem dX8_isBefore_22 : decode cX8_isBefore 22 = .ok (.iconst 1, 1) := dk_4 (dk_at dksX8_isBefore_0 22 rfl rfl)
theorem dX8_isBefore_23 : decode cX8_isBefore 23 = .ok (.goto 23, 3) := dk_167 0 23 (dk_at dksX8_isBefore_1 0 rfl rfl)
theorem dX8_isBefore_26 : decode cX8_isBefore 26 = .ok (.iconst 0, 1) := dk_3 (dk_at dksX8_isBefore_1 3 rfl rfl)
theorem dX8_isBefore_27 : decode cX8_isBefore 27 = .ok (.goto 19, 3) := dk_167 0 19 (dk_at dksX8_isBefore_1 4 rfl rfl)
theorem dX8_isBefore_30 : decode cX8_isBefore 30 = .ok (.aload_n 0, 1) := dk_42 (dk_at dksX8_isBefore_1 7 rfl rfl)
theorem dX8_isBefore_31 : decode cX8_isBefore 31 = .ok (.getfield 23, 3) := dk_180 0 23 (dk_at dksX8_isBefore_1 8 rfl rfl)
theorem dX8_isBefore_34 : decode cX8_isBefore 34 = .ok (.aload_n 1, 1) := dk_43 (dk_at dksX8_isBefore_1 11 rfl rfl)
theorem dX8_isBefore_35 : decode cX8_isBefore 35 = .ok (.getfield 23, 3) := dk_180 0 23 (dk_at dksX8_isBefore_1 12 rfl rfl)
theorem dX8_isBefore_38 : decode cX8_isBefore 38 = .ok (.if_icmp .ge 7, 3) := dk_162 0 7 (dk_at dksX8_isBefore_1 15 rfl rfl)
theorem dX8_isBefore_41 : decode cX8_isBefore 41 = .ok (.iconst 1, 1) := dk_4 (dk_at dksX8_isBefore_1 18 rfl rfl)
theorem dX8_isBefore_42 : decode cX8_isBefore 42 = .ok (.goto 4, 3) := dk_167 0 4 (dk_at dksX8_isBefore_1 19 rfl rfl)
theorem dX8_isBefore_45 : decode cX8_isBefore 45 = .ok (.iconst 0, 1) := dk_3 (dk_at dksX8_isBefore_1 22 rfl rfl)
theorem dX8_isBefore_46 : decode cX8_isBefore 46 = .ok (.ireturn, 1) := dk_172 (dk_at dksX8_isBefore_1 23 rfl rfl)
theorem q84 : (Jvm.Cond.initialized "DuskGates$Passing") ∈ lw_all := lw_g (lw_at lw_m1 28 rfl) rfl
theorem q773 : (Jvm.Cond.selects "DuskGates$Passing" ({ cls := "java/lang/Object", name := "getClass", desc := "()Ljava/lang/Class;" } : Jvm.MethodName) ({ cls := "java/lang/Object", name := "getClass", desc := "()Ljava/lang/Class;" } : Jvm.MethodName)) ∈ lw_all := lw_g (lw_at lw_m3 237 rfl) rfl
theorem q874 : (Jvm.Cond.instantiable "DuskGates$Passing" (6 : Nat)) ∈ lw_all := lw_g (lw_at lw_m4 98 rfl) rfl
theorem q876 : (Jvm.Cond.instanceMethod ({ cls := "DuskGates$Passing", name := "<init>", desc := "(IZIIII)V" } : Jvm.MethodName)) ∈ lw_all := lw_g (lw_at lw_m4 100 rfl) rfl
theorem q877 : (Jvm.Cond.code ({ cls := "DuskGates$Passing", name := "<init>", desc := "(IZIIII)V" } : Jvm.MethodName) prog_10_method_1_code (7 : Nat) (Option.none : Option Jvm.ClassFile.FieldType)) ∈ lw_all := lw_g (lw_at lw_m4 101 rfl) rfl
theorem q878 : (Jvm.Cond.methodLink "DuskGates$Passing" (1 : Nat) ({ cls := "java/lang/Object", name := "<init>", desc := "()V" } : Jvm.MethodName)) ∈ lw_all := lw_g (lw_at lw_m4 102 rfl) rfl
theorem q879 : (Jvm.Cond.fieldLink "DuskGates$Passing" (7 : Nat) "DuskGates$Passing" "cart" "I") ∈ lw_all := lw_g (lw_at lw_m4 103 rfl) rfl
theorem q881 : (Jvm.Cond.fieldLink "DuskGates$Passing" (13 : Nat) "DuskGates$Passing" "isIn" "Z") ∈ lw_all := lw_g (lw_at lw_m4 105 rfl) rfl
theorem q883 : (Jvm.Cond.fieldLink "DuskGates$Passing" (17 : Nat) "DuskGates$Passing" "gate" "I") ∈ lw_all := lw_g (lw_at lw_m4 107 rfl) rfl
theorem q885 : (Jvm.Cond.fieldLink "DuskGates$Passing" (20 : Nat) "DuskGates$Passing" "day" "I") ∈ lw_all := lw_g (lw_at lw_m4 109 rfl) rfl
theorem q887 : (Jvm.Cond.fieldLink "DuskGates$Passing" (23 : Nat) "DuskGates$Passing" "minute" "I") ∈ lw_all := lw_g (lw_at lw_m4 111 rfl) rfl
theorem q889 : (Jvm.Cond.fieldLink "DuskGates$Passing" (26 : Nat) "DuskGates$Passing" "paid" "I") ∈ lw_all := lw_g (lw_at lw_m4 113 rfl) rfl
theorem q891 : (Jvm.Cond.laysFinal "DuskGates$Passing" "DuskGates$Passing" "cart" "I") ∈ lw_all := lw_g (lw_at lw_m4 115 rfl) rfl
theorem q892 : (Jvm.Cond.soleField "DuskGates$Passing" "cart") ∈ lw_all := lw_g (lw_at lw_m4 116 rfl) rfl
theorem q893 : (Jvm.Cond.laysFinal "DuskGates$Passing" "DuskGates$Passing" "isIn" "Z") ∈ lw_all := lw_g (lw_at lw_m4 117 rfl) rfl
theorem q894 : (Jvm.Cond.soleField "DuskGates$Passing" "isIn") ∈ lw_all := lw_g (lw_at lw_m4 118 rfl) rfl
theorem q895 : (Jvm.Cond.laysFinal "DuskGates$Passing" "DuskGates$Passing" "gate" "I") ∈ lw_all := lw_g (lw_at lw_m4 119 rfl) rfl
theorem q896 : (Jvm.Cond.soleField "DuskGates$Passing" "gate") ∈ lw_all := lw_g (lw_at lw_m4 120 rfl) rfl
theorem q897 : (Jvm.Cond.laysFinal "DuskGates$Passing" "DuskGates$Passing" "day" "I") ∈ lw_all := lw_g (lw_at lw_m4 121 rfl) rfl
theorem q898 : (Jvm.Cond.soleField "DuskGates$Passing" "day") ∈ lw_all := lw_g (lw_at lw_m4 122 rfl) rfl
theorem q899 : (Jvm.Cond.laysFinal "DuskGates$Passing" "DuskGates$Passing" "minute" "I") ∈ lw_all := lw_g (lw_at lw_m4 123 rfl) rfl
theorem q900 : (Jvm.Cond.soleField "DuskGates$Passing" "minute") ∈ lw_all := lw_g (lw_at lw_m4 124 rfl) rfl
theorem q901 : (Jvm.Cond.laysFinal "DuskGates$Passing" "DuskGates$Passing" "paid" "I") ∈ lw_all := lw_g (lw_at lw_m4 125 rfl) rfl
theorem q902 : (Jvm.Cond.soleField "DuskGates$Passing" "paid") ∈ lw_all := lw_g (lw_at lw_m4 126 rfl) rfl
theorem q903 : (Jvm.Cond.superclass "DuskGates$Passing" "java/lang/Object") ∈ lw_all := lw_g (lw_at lw_m4 127 rfl) rfl
theorem q905 : (Jvm.Cond.instanceMethod ({ cls := "DuskGates$Passing", name := "isBefore", desc := "(LDuskGates$Passing;)Z" } : Jvm.MethodName)) ∈ lw_all := lw_g (lw_at lw_m4 129 rfl) rfl
theorem q906 : (Jvm.Cond.selects "DuskGates$Passing" ({ cls := "DuskGates$Passing", name := "isBefore", desc := "(LDuskGates$Passing;)Z" } : Jvm.MethodName) ({ cls := "DuskGates$Passing", name := "isBefore", desc := "(LDuskGates$Passing;)Z" } : Jvm.MethodName)) ∈ lw_all := lw_g (lw_at lw_m4 130 rfl) rfl
theorem q907 : (Jvm.Cond.code ({ cls := "DuskGates$Passing", name := "isBefore", desc := "(LDuskGates$Passing;)Z" } : Jvm.MethodName) prog_10_method_2_code (2 : Nat) (Option.some Jvm.ClassFile.FieldType.boolean)) ∈ lw_all := lw_g (lw_at lw_m4 131 rfl) rfl
theorem q1991 : (Jvm.Cond.castable "DuskGates$Passing" "java/lang/Object") ∈ lw_tbl := lw_at lw_m9 15 rfl
theorem in_X8 : ∀ w ∈ wsX80, w ∈ lw_all := lw_in wsX80 [891, 893, 895, 897, 899, 901] (by decide +kernel) (by decide +kernel)

/-! DuskGates$Span -/
set_option maxRecDepth 100000
def RX9 : String := "DuskGates$Span"
def TX9 : u_T := fun k => match k with
  | 0 => ("DuskGates$Span", "a", "I", true)
  | 1 => ("DuskGates$Span", "b", "I", true)
  | 2 => ("DuskGates$Span", "from", "I", true)
  | _ => ("DuskGates$Span", "to", "I", true)
def tyX9 : Nat → FieldType := fun k => match k with
  | 0 => .int
  | 1 => .int
  | 2 => .int
  | _ => .int
abbrev wsX90 : List Cond := u_ws RX9 TX9 4
theorem nmX9 : ∀ a, a < 4 → ∀ b, b < 4 → a ≠ b → (TX9 a).2.1 ≠ (TX9 b).2.1 := by decide +kernel
theorem tyX9_ok : ∀ k, k < 4 → parseFieldDescriptor (TX9 k).2.2.1 = some (tyX9 k) := by decide +kernel
abbrev cX9_init : ByteArray := prog_13_method_1_code
def yX9_init : MethodName := ⟨RX9, "<init>", "(IIII)V"⟩
def dkwX9_init_1 : List UInt8 := [181, 0, 19, 177]
abbrev dktX9_init_1 : List UInt8 := dkwX9_init_1 ++ []
def dkwX9_init_0 : List UInt8 := [42, 183, 0, 1, 42, 27, 181, 0, 7, 42, 28, 181, 0, 13, 42, 29, 181, 0, 16, 42, 21, 4]
abbrev dktX9_init_0 : List UInt8 := dkwX9_init_0 ++ dktX9_init_1
theorem dksX9_init_0 : cX9_init.data.toList.drop 0 = dktX9_init_0 := by decide +kernel
theorem dksX9_init_1 : cX9_init.data.toList.drop 22 = dktX9_init_1 := dk_seg dksX9_init_0 22 rfl rfl
theorem dX9_init_0 : decode cX9_init 0 = .ok (.aload_n 0, 1) := dk_42 (dk_at dksX9_init_0 0 rfl rfl)
theorem dX9_init_1 : decode cX9_init 1 = .ok (.invokespecial 1, 3) := dk_183 0 1 (dk_at dksX9_init_0 1 rfl rfl)
theorem dX9_init_4 : decode cX9_init 4 = .ok (.aload_n 0, 1) := dk_42 (dk_at dksX9_init_0 4 rfl rfl)
theorem dX9_init_5 : decode cX9_init 5 = .ok (.iload_n 1, 1) := dk_27 (dk_at dksX9_init_0 5 rfl rfl)
theorem dX9_init_6 : decode cX9_init 6 = .ok (.putfield 7, 3) := dk_181 0 7 (dk_at dksX9_init_0 6 rfl rfl)
theorem dX9_init_9 : decode cX9_init 9 = .ok (.aload_n 0, 1) := dk_42 (dk_at dksX9_init_0 9 rfl rfl)
theorem dX9_init_10 : decode cX9_init 10 = .ok (.iload_n 2, 1) := dk_28 (dk_at dksX9_init_0 10 rfl rfl)
theorem dX9_init_11 : decode cX9_init 11 = .ok (.putfield 13, 3) := dk_181 0 13 (dk_at dksX9_init_0 11 rfl rfl)
theorem dX9_init_14 : decode cX9_init 14 = .ok (.aload_n 0, 1) := dk_42 (dk_at dksX9_init_0 14 rfl rfl)
theorem dX9_init_15 : decode cX9_init 15 = .ok (.iload_n 3, 1) := dk_29 (dk_at dksX9_init_0 15 rfl rfl)
theorem dX9_init_16 : decode cX9_init 16 = .ok (.putfield 16, 3) := dk_181 0 16 (dk_at dksX9_init_0 16 rfl rfl)
theorem dX9_init_19 : decode cX9_init 19 = .ok (.aload_n 0, 1) := dk_42 (dk_at dksX9_init_0 19 rfl rfl)
theorem dX9_init_20 : decode cX9_init 20 = .ok (.iload 4, 2) := dk_21 4 (dk_at dksX9_init_0 20 rfl rfl)
theorem dX9_init_22 : decode cX9_init 22 = .ok (.putfield 19, 3) := dk_181 0 19 (dk_at dksX9_init_1 0 rfl rfl)
theorem dX9_init_25 : decode cX9_init 25 = .ok (.return_, 1) := dk_177 (dk_at dksX9_init_1 3 rfl rfl)
abbrev cX9_meets : ByteArray := prog_13_method_2_code
def yX9_meets : MethodName := ⟨RX9, "meets", "(II)Z"⟩
def dkwX9_meets_0 : List UInt8 := [42, 180, 0, 16, 28, 163, 0, 15, 42, 180, 0, 19, 27, 161, 0, 7, 4, 167, 0, 4, 3, 172]
abbrev dktX9_meets_0 : List UInt8 := dkwX9_meets_0 ++ []
theorem dksX9_meets_0 : cX9_meets.data.toList.drop 0 = dktX9_meets_0 := by decide +kernel
theorem dX9_meets_0 : decode cX9_meets 0 = .ok (.aload_n 0, 1) := dk_42 (dk_at dksX9_meets_0 0 rfl rfl)
theorem dX9_meets_1 : decode cX9_meets 1 = .ok (.getfield 16, 3) := dk_180 0 16 (dk_at dksX9_meets_0 1 rfl rfl)
theorem dX9_meets_4 : decode cX9_meets 4 = .ok (.iload_n 2, 1) := dk_28 (dk_at dksX9_meets_0 4 rfl rfl)
theorem dX9_meets_5 : decode cX9_meets 5 = .ok (.if_icmp .gt 15, 3) := dk_163 0 15 (dk_at dksX9_meets_0 5 rfl rfl)
theorem dX9_meets_8 : decode cX9_meets 8 = .ok (.aload_n 0, 1) := dk_42 (dk_at dksX9_meets_0 8 rfl rfl)
theorem dX9_meets_9 : decode cX9_meets 9 = .ok (.getfield 19, 3) := dk_180 0 19 (dk_at dksX9_meets_0 9 rfl rfl)
theorem dX9_meets_12 : decode cX9_meets 12 = .ok (.iload_n 1, 1) := dk_27 (dk_at dksX9_meets_0 12 rfl rfl)
theorem dX9_meets_13 : decode cX9_meets 13 = .ok (.if_icmp .lt 7, 3) := dk_161 0 7 (dk_at dksX9_meets_0 13 rfl rfl)
theorem dX9_meets_16 : decode cX9_meets 16 = .ok (.iconst 1, 1) := dk_4 (dk_at dksX9_meets_0 16 rfl rfl)
theorem dX9_meets_17 : decode cX9_meets 17 = .ok (.goto 4, 3) := dk_167 0 4 (dk_at dksX9_meets_0 17 rfl rfl)
theorem dX9_meets_20 : decode cX9_meets 20 = .ok (.iconst 0, 1) := dk_3 (dk_at dksX9_meets_0 20 rfl rfl)
theorem dX9_meets_21 : decode cX9_meets 21 = .ok (.ireturn, 1) := dk_172 (dk_at dksX9_meets_0 21 rfl rfl)
theorem q87 : (Jvm.Cond.initialized "DuskGates$Span") ∈ lw_all := lw_g (lw_at lw_m1 31 rfl) rfl
theorem q776 : (Jvm.Cond.selects "DuskGates$Span" ({ cls := "java/lang/Object", name := "getClass", desc := "()Ljava/lang/Class;" } : Jvm.MethodName) ({ cls := "java/lang/Object", name := "getClass", desc := "()Ljava/lang/Class;" } : Jvm.MethodName)) ∈ lw_all := lw_g (lw_at lw_m4 0 rfl) rfl
theorem q1047 : (Jvm.Cond.instantiable "DuskGates$Span" (4 : Nat)) ∈ lw_all := lw_g (lw_at lw_m5 31 rfl) rfl
theorem q1049 : (Jvm.Cond.instanceMethod ({ cls := "DuskGates$Span", name := "<init>", desc := "(IIII)V" } : Jvm.MethodName)) ∈ lw_all := lw_g (lw_at lw_m5 33 rfl) rfl
theorem q1050 : (Jvm.Cond.code ({ cls := "DuskGates$Span", name := "<init>", desc := "(IIII)V" } : Jvm.MethodName) prog_13_method_1_code (5 : Nat) (Option.none : Option Jvm.ClassFile.FieldType)) ∈ lw_all := lw_g (lw_at lw_m5 34 rfl) rfl
theorem q1051 : (Jvm.Cond.methodLink "DuskGates$Span" (1 : Nat) ({ cls := "java/lang/Object", name := "<init>", desc := "()V" } : Jvm.MethodName)) ∈ lw_all := lw_g (lw_at lw_m5 35 rfl) rfl
theorem q1052 : (Jvm.Cond.fieldLink "DuskGates$Span" (7 : Nat) "DuskGates$Span" "a" "I") ∈ lw_all := lw_g (lw_at lw_m5 36 rfl) rfl
theorem q1054 : (Jvm.Cond.fieldLink "DuskGates$Span" (13 : Nat) "DuskGates$Span" "b" "I") ∈ lw_all := lw_g (lw_at lw_m5 38 rfl) rfl
theorem q1056 : (Jvm.Cond.fieldLink "DuskGates$Span" (16 : Nat) "DuskGates$Span" "from" "I") ∈ lw_all := lw_g (lw_at lw_m5 40 rfl) rfl
theorem q1057 : (Jvm.Cond.fieldLink "DuskGates$Span" (19 : Nat) "DuskGates$Span" "to" "I") ∈ lw_all := lw_g (lw_at lw_m5 41 rfl) rfl
theorem q1058 : (Jvm.Cond.laysFinal "DuskGates$Span" "DuskGates$Span" "a" "I") ∈ lw_all := lw_g (lw_at lw_m5 42 rfl) rfl
theorem q1059 : (Jvm.Cond.soleField "DuskGates$Span" "a") ∈ lw_all := lw_g (lw_at lw_m5 43 rfl) rfl
theorem q1060 : (Jvm.Cond.laysFinal "DuskGates$Span" "DuskGates$Span" "b" "I") ∈ lw_all := lw_g (lw_at lw_m5 44 rfl) rfl
theorem q1061 : (Jvm.Cond.soleField "DuskGates$Span" "b") ∈ lw_all := lw_g (lw_at lw_m5 45 rfl) rfl
theorem q1062 : (Jvm.Cond.laysFinal "DuskGates$Span" "DuskGates$Span" "from" "I") ∈ lw_all := lw_g (lw_at lw_m5 46 rfl) rfl
theorem q1063 : (Jvm.Cond.soleField "DuskGates$Span" "from") ∈ lw_all := lw_g (lw_at lw_m5 47 rfl) rfl
theorem q1064 : (Jvm.Cond.laysFinal "DuskGates$Span" "DuskGates$Span" "to" "I") ∈ lw_all := lw_g (lw_at lw_m5 48 rfl) rfl
theorem q1065 : (Jvm.Cond.soleField "DuskGates$Span" "to") ∈ lw_all := lw_g (lw_at lw_m5 49 rfl) rfl
theorem q1066 : (Jvm.Cond.superclass "DuskGates$Span" "java/lang/Object") ∈ lw_all := lw_g (lw_at lw_m5 50 rfl) rfl
theorem q1184 : (Jvm.Cond.instanceMethod ({ cls := "DuskGates$Span", name := "meets", desc := "(II)Z" } : Jvm.MethodName)) ∈ lw_all := lw_g (lw_at lw_m5 168 rfl) rfl
theorem q1185 : (Jvm.Cond.selects "DuskGates$Span" ({ cls := "DuskGates$Span", name := "meets", desc := "(II)Z" } : Jvm.MethodName) ({ cls := "DuskGates$Span", name := "meets", desc := "(II)Z" } : Jvm.MethodName)) ∈ lw_all := lw_g (lw_at lw_m5 169 rfl) rfl
theorem q1186 : (Jvm.Cond.code ({ cls := "DuskGates$Span", name := "meets", desc := "(II)Z" } : Jvm.MethodName) prog_13_method_2_code (3 : Nat) (Option.some Jvm.ClassFile.FieldType.boolean)) ∈ lw_all := lw_g (lw_at lw_m5 170 rfl) rfl
theorem q1993 : (Jvm.Cond.castable "DuskGates$Span" "java/lang/Object") ∈ lw_tbl := lw_at lw_m9 17 rfl
theorem in_X9 : ∀ w ∈ wsX90, w ∈ lw_all := lw_in wsX90 [1058, 1060, 1062, 1064] (by decide +kernel) (by decide +kernel)

/-! DuskGates$Pass -/
set_option maxRecDepth 100000
def RX10 : String := "DuskGates$Pass"
def TX10 : u_T := fun k => match k with
  | 0 => ("DuskGates$Pass", "person", "I", true)
  | 1 => ("DuskGates$Pass", "seal", "I", true)
  | 2 => ("DuskGates$Pass", "hand", "I", true)
  | 3 => ("DuskGates$Pass", "town", "I", true)
  | 4 => ("DuskGates$Pass", "day", "I", true)
  | _ => ("DuskGates$Pass", "last", "I", true)
def tyX10 : Nat → FieldType := fun k => match k with
  | 0 => .int
  | 1 => .int
  | 2 => .int
  | 3 => .int
  | 4 => .int
  | _ => .int
abbrev wsX100 : List Cond := u_ws RX10 TX10 6
theorem nmX10 : ∀ a, a < 6 → ∀ b, b < 6 → a ≠ b → (TX10 a).2.1 ≠ (TX10 b).2.1 := by decide +kernel
theorem tyX10_ok : ∀ k, k < 6 → parseFieldDescriptor (TX10 k).2.2.1 = some (tyX10 k) := by decide +kernel
abbrev cX10_init : ByteArray := prog_9_method_1_code
def yX10_init : MethodName := ⟨RX10, "<init>", "([I)V"⟩
def dkwX10_init_2 : List UInt8 := [181, 0, 27, 177]
abbrev dktX10_init_2 : List UInt8 := dkwX10_init_2 ++ []
def dkwX10_init_1 : List UInt8 := [181, 0, 18, 42, 43, 7, 46, 181, 0, 21, 42, 43, 8, 46, 181, 0, 24, 42, 43, 16, 6, 46]
abbrev dktX10_init_1 : List UInt8 := dkwX10_init_1 ++ dktX10_init_2
def dkwX10_init_0 : List UInt8 := [42, 183, 0, 3, 42, 43, 4, 46, 181, 0, 9, 42, 43, 5, 46, 181, 0, 15, 42, 43, 6, 46]
abbrev dktX10_init_0 : List UInt8 := dkwX10_init_0 ++ dktX10_init_1
theorem dksX10_init_0 : cX10_init.data.toList.drop 0 = dktX10_init_0 := by decide +kernel
theorem dksX10_init_1 : cX10_init.data.toList.drop 22 = dktX10_init_1 := dk_seg dksX10_init_0 22 rfl rfl
theorem dksX10_init_2 : cX10_init.data.toList.drop 44 = dktX10_init_2 := dk_seg dksX10_init_1 22 rfl rfl
theorem dX10_init_0 : decode cX10_init 0 = .ok (.aload_n 0, 1) := dk_42 (dk_at dksX10_init_0 0 rfl rfl)
theorem dX10_init_1 : decode cX10_init 1 = .ok (.invokespecial 3, 3) := dk_183 0 3 (dk_at dksX10_init_0 1 rfl rfl)
theorem dX10_init_4 : decode cX10_init 4 = .ok (.aload_n 0, 1) := dk_42 (dk_at dksX10_init_0 4 rfl rfl)
theorem dX10_init_5 : decode cX10_init 5 = .ok (.aload_n 1, 1) := dk_43 (dk_at dksX10_init_0 5 rfl rfl)
theorem dX10_init_6 : decode cX10_init 6 = .ok (.iconst 1, 1) := dk_4 (dk_at dksX10_init_0 6 rfl rfl)
theorem dX10_init_7 : decode cX10_init 7 = .ok (.iaload, 1) := dk_46 (dk_at dksX10_init_0 7 rfl rfl)
theorem dX10_init_8 : decode cX10_init 8 = .ok (.putfield 9, 3) := dk_181 0 9 (dk_at dksX10_init_0 8 rfl rfl)
theorem dX10_init_11 : decode cX10_init 11 = .ok (.aload_n 0, 1) := dk_42 (dk_at dksX10_init_0 11 rfl rfl)
theorem dX10_init_12 : decode cX10_init 12 = .ok (.aload_n 1, 1) := dk_43 (dk_at dksX10_init_0 12 rfl rfl)
theorem dX10_init_13 : decode cX10_init 13 = .ok (.iconst 2, 1) := dk_5 (dk_at dksX10_init_0 13 rfl rfl)
theorem dX10_init_14 : decode cX10_init 14 = .ok (.iaload, 1) := dk_46 (dk_at dksX10_init_0 14 rfl rfl)
theorem dX10_init_15 : decode cX10_init 15 = .ok (.putfield 15, 3) := dk_181 0 15 (dk_at dksX10_init_0 15 rfl rfl)
theorem dX10_init_18 : decode cX10_init 18 = .ok (.aload_n 0, 1) := dk_42 (dk_at dksX10_init_0 18 rfl rfl)
theorem dX10_init_19 : decode cX10_init 19 = .ok (.aload_n 1, 1) := dk_43 (dk_at dksX10_init_0 19 rfl rfl)
theorem dX10_init_20 : decode cX10_init 20 = .ok (.iconst 3, 1) := dk_6 (dk_at dksX10_init_0 20 rfl rfl)
theorem dX10_init_21 : decode cX10_init 21 = .ok (.iaload, 1) := dk_46 (dk_at dksX10_init_0 21 rfl rfl)
theorem dX10_init_22 : decode cX10_init 22 = .ok (.putfield 18, 3) := dk_181 0 18 (dk_at dksX10_init_1 0 rfl rfl)
theorem dX10_init_25 : decode cX10_init 25 = .ok (.aload_n 0, 1) := dk_42 (dk_at dksX10_init_1 3 rfl rfl)
theorem dX10_init_26 : decode cX10_init 26 = .ok (.aload_n 1, 1) := dk_43 (dk_at dksX10_init_1 4 rfl rfl)
theorem dX10_init_27 : decode cX10_init 27 = .ok (.iconst 4, 1) := dk_7 (dk_at dksX10_init_1 5 rfl rfl)
theorem dX10_init_28 : decode cX10_init 28 = .ok (.iaload, 1) := dk_46 (dk_at dksX10_init_1 6 rfl rfl)
theorem dX10_init_29 : decode cX10_init 29 = .ok (.putfield 21, 3) := dk_181 0 21 (dk_at dksX10_init_1 7 rfl rfl)
theorem dX10_init_32 : decode cX10_init 32 = .ok (.aload_n 0, 1) := dk_42 (dk_at dksX10_init_1 10 rfl rfl)
theorem dX10_init_33 : decode cX10_init 33 = .ok (.aload_n 1, 1) := dk_43 (dk_at dksX10_init_1 11 rfl rfl)
theorem dX10_init_34 : decode cX10_init 34 = .ok (.iconst 5, 1) := dk_8 (dk_at dksX10_init_1 12 rfl rfl)
theorem dX10_init_35 : decode cX10_init 35 = .ok (.iaload, 1) := dk_46 (dk_at dksX10_init_1 13 rfl rfl)
theorem dX10_init_36 : decode cX10_init 36 = .ok (.putfield 24, 3) := dk_181 0 24 (dk_at dksX10_init_1 14 rfl rfl)
theorem dX10_init_39 : decode cX10_init 39 = .ok (.aload_n 0, 1) := dk_42 (dk_at dksX10_init_1 17 rfl rfl)
theorem dX10_init_40 : decode cX10_init 40 = .ok (.aload_n 1, 1) := dk_43 (dk_at dksX10_init_1 18 rfl rfl)
theorem dX10_init_41 : decode cX10_init 41 = .ok (.bipush 6, 2) := dk_16 6 (dk_at dksX10_init_1 19 rfl rfl)
theorem dX10_init_43 : decode cX10_init 43 = .ok (.iaload, 1) := dk_46 (dk_at dksX10_init_1 21 rfl rfl)
theorem dX10_init_44 : decode cX10_init 44 = .ok (.putfield 27, 3) := dk_181 0 27 (dk_at dksX10_init_2 0 rfl rfl)
theorem dX10_init_47 : decode cX10_init 47 = .ok (.return_, 1) := dk_177 (dk_at dksX10_init_2 3 rfl rfl)
abbrev cX10_init_2 : ByteArray := prog_9_method_2_code
def yX10_init_2 : MethodName := ⟨RX10, "<init>", "(LDuskGates$Pass;)V"⟩
def dkwX10_init_2_2 : List UInt8 := [180, 0, 27, 181, 0, 27, 177]
abbrev dktX10_init_2_2 : List UInt8 := dkwX10_init_2_2 ++ []
def dkwX10_init_2_1 : List UInt8 := [180, 0, 18, 181, 0, 18, 42, 43, 180, 0, 21, 181, 0, 21, 42, 43, 180, 0, 24, 181, 0, 24, 42, 43]
abbrev dktX10_init_2_1 : List UInt8 := dkwX10_init_2_1 ++ dktX10_init_2_2
def dkwX10_init_2_0 : List UInt8 := [42, 183, 0, 3, 42, 43, 180, 0, 9, 181, 0, 9, 42, 43, 180, 0, 15, 181, 0, 15, 42, 43]
abbrev dktX10_init_2_0 : List UInt8 := dkwX10_init_2_0 ++ dktX10_init_2_1
theorem dksX10_init_2_0 : cX10_init_2.data.toList.drop 0 = dktX10_init_2_0 := by decide +kernel
theorem dksX10_init_2_1 : cX10_init_2.data.toList.drop 22 = dktX10_init_2_1 := dk_seg dksX10_init_2_0 22 rfl rfl
theorem dksX10_init_2_2 : cX10_init_2.data.toList.drop 46 = dktX10_init_2_2 := dk_seg dksX10_init_2_1 24 rfl rfl
theorem dX10_init_2_0 : decode cX10_init_2 0 = .ok (.aload_n 0, 1) := dk_42 (dk_at dksX10_init_2_0 0 rfl rfl)
theorem dX10_init_2_1 : decode cX10_init_2 1 = .ok (.invokespecial 3, 3) := dk_183 0 3 (dk_at dksX10_init_2_0 1 rfl rfl)
theorem dX10_init_2_4 : decode cX10_init_2 4 = .ok (.aload_n 0, 1) := dk_42 (dk_at dksX10_init_2_0 4 rfl rfl)
theorem dX10_init_2_5 : decode cX10_init_2 5 = .ok (.aload_n 1, 1) := dk_43 (dk_at dksX10_init_2_0 5 rfl rfl)
theorem dX10_init_2_6 : decode cX10_init_2 6 = .ok (.getfield 9, 3) := dk_180 0 9 (dk_at dksX10_init_2_0 6 rfl rfl)
theorem dX10_init_2_9 : decode cX10_init_2 9 = .ok (.putfield 9, 3) := dk_181 0 9 (dk_at dksX10_init_2_0 9 rfl rfl)
theorem dX10_init_2_12 : decode cX10_init_2 12 = .ok (.aload_n 0, 1) := dk_42 (dk_at dksX10_init_2_0 12 rfl rfl)
theorem dX10_init_2_13 : decode cX10_init_2 13 = .ok (.aload_n 1, 1) := dk_43 (dk_at dksX10_init_2_0 13 rfl rfl)
theorem dX10_init_2_14 : decode cX10_init_2 14 = .ok (.getfield 15, 3) := dk_180 0 15 (dk_at dksX10_init_2_0 14 rfl rfl)
theorem dX10_init_2_17 : decode cX10_init_2 17 = .ok (.putfield 15, 3) := dk_181 0 15 (dk_at dksX10_init_2_0 17 rfl rfl)
theorem dX10_init_2_20 : decode cX10_init_2 20 = .ok (.aload_n 0, 1) := dk_42 (dk_at dksX10_init_2_0 20 rfl rfl)
theorem dX10_init_2_21 : decode cX10_init_2 21 = .ok (.aload_n 1, 1) := dk_43 (dk_at dksX10_init_2_0 21 rfl rfl)
theorem dX10_init_2_22 : decode cX10_init_2 22 = .ok (.getfield 18, 3) := dk_180 0 18 (dk_at dksX10_init_2_1 0 rfl rfl)
theorem dX10_init_2_25 : decode cX10_init_2 25 = .ok (.putfield 18, 3) := dk_181 0 18 (dk_at dksX10_init_2_1 3 rfl rfl)
theorem dX10_init_2_28 : decode cX10_init_2 28 = .ok (.aload_n 0, 1) := dk_42 (dk_at dksX10_init_2_1 6 rfl rfl)
theorem dX10_init_2_29 : decode cX10_init_2 29 = .ok (.aload_n 1, 1) := dk_43 (dk_at dksX10_init_2_1 7 rfl rfl)
theorem dX10_init_2_30 : decode cX10_init_2 30 = .ok (.getfield 21, 3) := dk_180 0 21 (dk_at dksX10_init_2_1 8 rfl rfl)
theorem dX10_init_2_33 : decode cX10_init_2 33 = .ok (.putfield 21, 3) := dk_181 0 21 (dk_at dksX10_init_2_1 11 rfl rfl)
theorem dX10_init_2_36 : decode cX10_init_2 36 = .ok (.aload_n 0, 1) := dk_42 (dk_at dksX10_init_2_1 14 rfl rfl)
theorem dX10_init_2_37 : decode cX10_init_2 37 = .ok (.aload_n 1, 1) := dk_43 (dk_at dksX10_init_2_1 15 rfl rfl)
theorem dX10_init_2_38 : decode cX10_init_2 38 = .ok (.getfield 24, 3) := dk_180 0 24 (dk_at dksX10_init_2_1 16 rfl rfl)
theorem dX10_init_2_41 : decode cX10_init_2 41 = .ok (.putfield 24, 3) := dk_181 0 24 (dk_at dksX10_init_2_1 19 rfl rfl)
theorem dX10_init_2_44 : decode cX10_init_2 44 = .ok (.aload_n 0, 1) := dk_42 (dk_at dksX10_init_2_1 22 rfl rfl)
theorem dX10_init_2_45 : decode cX10_init_2 45 = .ok (.aload_n 1, 1) := dk_43 (dk_at dksX10_init_2_1 23 rfl rfl)
theorem dX10_init_2_46 : decode cX10_init_2 46 = .ok (.getfield 27, 3) := dk_180 0 27 (dk_at dksX10_init_2_2 0 rfl rfl)
theorem dX10_init_2_49 : decode cX10_init_2 49 = .ok (.putfield 27, 3) := dk_181 0 27 (dk_at dksX10_init_2_2 3 rfl rfl)
theorem dX10_init_2_52 : decode cX10_init_2 52 = .ok (.return_, 1) := dk_177 (dk_at dksX10_init_2_2 6 rfl rfl)
abbrev cX10_isForNight : ByteArray := prog_9_method_4_code
def yX10_isForNight : MethodName := ⟨RX10, "isForNight", "()Z"⟩
theorem dX10_isForNight_0 : decode cX10_isForNight 0 = .ok (.iconst 0, 1) := by decide +kernel
theorem dX10_isForNight_1 : decode cX10_isForNight 1 = .ok (.ireturn, 1) := by decide +kernel
abbrev cX10_kind : ByteArray := prog_9_method_3_code
def yX10_kind : MethodName := ⟨RX10, "kind", "()I"⟩
theorem dX10_kind_0 : decode cX10_kind 0 = .ok (.iconst 0, 1) := by decide +kernel
theorem dX10_kind_1 : decode cX10_kind 1 = .ok (.ireturn, 1) := by decide +kernel
abbrev cX10_size : ByteArray := prog_9_method_6_code
def yX10_size : MethodName := ⟨RX10, "size", "(LDuskGates$Trail;)I"⟩
def dkwX10_size_0 : List UInt8 := [43, 16, 10, 182, 0, 30, 42, 180, 0, 27, 42, 180, 0, 24, 100, 172]
abbrev dktX10_size_0 : List UInt8 := dkwX10_size_0 ++ []
theorem dksX10_size_0 : cX10_size.data.toList.drop 0 = dktX10_size_0 := by decide +kernel
theorem dX10_size_0 : decode cX10_size 0 = .ok (.aload_n 1, 1) := dk_43 (dk_at dksX10_size_0 0 rfl rfl)
theorem dX10_size_1 : decode cX10_size 1 = .ok (.bipush 10, 2) := dk_16 10 (dk_at dksX10_size_0 1 rfl rfl)
theorem dX10_size_3 : decode cX10_size 3 = .ok (.invokevirtual 30, 3) := dk_182 0 30 (dk_at dksX10_size_0 3 rfl rfl)
theorem dX10_size_6 : decode cX10_size 6 = .ok (.aload_n 0, 1) := dk_42 (dk_at dksX10_size_0 6 rfl rfl)
theorem dX10_size_7 : decode cX10_size 7 = .ok (.getfield 27, 3) := dk_180 0 27 (dk_at dksX10_size_0 7 rfl rfl)
theorem dX10_size_10 : decode cX10_size 10 = .ok (.aload_n 0, 1) := dk_42 (dk_at dksX10_size_0 10 rfl rfl)
theorem dX10_size_11 : decode cX10_size 11 = .ok (.getfield 24, 3) := dk_180 0 24 (dk_at dksX10_size_0 11 rfl rfl)
theorem dX10_size_14 : decode cX10_size 14 = .ok (.isub, 1) := dk_100 (dk_at dksX10_size_0 14 rfl rfl)
theorem dX10_size_15 : decode cX10_size 15 = .ok (.ireturn, 1) := dk_172 (dk_at dksX10_size_0 15 rfl rfl)
abbrev cX10_seal : ByteArray := prog_9_method_5_code
def yX10_seal : MethodName := ⟨RX10, "seal", "()I"⟩
theorem dX10_seal_0 : decode cX10_seal 0 = .ok (.aload_n 0, 1) := by decide +kernel
theorem dX10_seal_1 : decode cX10_seal 1 = .ok (.getfield 15, 3) := by decide +kernel
theorem dX10_seal_4 : decode cX10_seal 4 = .ok (.ireturn, 1) := by decide +kernel
theorem q88 : (Jvm.Cond.initialized "DuskGates$Pass") ∈ lw_all := lw_g (lw_at lw_m1 32 rfl) rfl
theorem q772 : (Jvm.Cond.selects "DuskGates$Pass" ({ cls := "java/lang/Object", name := "getClass", desc := "()Ljava/lang/Class;" } : Jvm.MethodName) ({ cls := "java/lang/Object", name := "getClass", desc := "()Ljava/lang/Class;" } : Jvm.MethodName)) ∈ lw_all := lw_g (lw_at lw_m3 236 rfl) rfl
theorem q1081 : (Jvm.Cond.instantiable "DuskGates$Pass" (6 : Nat)) ∈ lw_all := lw_g (lw_at lw_m5 65 rfl) rfl
theorem q1083 : (Jvm.Cond.instanceMethod ({ cls := "DuskGates$Pass", name := "<init>", desc := "([I)V" } : Jvm.MethodName)) ∈ lw_all := lw_g (lw_at lw_m5 67 rfl) rfl
theorem q1084 : (Jvm.Cond.code ({ cls := "DuskGates$Pass", name := "<init>", desc := "([I)V" } : Jvm.MethodName) prog_9_method_1_code (2 : Nat) (Option.none : Option Jvm.ClassFile.FieldType)) ∈ lw_all := lw_g (lw_at lw_m5 68 rfl) rfl
theorem q1085 : (Jvm.Cond.methodLink "DuskGates$Pass" (3 : Nat) ({ cls := "java/lang/Object", name := "<init>", desc := "()V" } : Jvm.MethodName)) ∈ lw_all := lw_g (lw_at lw_m5 69 rfl) rfl
theorem q1086 : (Jvm.Cond.fieldLink "DuskGates$Pass" (9 : Nat) "DuskGates$Pass" "person" "I") ∈ lw_all := lw_g (lw_at lw_m5 70 rfl) rfl
theorem q1090 : (Jvm.Cond.fieldLink "DuskGates$Pass" (15 : Nat) "DuskGates$Pass" "seal" "I") ∈ lw_all := lw_g (lw_at lw_m5 74 rfl) rfl
theorem q1092 : (Jvm.Cond.fieldLink "DuskGates$Pass" (18 : Nat) "DuskGates$Pass" "hand" "I") ∈ lw_all := lw_g (lw_at lw_m5 76 rfl) rfl
theorem q1096 : (Jvm.Cond.fieldLink "DuskGates$Pass" (21 : Nat) "DuskGates$Pass" "town" "I") ∈ lw_all := lw_g (lw_at lw_m5 80 rfl) rfl
theorem q1100 : (Jvm.Cond.fieldLink "DuskGates$Pass" (24 : Nat) "DuskGates$Pass" "day" "I") ∈ lw_all := lw_g (lw_at lw_m5 84 rfl) rfl
theorem q1102 : (Jvm.Cond.fieldLink "DuskGates$Pass" (27 : Nat) "DuskGates$Pass" "last" "I") ∈ lw_all := lw_g (lw_at lw_m5 86 rfl) rfl
theorem q1104 : (Jvm.Cond.laysFinal "DuskGates$Pass" "DuskGates$Pass" "person" "I") ∈ lw_all := lw_g (lw_at lw_m5 88 rfl) rfl
theorem q1105 : (Jvm.Cond.soleField "DuskGates$Pass" "person") ∈ lw_all := lw_g (lw_at lw_m5 89 rfl) rfl
theorem q1106 : (Jvm.Cond.laysFinal "DuskGates$Pass" "DuskGates$Pass" "seal" "I") ∈ lw_all := lw_g (lw_at lw_m5 90 rfl) rfl
theorem q1107 : (Jvm.Cond.soleField "DuskGates$Pass" "seal") ∈ lw_all := lw_g (lw_at lw_m5 91 rfl) rfl
theorem q1108 : (Jvm.Cond.laysFinal "DuskGates$Pass" "DuskGates$Pass" "hand" "I") ∈ lw_all := lw_g (lw_at lw_m5 92 rfl) rfl
theorem q1109 : (Jvm.Cond.soleField "DuskGates$Pass" "hand") ∈ lw_all := lw_g (lw_at lw_m5 93 rfl) rfl
theorem q1110 : (Jvm.Cond.laysFinal "DuskGates$Pass" "DuskGates$Pass" "town" "I") ∈ lw_all := lw_g (lw_at lw_m5 94 rfl) rfl
theorem q1111 : (Jvm.Cond.soleField "DuskGates$Pass" "town") ∈ lw_all := lw_g (lw_at lw_m5 95 rfl) rfl
theorem q1112 : (Jvm.Cond.laysFinal "DuskGates$Pass" "DuskGates$Pass" "day" "I") ∈ lw_all := lw_g (lw_at lw_m5 96 rfl) rfl
theorem q1113 : (Jvm.Cond.soleField "DuskGates$Pass" "day") ∈ lw_all := lw_g (lw_at lw_m5 97 rfl) rfl
theorem q1114 : (Jvm.Cond.laysFinal "DuskGates$Pass" "DuskGates$Pass" "last" "I") ∈ lw_all := lw_g (lw_at lw_m5 98 rfl) rfl
theorem q1115 : (Jvm.Cond.soleField "DuskGates$Pass" "last") ∈ lw_all := lw_g (lw_at lw_m5 99 rfl) rfl
theorem q1116 : (Jvm.Cond.superclass "DuskGates$Pass" "java/lang/Object") ∈ lw_all := lw_g (lw_at lw_m5 100 rfl) rfl
theorem q1196 : (Jvm.Cond.instanceMethod ({ cls := "DuskGates$Pass", name := "<init>", desc := "(LDuskGates$Pass;)V" } : Jvm.MethodName)) ∈ lw_all := lw_g (lw_at lw_m5 180 rfl) rfl
theorem q1197 : (Jvm.Cond.code ({ cls := "DuskGates$Pass", name := "<init>", desc := "(LDuskGates$Pass;)V" } : Jvm.MethodName) prog_9_method_2_code (2 : Nat) (Option.none : Option Jvm.ClassFile.FieldType)) ∈ lw_all := lw_g (lw_at lw_m5 181 rfl) rfl
theorem q1206 : (Jvm.Cond.instanceMethod ({ cls := "DuskGates$Pass", name := "isForNight", desc := "()Z" } : Jvm.MethodName)) ∈ lw_all := lw_g (lw_at lw_m5 190 rfl) rfl
theorem q1207 : (Jvm.Cond.selects "DuskGates$Pass" ({ cls := "DuskGates$Pass", name := "isForNight", desc := "()Z" } : Jvm.MethodName) ({ cls := "DuskGates$Pass", name := "isForNight", desc := "()Z" } : Jvm.MethodName)) ∈ lw_all := lw_g (lw_at lw_m5 191 rfl) rfl
theorem q1208 : (Jvm.Cond.sameMethod "DuskGates$Pass" "DuskGates$Pass" "isForNight" "()Z") ∈ lw_all := lw_g (lw_at lw_m5 192 rfl) rfl
theorem q1215 : (Jvm.Cond.code ({ cls := "DuskGates$Pass", name := "isForNight", desc := "()Z" } : Jvm.MethodName) prog_9_method_4_code (1 : Nat) (Option.some Jvm.ClassFile.FieldType.boolean)) ∈ lw_all := lw_g (lw_at lw_m5 199 rfl) rfl
theorem q1297 : (Jvm.Cond.instanceMethod ({ cls := "DuskGates$Pass", name := "kind", desc := "()I" } : Jvm.MethodName)) ∈ lw_all := lw_g (lw_at lw_m6 41 rfl) rfl
theorem q1298 : (Jvm.Cond.selects "DuskGates$Pass" ({ cls := "DuskGates$Pass", name := "kind", desc := "()I" } : Jvm.MethodName) ({ cls := "DuskGates$Pass", name := "kind", desc := "()I" } : Jvm.MethodName)) ∈ lw_all := lw_g (lw_at lw_m6 42 rfl) rfl
theorem q1299 : (Jvm.Cond.sameMethod "DuskGates$Pass" "DuskGates$Pass" "kind" "()I") ∈ lw_all := lw_g (lw_at lw_m6 43 rfl) rfl
theorem q1312 : (Jvm.Cond.code ({ cls := "DuskGates$Pass", name := "kind", desc := "()I" } : Jvm.MethodName) prog_9_method_3_code (1 : Nat) (Option.some Jvm.ClassFile.FieldType.int)) ∈ lw_all := lw_g (lw_at lw_m6 56 rfl) rfl
theorem q1336 : (Jvm.Cond.instanceMethod ({ cls := "DuskGates$Pass", name := "size", desc := "(LDuskGates$Trail;)I" } : Jvm.MethodName)) ∈ lw_all := lw_g (lw_at lw_m6 80 rfl) rfl
theorem q1337 : (Jvm.Cond.selects "DuskGates$Pass" ({ cls := "DuskGates$Pass", name := "size", desc := "(LDuskGates$Trail;)I" } : Jvm.MethodName) ({ cls := "DuskGates$Pass", name := "size", desc := "(LDuskGates$Trail;)I" } : Jvm.MethodName)) ∈ lw_all := lw_g (lw_at lw_m6 81 rfl) rfl
theorem q1338 : (Jvm.Cond.sameMethod "DuskGates$Pass" "DuskGates$Pass" "size" "(LDuskGates$Trail;)I") ∈ lw_all := lw_g (lw_at lw_m6 82 rfl) rfl
theorem q1351 : (Jvm.Cond.code ({ cls := "DuskGates$Pass", name := "size", desc := "(LDuskGates$Trail;)I" } : Jvm.MethodName) prog_9_method_6_code (2 : Nat) (Option.some Jvm.ClassFile.FieldType.int)) ∈ lw_all := lw_g (lw_at lw_m6 95 rfl) rfl
theorem q1352 : (Jvm.Cond.methodLink "DuskGates$Pass" (30 : Nat) ({ cls := "DuskGates$Trail", name := "begins", desc := "(I)V" } : Jvm.MethodName)) ∈ lw_all := lw_g (lw_at lw_m6 96 rfl) rfl
theorem q1373 : (Jvm.Cond.instanceMethod ({ cls := "DuskGates$Pass", name := "seal", desc := "()I" } : Jvm.MethodName)) ∈ lw_all := lw_g (lw_at lw_m6 117 rfl) rfl
theorem q1374 : (Jvm.Cond.publicMethod ({ cls := "DuskGates$Pass", name := "seal", desc := "()I" } : Jvm.MethodName)) ∈ lw_tbl := lw_at lw_m6 118 rfl
theorem q1375 : (Jvm.Cond.code ({ cls := "DuskGates$Pass", name := "seal", desc := "()I" } : Jvm.MethodName) prog_9_method_5_code (1 : Nat) (Option.some Jvm.ClassFile.FieldType.int)) ∈ lw_all := lw_g (lw_at lw_m6 119 rfl) rfl
theorem q1382 : (Jvm.Cond.castable "DuskGates$Pass" "DuskGates$Marked") ∈ lw_tbl := lw_at lw_m6 126 rfl
theorem q1383 : (Jvm.Cond.selects "DuskGates$Pass" ({ cls := "DuskGates$Marked", name := "seal", desc := "()I" } : Jvm.MethodName) ({ cls := "DuskGates$Pass", name := "seal", desc := "()I" } : Jvm.MethodName)) ∈ lw_all := lw_g (lw_at lw_m6 127 rfl) rfl
theorem q1384 : (Jvm.Cond.unhidden "DuskGates$Pass" "seal" "()I") ∈ lw_tbl := lw_at lw_m6 128 rfl
theorem q1405 : (Jvm.Cond.unhidden "DuskGates$Pass" "mark" "(LDuskGates$Trail;)I") ∈ lw_tbl := lw_at lw_m6 149 rfl
theorem q1994 : (Jvm.Cond.castable "DuskGates$Pass" "java/lang/Object") ∈ lw_tbl := lw_at lw_m9 18 rfl
theorem in_X10 : ∀ w ∈ wsX100, w ∈ lw_all := lw_in wsX100 [1104, 1106, 1108, 1110, 1112, 1114] (by decide +kernel) (by decide +kernel)

/-! DuskGates$Token -/
set_option maxRecDepth 100000
def RX11 : String := "DuskGates$Token"
def TX11 : u_T := fun k => match k with
  | 0 => ("DuskGates$Pass", "person", "I", true)
  | 1 => ("DuskGates$Pass", "seal", "I", true)
  | 2 => ("DuskGates$Pass", "hand", "I", true)
  | 3 => ("DuskGates$Pass", "town", "I", true)
  | 4 => ("DuskGates$Pass", "day", "I", true)
  | _ => ("DuskGates$Pass", "last", "I", true)
def tyX11 : Nat → FieldType := fun k => match k with
  | 0 => .int
  | 1 => .int
  | 2 => .int
  | 3 => .int
  | 4 => .int
  | _ => .int
abbrev wsX110 : List Cond := u_ws RX11 TX11 6
theorem nmX11 : ∀ a, a < 6 → ∀ b, b < 6 → a ≠ b → (TX11 a).2.1 ≠ (TX11 b).2.1 := by decide +kernel
theorem tyX11_ok : ∀ k, k < 6 → parseFieldDescriptor (TX11 k).2.2.1 = some (tyX11 k) := by decide +kernel
abbrev cX11_init : ByteArray := prog_14_method_1_code
def yX11_init : MethodName := ⟨RX11, "<init>", "([I)V"⟩
def dkwX11_init_0 : List UInt8 := [42, 43, 183, 0, 3, 177]
abbrev dktX11_init_0 : List UInt8 := dkwX11_init_0 ++ []
theorem dksX11_init_0 : cX11_init.data.toList.drop 0 = dktX11_init_0 := by decide +kernel
theorem dX11_init_0 : decode cX11_init 0 = .ok (.aload_n 0, 1) := dk_42 (dk_at dksX11_init_0 0 rfl rfl)
theorem dX11_init_1 : decode cX11_init 1 = .ok (.aload_n 1, 1) := dk_43 (dk_at dksX11_init_0 1 rfl rfl)
theorem dX11_init_2 : decode cX11_init 2 = .ok (.invokespecial 3, 3) := dk_183 0 3 (dk_at dksX11_init_0 2 rfl rfl)
theorem dX11_init_5 : decode cX11_init 5 = .ok (.return_, 1) := dk_177 (dk_at dksX11_init_0 5 rfl rfl)
abbrev cX11_kind : ByteArray := prog_14_method_2_code
def yX11_kind : MethodName := ⟨RX11, "kind", "()I"⟩
theorem dX11_kind_0 : decode cX11_kind 0 = .ok (.iconst 1, 1) := by decide +kernel
theorem dX11_kind_1 : decode cX11_kind 1 = .ok (.ireturn, 1) := by decide +kernel
abbrev cX11_size : ByteArray := prog_14_method_3_code
def yX11_size : MethodName := ⟨RX11, "size", "(LDuskGates$Trail;)I"⟩
def dkwX11_size_0 : List UInt8 := [43, 16, 11, 182, 0, 9, 5, 42, 43, 183, 0, 15, 104, 172]
abbrev dktX11_size_0 : List UInt8 := dkwX11_size_0 ++ []
theorem dksX11_size_0 : cX11_size.data.toList.drop 0 = dktX11_size_0 := by decide +kernel
theorem dX11_size_0 : decode cX11_size 0 = .ok (.aload_n 1, 1) := dk_43 (dk_at dksX11_size_0 0 rfl rfl)
theorem dX11_size_1 : decode cX11_size 1 = .ok (.bipush 11, 2) := dk_16 11 (dk_at dksX11_size_0 1 rfl rfl)
theorem dX11_size_3 : decode cX11_size 3 = .ok (.invokevirtual 9, 3) := dk_182 0 9 (dk_at dksX11_size_0 3 rfl rfl)
theorem dX11_size_6 : decode cX11_size 6 = .ok (.iconst 2, 1) := dk_5 (dk_at dksX11_size_0 6 rfl rfl)
theorem dX11_size_7 : decode cX11_size 7 = .ok (.aload_n 0, 1) := dk_42 (dk_at dksX11_size_0 7 rfl rfl)
theorem dX11_size_8 : decode cX11_size 8 = .ok (.aload_n 1, 1) := dk_43 (dk_at dksX11_size_0 8 rfl rfl)
theorem dX11_size_9 : decode cX11_size 9 = .ok (.invokespecial 15, 3) := dk_183 0 15 (dk_at dksX11_size_0 9 rfl rfl)
theorem dX11_size_12 : decode cX11_size 12 = .ok (.imul, 1) := dk_104 (dk_at dksX11_size_0 12 rfl rfl)
theorem dX11_size_13 : decode cX11_size 13 = .ok (.ireturn, 1) := dk_172 (dk_at dksX11_size_0 13 rfl rfl)
theorem q89 : (Jvm.Cond.initialized "DuskGates$Token") ∈ lw_all := lw_g (lw_at lw_m1 33 rfl) rfl
theorem q777 : (Jvm.Cond.selects "DuskGates$Token" ({ cls := "java/lang/Object", name := "getClass", desc := "()Ljava/lang/Class;" } : Jvm.MethodName) ({ cls := "java/lang/Object", name := "getClass", desc := "()Ljava/lang/Class;" } : Jvm.MethodName)) ∈ lw_all := lw_g (lw_at lw_m4 1 rfl) rfl
theorem q1118 : (Jvm.Cond.instantiable "DuskGates$Token" (6 : Nat)) ∈ lw_all := lw_g (lw_at lw_m5 102 rfl) rfl
theorem q1120 : (Jvm.Cond.instanceMethod ({ cls := "DuskGates$Token", name := "<init>", desc := "([I)V" } : Jvm.MethodName)) ∈ lw_all := lw_g (lw_at lw_m5 104 rfl) rfl
theorem q1121 : (Jvm.Cond.code ({ cls := "DuskGates$Token", name := "<init>", desc := "([I)V" } : Jvm.MethodName) prog_14_method_1_code (2 : Nat) (Option.none : Option Jvm.ClassFile.FieldType)) ∈ lw_all := lw_g (lw_at lw_m5 105 rfl) rfl
theorem q1122 : (Jvm.Cond.methodLink "DuskGates$Token" (3 : Nat) ({ cls := "DuskGates$Pass", name := "<init>", desc := "([I)V" } : Jvm.MethodName)) ∈ lw_all := lw_g (lw_at lw_m5 106 rfl) rfl
theorem q1123 : (Jvm.Cond.laysFinal "DuskGates$Token" "DuskGates$Pass" "person" "I") ∈ lw_all := lw_g (lw_at lw_m5 107 rfl) rfl
theorem q1124 : (Jvm.Cond.laysFinal "DuskGates$Token" "DuskGates$Pass" "seal" "I") ∈ lw_all := lw_g (lw_at lw_m5 108 rfl) rfl
theorem q1125 : (Jvm.Cond.laysFinal "DuskGates$Token" "DuskGates$Pass" "hand" "I") ∈ lw_all := lw_g (lw_at lw_m5 109 rfl) rfl
theorem q1126 : (Jvm.Cond.laysFinal "DuskGates$Token" "DuskGates$Pass" "town" "I") ∈ lw_all := lw_g (lw_at lw_m5 110 rfl) rfl
theorem q1127 : (Jvm.Cond.laysFinal "DuskGates$Token" "DuskGates$Pass" "day" "I") ∈ lw_all := lw_g (lw_at lw_m5 111 rfl) rfl
theorem q1128 : (Jvm.Cond.laysFinal "DuskGates$Token" "DuskGates$Pass" "last" "I") ∈ lw_all := lw_g (lw_at lw_m5 112 rfl) rfl
theorem q1129 : (Jvm.Cond.superclass "DuskGates$Token" "DuskGates$Pass") ∈ lw_all := lw_g (lw_at lw_m5 113 rfl) rfl
theorem q1214 : (Jvm.Cond.selects "DuskGates$Token" ({ cls := "DuskGates$Pass", name := "isForNight", desc := "()Z" } : Jvm.MethodName) ({ cls := "DuskGates$Pass", name := "isForNight", desc := "()Z" } : Jvm.MethodName)) ∈ lw_all := lw_g (lw_at lw_m5 198 rfl) rfl
theorem q1309 : (Jvm.Cond.selects "DuskGates$Token" ({ cls := "DuskGates$Pass", name := "kind", desc := "()I" } : Jvm.MethodName) ({ cls := "DuskGates$Token", name := "kind", desc := "()I" } : Jvm.MethodName)) ∈ lw_all := lw_g (lw_at lw_m6 53 rfl) rfl
theorem q1310 : (Jvm.Cond.instanceMethod ({ cls := "DuskGates$Token", name := "kind", desc := "()I" } : Jvm.MethodName)) ∈ lw_all := lw_g (lw_at lw_m6 54 rfl) rfl
theorem q1311 : (Jvm.Cond.code ({ cls := "DuskGates$Token", name := "kind", desc := "()I" } : Jvm.MethodName) prog_14_method_2_code (1 : Nat) (Option.some Jvm.ClassFile.FieldType.int)) ∈ lw_all := lw_g (lw_at lw_m6 55 rfl) rfl
theorem q1385 : (Jvm.Cond.castable "DuskGates$Token" "DuskGates$Marked") ∈ lw_tbl := lw_at lw_m6 129 rfl
theorem q1386 : (Jvm.Cond.selects "DuskGates$Token" ({ cls := "DuskGates$Marked", name := "seal", desc := "()I" } : Jvm.MethodName) ({ cls := "DuskGates$Pass", name := "seal", desc := "()I" } : Jvm.MethodName)) ∈ lw_all := lw_g (lw_at lw_m6 130 rfl) rfl
theorem q1387 : (Jvm.Cond.unhidden "DuskGates$Token" "seal" "()I") ∈ lw_tbl := lw_at lw_m6 131 rfl
theorem q1394 : (Jvm.Cond.selects "DuskGates$Token" ({ cls := "DuskGates$Pass", name := "size", desc := "(LDuskGates$Trail;)I" } : Jvm.MethodName) ({ cls := "DuskGates$Token", name := "size", desc := "(LDuskGates$Trail;)I" } : Jvm.MethodName)) ∈ lw_all := lw_g (lw_at lw_m6 138 rfl) rfl
theorem q1395 : (Jvm.Cond.instanceMethod ({ cls := "DuskGates$Token", name := "size", desc := "(LDuskGates$Trail;)I" } : Jvm.MethodName)) ∈ lw_all := lw_g (lw_at lw_m6 139 rfl) rfl
theorem q1396 : (Jvm.Cond.code ({ cls := "DuskGates$Token", name := "size", desc := "(LDuskGates$Trail;)I" } : Jvm.MethodName) prog_14_method_3_code (2 : Nat) (Option.some Jvm.ClassFile.FieldType.int)) ∈ lw_all := lw_g (lw_at lw_m6 140 rfl) rfl
theorem q1397 : (Jvm.Cond.methodLink "DuskGates$Token" (9 : Nat) ({ cls := "DuskGates$Trail", name := "begins", desc := "(I)V" } : Jvm.MethodName)) ∈ lw_all := lw_g (lw_at lw_m6 141 rfl) rfl
theorem q1398 : (Jvm.Cond.methodLink "DuskGates$Token" (15 : Nat) ({ cls := "DuskGates$Pass", name := "size", desc := "(LDuskGates$Trail;)I" } : Jvm.MethodName)) ∈ lw_all := lw_g (lw_at lw_m6 142 rfl) rfl
theorem q1406 : (Jvm.Cond.unhidden "DuskGates$Token" "mark" "(LDuskGates$Trail;)I") ∈ lw_tbl := lw_at lw_m6 150 rfl
theorem q1977 : (Jvm.Cond.castable "DuskGates$Token" "DuskGates$Pass") ∈ lw_tbl := lw_at lw_m9 1 rfl
theorem q1995 : (Jvm.Cond.castable "DuskGates$Token" "java/lang/Object") ∈ lw_tbl := lw_at lw_m9 19 rfl
theorem in_X11 : ∀ w ∈ wsX110, w ∈ lw_all := lw_in wsX110 [1123, 1124, 1125, 1126, 1127, 1128] (by decide +kernel) (by decide +kernel)

/-! DuskGates$Health -/
set_option maxRecDepth 100000
def RX12 : String := "DuskGates$Health"
def TX12 : u_T := fun k => match k with
  | 0 => ("DuskGates$Pass", "person", "I", true)
  | 1 => ("DuskGates$Pass", "seal", "I", true)
  | 2 => ("DuskGates$Pass", "hand", "I", true)
  | 3 => ("DuskGates$Pass", "town", "I", true)
  | 4 => ("DuskGates$Pass", "day", "I", true)
  | _ => ("DuskGates$Pass", "last", "I", true)
def tyX12 : Nat → FieldType := fun k => match k with
  | 0 => .int
  | 1 => .int
  | 2 => .int
  | 3 => .int
  | 4 => .int
  | _ => .int
abbrev wsX120 : List Cond := u_ws RX12 TX12 6
theorem nmX12 : ∀ a, a < 6 → ∀ b, b < 6 → a ≠ b → (TX12 a).2.1 ≠ (TX12 b).2.1 := by decide +kernel
theorem tyX12_ok : ∀ k, k < 6 → parseFieldDescriptor (TX12 k).2.2.1 = some (tyX12 k) := by decide +kernel
abbrev cX12_init : ByteArray := prog_5_method_1_code
def yX12_init : MethodName := ⟨RX12, "<init>", "([I)V"⟩
def dkwX12_init_0 : List UInt8 := [42, 43, 183, 0, 3, 177]
abbrev dktX12_init_0 : List UInt8 := dkwX12_init_0 ++ []
theorem dksX12_init_0 : cX12_init.data.toList.drop 0 = dktX12_init_0 := by decide +kernel
theorem dX12_init_0 : decode cX12_init 0 = .ok (.aload_n 0, 1) := dk_42 (dk_at dksX12_init_0 0 rfl rfl)
theorem dX12_init_1 : decode cX12_init 1 = .ok (.aload_n 1, 1) := dk_43 (dk_at dksX12_init_0 1 rfl rfl)
theorem dX12_init_2 : decode cX12_init 2 = .ok (.invokespecial 3, 3) := dk_183 0 3 (dk_at dksX12_init_0 2 rfl rfl)
theorem dX12_init_5 : decode cX12_init 5 = .ok (.return_, 1) := dk_177 (dk_at dksX12_init_0 5 rfl rfl)
abbrev cX12_init_2 : ByteArray := prog_5_method_2_code
def yX12_init_2 : MethodName := ⟨RX12, "<init>", "(LDuskGates$Pass;)V"⟩
def dkwX12_init_2_0 : List UInt8 := [42, 43, 183, 0, 9, 177]
abbrev dktX12_init_2_0 : List UInt8 := dkwX12_init_2_0 ++ []
theorem dksX12_init_2_0 : cX12_init_2.data.toList.drop 0 = dktX12_init_2_0 := by decide +kernel
theorem dX12_init_2_0 : decode cX12_init_2 0 = .ok (.aload_n 0, 1) := dk_42 (dk_at dksX12_init_2_0 0 rfl rfl)
theorem dX12_init_2_1 : decode cX12_init_2 1 = .ok (.aload_n 1, 1) := dk_43 (dk_at dksX12_init_2_0 1 rfl rfl)
theorem dX12_init_2_2 : decode cX12_init_2 2 = .ok (.invokespecial 9, 3) := dk_183 0 9 (dk_at dksX12_init_2_0 2 rfl rfl)
theorem dX12_init_2_5 : decode cX12_init_2 5 = .ok (.return_, 1) := dk_177 (dk_at dksX12_init_2_0 5 rfl rfl)
abbrev cX12_kind : ByteArray := prog_5_method_3_code
def yX12_kind : MethodName := ⟨RX12, "kind", "()I"⟩
theorem dX12_kind_0 : decode cX12_kind 0 = .ok (.iconst 2, 1) := by decide +kernel
theorem dX12_kind_1 : decode cX12_kind 1 = .ok (.ireturn, 1) := by decide +kernel
abbrev cX12_size : ByteArray := prog_5_method_4_code
def yX12_size : MethodName := ⟨RX12, "size", "(LDuskGates$Trail;)I"⟩
def dkwX12_size_0 : List UInt8 := [43, 16, 12, 182, 0, 12, 42, 43, 183, 0, 18, 42, 43, 182, 0, 22, 96, 172]
abbrev dktX12_size_0 : List UInt8 := dkwX12_size_0 ++ []
theorem dksX12_size_0 : cX12_size.data.toList.drop 0 = dktX12_size_0 := by decide +kernel
theorem dX12_size_0 : decode cX12_size 0 = .ok (.aload_n 1, 1) := dk_43 (dk_at dksX12_size_0 0 rfl rfl)
theorem dX12_size_1 : decode cX12_size 1 = .ok (.bipush 12, 2) := dk_16 12 (dk_at dksX12_size_0 1 rfl rfl)
theorem dX12_size_3 : decode cX12_size 3 = .ok (.invokevirtual 12, 3) := dk_182 0 12 (dk_at dksX12_size_0 3 rfl rfl)
theorem dX12_size_6 : decode cX12_size 6 = .ok (.aload_n 0, 1) := dk_42 (dk_at dksX12_size_0 6 rfl rfl)
theorem dX12_size_7 : decode cX12_size 7 = .ok (.aload_n 1, 1) := dk_43 (dk_at dksX12_size_0 7 rfl rfl)
theorem dX12_size_8 : decode cX12_size 8 = .ok (.invokespecial 18, 3) := dk_183 0 18 (dk_at dksX12_size_0 8 rfl rfl)
theorem dX12_size_11 : decode cX12_size 11 = .ok (.aload_n 0, 1) := dk_42 (dk_at dksX12_size_0 11 rfl rfl)
theorem dX12_size_12 : decode cX12_size 12 = .ok (.aload_n 1, 1) := dk_43 (dk_at dksX12_size_0 12 rfl rfl)
theorem dX12_size_13 : decode cX12_size 13 = .ok (.invokevirtual 22, 3) := dk_182 0 22 (dk_at dksX12_size_0 13 rfl rfl)
theorem dX12_size_16 : decode cX12_size 16 = .ok (.iadd, 1) := dk_96 (dk_at dksX12_size_0 16 rfl rfl)
theorem dX12_size_17 : decode cX12_size 17 = .ok (.ireturn, 1) := dk_172 (dk_at dksX12_size_0 17 rfl rfl)
abbrev cX12_mark : ByteArray := prog_5_method_5_code
def yX12_mark : MethodName := ⟨RX12, "mark", "(LDuskGates$Trail;)I"⟩
def dkwX12_mark_0 : List UInt8 := [43, 16, 21, 182, 0, 12, 42, 43, 183, 0, 27, 16, 100, 42, 180, 0, 28, 104, 96, 172]
abbrev dktX12_mark_0 : List UInt8 := dkwX12_mark_0 ++ []
theorem dksX12_mark_0 : cX12_mark.data.toList.drop 0 = dktX12_mark_0 := by decide +kernel
theorem dX12_mark_0 : decode cX12_mark 0 = .ok (.aload_n 1, 1) := dk_43 (dk_at dksX12_mark_0 0 rfl rfl)
theorem dX12_mark_1 : decode cX12_mark 1 = .ok (.bipush 21, 2) := dk_16 21 (dk_at dksX12_mark_0 1 rfl rfl)
theorem dX12_mark_3 : decode cX12_mark 3 = .ok (.invokevirtual 12, 3) := dk_182 0 12 (dk_at dksX12_mark_0 3 rfl rfl)
theorem dX12_mark_6 : decode cX12_mark 6 = .ok (.aload_n 0, 1) := dk_42 (dk_at dksX12_mark_0 6 rfl rfl)
theorem dX12_mark_7 : decode cX12_mark 7 = .ok (.aload_n 1, 1) := dk_43 (dk_at dksX12_mark_0 7 rfl rfl)
theorem dX12_mark_8 : decode cX12_mark 8 = .ok (.invokespecial 27, 3) := dk_183 0 27 (dk_at dksX12_mark_0 8 rfl rfl)
theorem dX12_mark_11 : decode cX12_mark 11 = .ok (.bipush 100, 2) := dk_16 100 (dk_at dksX12_mark_0 11 rfl rfl)
theorem dX12_mark_13 : decode cX12_mark 13 = .ok (.aload_n 0, 1) := dk_42 (dk_at dksX12_mark_0 13 rfl rfl)
theorem dX12_mark_14 : decode cX12_mark 14 = .ok (.getfield 28, 3) := dk_180 0 28 (dk_at dksX12_mark_0 14 rfl rfl)
theorem dX12_mark_17 : decode cX12_mark 17 = .ok (.imul, 1) := dk_104 (dk_at dksX12_mark_0 17 rfl rfl)
theorem dX12_mark_18 : decode cX12_mark 18 = .ok (.iadd, 1) := dk_96 (dk_at dksX12_mark_0 18 rfl rfl)
theorem dX12_mark_19 : decode cX12_mark 19 = .ok (.ireturn, 1) := dk_172 (dk_at dksX12_mark_0 19 rfl rfl)
theorem q90 : (Jvm.Cond.initialized "DuskGates$Health") ∈ lw_all := lw_g (lw_at lw_m1 34 rfl) rfl
theorem q769 : (Jvm.Cond.selects "DuskGates$Health" ({ cls := "java/lang/Object", name := "getClass", desc := "()Ljava/lang/Class;" } : Jvm.MethodName) ({ cls := "java/lang/Object", name := "getClass", desc := "()Ljava/lang/Class;" } : Jvm.MethodName)) ∈ lw_all := lw_g (lw_at lw_m3 233 rfl) rfl
theorem q1097 : (Jvm.Cond.fieldLink "DuskGates$Health" (28 : Nat) "DuskGates$Health" "town" "I") ∈ lw_all := lw_g (lw_at lw_m5 81 rfl) rfl
theorem q1098 : (Jvm.Cond.sameField "DuskGates$Health" "DuskGates$Pass" "town" "I") ∈ lw_all := lw_g (lw_at lw_m5 82 rfl) rfl
theorem q1131 : (Jvm.Cond.instantiable "DuskGates$Health" (6 : Nat)) ∈ lw_all := lw_g (lw_at lw_m5 115 rfl) rfl
theorem q1133 : (Jvm.Cond.instanceMethod ({ cls := "DuskGates$Health", name := "<init>", desc := "([I)V" } : Jvm.MethodName)) ∈ lw_all := lw_g (lw_at lw_m5 117 rfl) rfl
theorem q1134 : (Jvm.Cond.code ({ cls := "DuskGates$Health", name := "<init>", desc := "([I)V" } : Jvm.MethodName) prog_5_method_1_code (2 : Nat) (Option.none : Option Jvm.ClassFile.FieldType)) ∈ lw_all := lw_g (lw_at lw_m5 118 rfl) rfl
theorem q1135 : (Jvm.Cond.methodLink "DuskGates$Health" (3 : Nat) ({ cls := "DuskGates$Pass", name := "<init>", desc := "([I)V" } : Jvm.MethodName)) ∈ lw_all := lw_g (lw_at lw_m5 119 rfl) rfl
theorem q1136 : (Jvm.Cond.laysFinal "DuskGates$Health" "DuskGates$Pass" "person" "I") ∈ lw_all := lw_g (lw_at lw_m5 120 rfl) rfl
theorem q1137 : (Jvm.Cond.laysFinal "DuskGates$Health" "DuskGates$Pass" "seal" "I") ∈ lw_all := lw_g (lw_at lw_m5 121 rfl) rfl
theorem q1138 : (Jvm.Cond.laysFinal "DuskGates$Health" "DuskGates$Pass" "hand" "I") ∈ lw_all := lw_g (lw_at lw_m5 122 rfl) rfl
theorem q1139 : (Jvm.Cond.laysFinal "DuskGates$Health" "DuskGates$Pass" "town" "I") ∈ lw_all := lw_g (lw_at lw_m5 123 rfl) rfl
theorem q1140 : (Jvm.Cond.laysFinal "DuskGates$Health" "DuskGates$Pass" "day" "I") ∈ lw_all := lw_g (lw_at lw_m5 124 rfl) rfl
theorem q1141 : (Jvm.Cond.laysFinal "DuskGates$Health" "DuskGates$Pass" "last" "I") ∈ lw_all := lw_g (lw_at lw_m5 125 rfl) rfl
theorem q1142 : (Jvm.Cond.superclass "DuskGates$Health" "DuskGates$Pass") ∈ lw_all := lw_g (lw_at lw_m5 126 rfl) rfl
theorem q1193 : (Jvm.Cond.instanceMethod ({ cls := "DuskGates$Health", name := "<init>", desc := "(LDuskGates$Pass;)V" } : Jvm.MethodName)) ∈ lw_all := lw_g (lw_at lw_m5 177 rfl) rfl
theorem q1194 : (Jvm.Cond.code ({ cls := "DuskGates$Health", name := "<init>", desc := "(LDuskGates$Pass;)V" } : Jvm.MethodName) prog_5_method_2_code (2 : Nat) (Option.none : Option Jvm.ClassFile.FieldType)) ∈ lw_all := lw_g (lw_at lw_m5 178 rfl) rfl
theorem q1195 : (Jvm.Cond.methodLink "DuskGates$Health" (9 : Nat) ({ cls := "DuskGates$Pass", name := "<init>", desc := "(LDuskGates$Pass;)V" } : Jvm.MethodName)) ∈ lw_all := lw_g (lw_at lw_m5 179 rfl) rfl
theorem q1210 : (Jvm.Cond.selects "DuskGates$Health" ({ cls := "DuskGates$Pass", name := "isForNight", desc := "()Z" } : Jvm.MethodName) ({ cls := "DuskGates$Pass", name := "isForNight", desc := "()Z" } : Jvm.MethodName)) ∈ lw_all := lw_g (lw_at lw_m5 194 rfl) rfl
theorem q1303 : (Jvm.Cond.selects "DuskGates$Health" ({ cls := "DuskGates$Pass", name := "kind", desc := "()I" } : Jvm.MethodName) ({ cls := "DuskGates$Health", name := "kind", desc := "()I" } : Jvm.MethodName)) ∈ lw_all := lw_g (lw_at lw_m6 47 rfl) rfl
theorem q1304 : (Jvm.Cond.instanceMethod ({ cls := "DuskGates$Health", name := "kind", desc := "()I" } : Jvm.MethodName)) ∈ lw_all := lw_g (lw_at lw_m6 48 rfl) rfl
theorem q1305 : (Jvm.Cond.code ({ cls := "DuskGates$Health", name := "kind", desc := "()I" } : Jvm.MethodName) prog_5_method_3_code (1 : Nat) (Option.some Jvm.ClassFile.FieldType.int)) ∈ lw_all := lw_g (lw_at lw_m6 49 rfl) rfl
theorem q1347 : (Jvm.Cond.instanceMethod ({ cls := "DuskGates$Health", name := "size", desc := "(LDuskGates$Trail;)I" } : Jvm.MethodName)) ∈ lw_all := lw_g (lw_at lw_m6 91 rfl) rfl
theorem q1348 : (Jvm.Cond.code ({ cls := "DuskGates$Health", name := "size", desc := "(LDuskGates$Trail;)I" } : Jvm.MethodName) prog_5_method_4_code (2 : Nat) (Option.some Jvm.ClassFile.FieldType.int)) ∈ lw_all := lw_g (lw_at lw_m6 92 rfl) rfl
theorem q1349 : (Jvm.Cond.methodLink "DuskGates$Health" (12 : Nat) ({ cls := "DuskGates$Trail", name := "begins", desc := "(I)V" } : Jvm.MethodName)) ∈ lw_all := lw_g (lw_at lw_m6 93 rfl) rfl
theorem q1350 : (Jvm.Cond.methodLink "DuskGates$Health" (18 : Nat) ({ cls := "DuskGates$Pass", name := "size", desc := "(LDuskGates$Trail;)I" } : Jvm.MethodName)) ∈ lw_all := lw_g (lw_at lw_m6 94 rfl) rfl
theorem q1353 : (Jvm.Cond.methodLink "DuskGates$Health" (22 : Nat) ({ cls := "DuskGates$Health", name := "mark", desc := "(LDuskGates$Trail;)I" } : Jvm.MethodName)) ∈ lw_all := lw_g (lw_at lw_m6 97 rfl) rfl
theorem q1354 : (Jvm.Cond.instanceMethod ({ cls := "DuskGates$Health", name := "mark", desc := "(LDuskGates$Trail;)I" } : Jvm.MethodName)) ∈ lw_all := lw_g (lw_at lw_m6 98 rfl) rfl
theorem q1355 : (Jvm.Cond.selects "DuskGates$Health" ({ cls := "DuskGates$Health", name := "mark", desc := "(LDuskGates$Trail;)I" } : Jvm.MethodName) ({ cls := "DuskGates$Health", name := "mark", desc := "(LDuskGates$Trail;)I" } : Jvm.MethodName)) ∈ lw_all := lw_g (lw_at lw_m6 99 rfl) rfl
theorem q1356 : (Jvm.Cond.sameMethod "DuskGates$Health" "DuskGates$Health" "mark" "(LDuskGates$Trail;)I") ∈ lw_all := lw_g (lw_at lw_m6 100 rfl) rfl
theorem q1361 : (Jvm.Cond.code ({ cls := "DuskGates$Health", name := "mark", desc := "(LDuskGates$Trail;)I" } : Jvm.MethodName) prog_5_method_5_code (2 : Nat) (Option.some Jvm.ClassFile.FieldType.int)) ∈ lw_all := lw_g (lw_at lw_m6 105 rfl) rfl
theorem q1376 : (Jvm.Cond.castable "DuskGates$Health" "DuskGates$Marked") ∈ lw_tbl := lw_at lw_m6 120 rfl
theorem q1377 : (Jvm.Cond.selects "DuskGates$Health" ({ cls := "DuskGates$Marked", name := "seal", desc := "()I" } : Jvm.MethodName) ({ cls := "DuskGates$Pass", name := "seal", desc := "()I" } : Jvm.MethodName)) ∈ lw_all := lw_g (lw_at lw_m6 121 rfl) rfl
theorem q1378 : (Jvm.Cond.unhidden "DuskGates$Health" "seal" "()I") ∈ lw_tbl := lw_at lw_m6 122 rfl
theorem q1388 : (Jvm.Cond.selects "DuskGates$Health" ({ cls := "DuskGates$Pass", name := "size", desc := "(LDuskGates$Trail;)I" } : Jvm.MethodName) ({ cls := "DuskGates$Health", name := "size", desc := "(LDuskGates$Trail;)I" } : Jvm.MethodName)) ∈ lw_all := lw_g (lw_at lw_m6 132 rfl) rfl
theorem q1400 : (Jvm.Cond.selects "DuskGates$Health" ({ cls := "DuskGates$Marked", name := "mark", desc := "(LDuskGates$Trail;)I" } : Jvm.MethodName) ({ cls := "DuskGates$Health", name := "mark", desc := "(LDuskGates$Trail;)I" } : Jvm.MethodName)) ∈ lw_all := lw_g (lw_at lw_m6 144 rfl) rfl
theorem q1969 : (Jvm.Cond.sameMethod "DuskGates$Health" "DuskGates$Health" "size" "(LDuskGates$Trail;)I") ∈ lw_all := lw_g (lw_at lw_m8 233 rfl) rfl
theorem q1975 : (Jvm.Cond.castable "DuskGates$Health" "DuskGates$Pass") ∈ lw_tbl := lw_at lw_m8 239 rfl
theorem q1996 : (Jvm.Cond.castable "DuskGates$Health" "java/lang/Object") ∈ lw_tbl := lw_at lw_m9 20 rfl
theorem in_X12 : ∀ w ∈ wsX120, w ∈ lw_all := lw_in wsX120 [1136, 1137, 1138, 1139, 1140, 1141] (by decide +kernel) (by decide +kernel)

/-! DuskGates$Night -/
set_option maxRecDepth 100000
def RX13 : String := "DuskGates$Night"
def TX13 : u_T := fun k => match k with
  | 0 => ("DuskGates$Pass", "person", "I", true)
  | 1 => ("DuskGates$Pass", "seal", "I", true)
  | 2 => ("DuskGates$Pass", "hand", "I", true)
  | 3 => ("DuskGates$Pass", "town", "I", true)
  | 4 => ("DuskGates$Pass", "day", "I", true)
  | _ => ("DuskGates$Pass", "last", "I", true)
def tyX13 : Nat → FieldType := fun k => match k with
  | 0 => .int
  | 1 => .int
  | 2 => .int
  | 3 => .int
  | 4 => .int
  | _ => .int
abbrev wsX130 : List Cond := u_ws RX13 TX13 6
theorem nmX13 : ∀ a, a < 6 → ∀ b, b < 6 → a ≠ b → (TX13 a).2.1 ≠ (TX13 b).2.1 := by decide +kernel
theorem tyX13_ok : ∀ k, k < 6 → parseFieldDescriptor (TX13 k).2.2.1 = some (tyX13 k) := by decide +kernel
abbrev cX13_init : ByteArray := prog_8_method_1_code
def yX13_init : MethodName := ⟨RX13, "<init>", "([I)V"⟩
def dkwX13_init_0 : List UInt8 := [42, 43, 183, 0, 3, 177]
abbrev dktX13_init_0 : List UInt8 := dkwX13_init_0 ++ []
theorem dksX13_init_0 : cX13_init.data.toList.drop 0 = dktX13_init_0 := by decide +kernel
theorem dX13_init_0 : decode cX13_init 0 = .ok (.aload_n 0, 1) := dk_42 (dk_at dksX13_init_0 0 rfl rfl)
theorem dX13_init_1 : decode cX13_init 1 = .ok (.aload_n 1, 1) := dk_43 (dk_at dksX13_init_0 1 rfl rfl)
theorem dX13_init_2 : decode cX13_init 2 = .ok (.invokespecial 3, 3) := dk_183 0 3 (dk_at dksX13_init_0 2 rfl rfl)
theorem dX13_init_5 : decode cX13_init 5 = .ok (.return_, 1) := dk_177 (dk_at dksX13_init_0 5 rfl rfl)
abbrev cX13_isForNight : ByteArray := prog_8_method_3_code
def yX13_isForNight : MethodName := ⟨RX13, "isForNight", "()Z"⟩
theorem dX13_isForNight_0 : decode cX13_isForNight 0 = .ok (.iconst 1, 1) := by decide +kernel
theorem dX13_isForNight_1 : decode cX13_isForNight 1 = .ok (.ireturn, 1) := by decide +kernel
abbrev cX13_kind : ByteArray := prog_8_method_2_code
def yX13_kind : MethodName := ⟨RX13, "kind", "()I"⟩
theorem dX13_kind_0 : decode cX13_kind 0 = .ok (.iconst 4, 1) := by decide +kernel
theorem dX13_kind_1 : decode cX13_kind 1 = .ok (.ireturn, 1) := by decide +kernel
abbrev cX13_size : ByteArray := prog_8_method_4_code
def yX13_size : MethodName := ⟨RX13, "size", "(LDuskGates$Trail;)I"⟩
def dkwX13_size_0 : List UInt8 := [43, 16, 14, 182, 0, 9, 42, 43, 183, 0, 15, 42, 180, 0, 19, 96, 172]
abbrev dktX13_size_0 : List UInt8 := dkwX13_size_0 ++ []
theorem dksX13_size_0 : cX13_size.data.toList.drop 0 = dktX13_size_0 := by decide +kernel
theorem dX13_size_0 : decode cX13_size 0 = .ok (.aload_n 1, 1) := dk_43 (dk_at dksX13_size_0 0 rfl rfl)
theorem dX13_size_1 : decode cX13_size 1 = .ok (.bipush 14, 2) := dk_16 14 (dk_at dksX13_size_0 1 rfl rfl)
theorem dX13_size_3 : decode cX13_size 3 = .ok (.invokevirtual 9, 3) := dk_182 0 9 (dk_at dksX13_size_0 3 rfl rfl)
theorem dX13_size_6 : decode cX13_size 6 = .ok (.aload_n 0, 1) := dk_42 (dk_at dksX13_size_0 6 rfl rfl)
theorem dX13_size_7 : decode cX13_size 7 = .ok (.aload_n 1, 1) := dk_43 (dk_at dksX13_size_0 7 rfl rfl)
theorem dX13_size_8 : decode cX13_size 8 = .ok (.invokespecial 15, 3) := dk_183 0 15 (dk_at dksX13_size_0 8 rfl rfl)
theorem dX13_size_11 : decode cX13_size 11 = .ok (.aload_n 0, 1) := dk_42 (dk_at dksX13_size_0 11 rfl rfl)
theorem dX13_size_12 : decode cX13_size 12 = .ok (.getfield 19, 3) := dk_180 0 19 (dk_at dksX13_size_0 12 rfl rfl)
theorem dX13_size_15 : decode cX13_size 15 = .ok (.iadd, 1) := dk_96 (dk_at dksX13_size_0 15 rfl rfl)
theorem dX13_size_16 : decode cX13_size 16 = .ok (.ireturn, 1) := dk_172 (dk_at dksX13_size_0 16 rfl rfl)
abbrev cX13_mark : ByteArray := prog_8_method_5_code
def yX13_mark : MethodName := ⟨RX13, "mark", "(LDuskGates$Trail;)I"⟩
def dkwX13_mark_0 : List UInt8 := [43, 16, 23, 182, 0, 9, 42, 43, 183, 0, 25, 42, 43, 182, 0, 28, 96, 172]
abbrev dktX13_mark_0 : List UInt8 := dkwX13_mark_0 ++ []
theorem dksX13_mark_0 : cX13_mark.data.toList.drop 0 = dktX13_mark_0 := by decide +kernel
theorem dX13_mark_0 : decode cX13_mark 0 = .ok (.aload_n 1, 1) := dk_43 (dk_at dksX13_mark_0 0 rfl rfl)
theorem dX13_mark_1 : decode cX13_mark 1 = .ok (.bipush 23, 2) := dk_16 23 (dk_at dksX13_mark_0 1 rfl rfl)
theorem dX13_mark_3 : decode cX13_mark 3 = .ok (.invokevirtual 9, 3) := dk_182 0 9 (dk_at dksX13_mark_0 3 rfl rfl)
theorem dX13_mark_6 : decode cX13_mark 6 = .ok (.aload_n 0, 1) := dk_42 (dk_at dksX13_mark_0 6 rfl rfl)
theorem dX13_mark_7 : decode cX13_mark 7 = .ok (.aload_n 1, 1) := dk_43 (dk_at dksX13_mark_0 7 rfl rfl)
theorem dX13_mark_8 : decode cX13_mark 8 = .ok (.invokespecial 25, 3) := dk_183 0 25 (dk_at dksX13_mark_0 8 rfl rfl)
theorem dX13_mark_11 : decode cX13_mark 11 = .ok (.aload_n 0, 1) := dk_42 (dk_at dksX13_mark_0 11 rfl rfl)
theorem dX13_mark_12 : decode cX13_mark 12 = .ok (.aload_n 1, 1) := dk_43 (dk_at dksX13_mark_0 12 rfl rfl)
theorem dX13_mark_13 : decode cX13_mark 13 = .ok (.invokevirtual 28, 3) := dk_182 0 28 (dk_at dksX13_mark_0 13 rfl rfl)
theorem dX13_mark_16 : decode cX13_mark 16 = .ok (.iadd, 1) := dk_96 (dk_at dksX13_mark_0 16 rfl rfl)
theorem dX13_mark_17 : decode cX13_mark 17 = .ok (.ireturn, 1) := dk_172 (dk_at dksX13_mark_0 17 rfl rfl)
theorem q91 : (Jvm.Cond.initialized "DuskGates$Night") ∈ lw_all := lw_g (lw_at lw_m1 35 rfl) rfl
theorem q771 : (Jvm.Cond.selects "DuskGates$Night" ({ cls := "java/lang/Object", name := "getClass", desc := "()Ljava/lang/Class;" } : Jvm.MethodName) ({ cls := "java/lang/Object", name := "getClass", desc := "()Ljava/lang/Class;" } : Jvm.MethodName)) ∈ lw_all := lw_g (lw_at lw_m3 235 rfl) rfl
theorem q1087 : (Jvm.Cond.fieldLink "DuskGates$Night" (19 : Nat) "DuskGates$Night" "person" "I") ∈ lw_all := lw_g (lw_at lw_m5 71 rfl) rfl
theorem q1088 : (Jvm.Cond.sameField "DuskGates$Night" "DuskGates$Pass" "person" "I") ∈ lw_all := lw_g (lw_at lw_m5 72 rfl) rfl
theorem q1144 : (Jvm.Cond.instantiable "DuskGates$Night" (6 : Nat)) ∈ lw_all := lw_g (lw_at lw_m5 128 rfl) rfl
theorem q1146 : (Jvm.Cond.instanceMethod ({ cls := "DuskGates$Night", name := "<init>", desc := "([I)V" } : Jvm.MethodName)) ∈ lw_all := lw_g (lw_at lw_m5 130 rfl) rfl
theorem q1147 : (Jvm.Cond.code ({ cls := "DuskGates$Night", name := "<init>", desc := "([I)V" } : Jvm.MethodName) prog_8_method_1_code (2 : Nat) (Option.none : Option Jvm.ClassFile.FieldType)) ∈ lw_all := lw_g (lw_at lw_m5 131 rfl) rfl
theorem q1148 : (Jvm.Cond.methodLink "DuskGates$Night" (3 : Nat) ({ cls := "DuskGates$Pass", name := "<init>", desc := "([I)V" } : Jvm.MethodName)) ∈ lw_all := lw_g (lw_at lw_m5 132 rfl) rfl
theorem q1149 : (Jvm.Cond.laysFinal "DuskGates$Night" "DuskGates$Pass" "person" "I") ∈ lw_all := lw_g (lw_at lw_m5 133 rfl) rfl
theorem q1150 : (Jvm.Cond.laysFinal "DuskGates$Night" "DuskGates$Pass" "seal" "I") ∈ lw_all := lw_g (lw_at lw_m5 134 rfl) rfl
theorem q1151 : (Jvm.Cond.laysFinal "DuskGates$Night" "DuskGates$Pass" "hand" "I") ∈ lw_all := lw_g (lw_at lw_m5 135 rfl) rfl
theorem q1152 : (Jvm.Cond.laysFinal "DuskGates$Night" "DuskGates$Pass" "town" "I") ∈ lw_all := lw_g (lw_at lw_m5 136 rfl) rfl
theorem q1153 : (Jvm.Cond.laysFinal "DuskGates$Night" "DuskGates$Pass" "day" "I") ∈ lw_all := lw_g (lw_at lw_m5 137 rfl) rfl
theorem q1154 : (Jvm.Cond.laysFinal "DuskGates$Night" "DuskGates$Pass" "last" "I") ∈ lw_all := lw_g (lw_at lw_m5 138 rfl) rfl
theorem q1155 : (Jvm.Cond.superclass "DuskGates$Night" "DuskGates$Pass") ∈ lw_all := lw_g (lw_at lw_m5 139 rfl) rfl
theorem q1211 : (Jvm.Cond.selects "DuskGates$Night" ({ cls := "DuskGates$Pass", name := "isForNight", desc := "()Z" } : Jvm.MethodName) ({ cls := "DuskGates$Night", name := "isForNight", desc := "()Z" } : Jvm.MethodName)) ∈ lw_all := lw_g (lw_at lw_m5 195 rfl) rfl
theorem q1212 : (Jvm.Cond.instanceMethod ({ cls := "DuskGates$Night", name := "isForNight", desc := "()Z" } : Jvm.MethodName)) ∈ lw_all := lw_g (lw_at lw_m5 196 rfl) rfl
theorem q1213 : (Jvm.Cond.code ({ cls := "DuskGates$Night", name := "isForNight", desc := "()Z" } : Jvm.MethodName) prog_8_method_3_code (1 : Nat) (Option.some Jvm.ClassFile.FieldType.boolean)) ∈ lw_all := lw_g (lw_at lw_m5 197 rfl) rfl
theorem q1306 : (Jvm.Cond.selects "DuskGates$Night" ({ cls := "DuskGates$Pass", name := "kind", desc := "()I" } : Jvm.MethodName) ({ cls := "DuskGates$Night", name := "kind", desc := "()I" } : Jvm.MethodName)) ∈ lw_all := lw_g (lw_at lw_m6 50 rfl) rfl
theorem q1307 : (Jvm.Cond.instanceMethod ({ cls := "DuskGates$Night", name := "kind", desc := "()I" } : Jvm.MethodName)) ∈ lw_all := lw_g (lw_at lw_m6 51 rfl) rfl
theorem q1308 : (Jvm.Cond.code ({ cls := "DuskGates$Night", name := "kind", desc := "()I" } : Jvm.MethodName) prog_8_method_2_code (1 : Nat) (Option.some Jvm.ClassFile.FieldType.int)) ∈ lw_all := lw_g (lw_at lw_m6 52 rfl) rfl
theorem q1379 : (Jvm.Cond.castable "DuskGates$Night" "DuskGates$Marked") ∈ lw_tbl := lw_at lw_m6 123 rfl
theorem q1380 : (Jvm.Cond.selects "DuskGates$Night" ({ cls := "DuskGates$Marked", name := "seal", desc := "()I" } : Jvm.MethodName) ({ cls := "DuskGates$Pass", name := "seal", desc := "()I" } : Jvm.MethodName)) ∈ lw_all := lw_g (lw_at lw_m6 124 rfl) rfl
theorem q1381 : (Jvm.Cond.unhidden "DuskGates$Night" "seal" "()I") ∈ lw_tbl := lw_at lw_m6 125 rfl
theorem q1389 : (Jvm.Cond.selects "DuskGates$Night" ({ cls := "DuskGates$Pass", name := "size", desc := "(LDuskGates$Trail;)I" } : Jvm.MethodName) ({ cls := "DuskGates$Night", name := "size", desc := "(LDuskGates$Trail;)I" } : Jvm.MethodName)) ∈ lw_all := lw_g (lw_at lw_m6 133 rfl) rfl
theorem q1390 : (Jvm.Cond.instanceMethod ({ cls := "DuskGates$Night", name := "size", desc := "(LDuskGates$Trail;)I" } : Jvm.MethodName)) ∈ lw_all := lw_g (lw_at lw_m6 134 rfl) rfl
theorem q1391 : (Jvm.Cond.code ({ cls := "DuskGates$Night", name := "size", desc := "(LDuskGates$Trail;)I" } : Jvm.MethodName) prog_8_method_4_code (2 : Nat) (Option.some Jvm.ClassFile.FieldType.int)) ∈ lw_all := lw_g (lw_at lw_m6 135 rfl) rfl
theorem q1392 : (Jvm.Cond.methodLink "DuskGates$Night" (9 : Nat) ({ cls := "DuskGates$Trail", name := "begins", desc := "(I)V" } : Jvm.MethodName)) ∈ lw_all := lw_g (lw_at lw_m6 136 rfl) rfl
theorem q1393 : (Jvm.Cond.methodLink "DuskGates$Night" (15 : Nat) ({ cls := "DuskGates$Pass", name := "size", desc := "(LDuskGates$Trail;)I" } : Jvm.MethodName)) ∈ lw_all := lw_g (lw_at lw_m6 137 rfl) rfl
theorem q1401 : (Jvm.Cond.selects "DuskGates$Night" ({ cls := "DuskGates$Marked", name := "mark", desc := "(LDuskGates$Trail;)I" } : Jvm.MethodName) ({ cls := "DuskGates$Night", name := "mark", desc := "(LDuskGates$Trail;)I" } : Jvm.MethodName)) ∈ lw_all := lw_g (lw_at lw_m6 145 rfl) rfl
theorem q1402 : (Jvm.Cond.instanceMethod ({ cls := "DuskGates$Night", name := "mark", desc := "(LDuskGates$Trail;)I" } : Jvm.MethodName)) ∈ lw_all := lw_g (lw_at lw_m6 146 rfl) rfl
theorem q1403 : (Jvm.Cond.code ({ cls := "DuskGates$Night", name := "mark", desc := "(LDuskGates$Trail;)I" } : Jvm.MethodName) prog_8_method_5_code (2 : Nat) (Option.some Jvm.ClassFile.FieldType.int)) ∈ lw_all := lw_g (lw_at lw_m6 147 rfl) rfl
theorem q1404 : (Jvm.Cond.methodLink "DuskGates$Night" (28 : Nat) ({ cls := "DuskGates$Night", name := "size", desc := "(LDuskGates$Trail;)I" } : Jvm.MethodName)) ∈ lw_all := lw_g (lw_at lw_m6 148 rfl) rfl
theorem q1970 : (Jvm.Cond.selects "DuskGates$Night" ({ cls := "DuskGates$Night", name := "size", desc := "(LDuskGates$Trail;)I" } : Jvm.MethodName) ({ cls := "DuskGates$Night", name := "size", desc := "(LDuskGates$Trail;)I" } : Jvm.MethodName)) ∈ lw_all := lw_g (lw_at lw_m8 234 rfl) rfl
theorem q1976 : (Jvm.Cond.castable "DuskGates$Night" "DuskGates$Pass") ∈ lw_tbl := lw_at lw_m9 0 rfl
theorem q1997 : (Jvm.Cond.castable "DuskGates$Night" "java/lang/Object") ∈ lw_tbl := lw_at lw_m9 21 rfl
theorem in_X13 : ∀ w ∈ wsX130, w ∈ lw_all := lw_in wsX130 [1149, 1150, 1151, 1152, 1153, 1154] (by decide +kernel) (by decide +kernel)

/-! DuskGates$Forged -/
set_option maxRecDepth 100000
def RX14 : String := "DuskGates$Forged"
def TX14 : u_T := fun k => match k with
  | 0 => ("DuskGates$Pass", "person", "I", true)
  | 1 => ("DuskGates$Pass", "seal", "I", true)
  | 2 => ("DuskGates$Pass", "hand", "I", true)
  | 3 => ("DuskGates$Pass", "town", "I", true)
  | 4 => ("DuskGates$Pass", "day", "I", true)
  | _ => ("DuskGates$Pass", "last", "I", true)
def tyX14 : Nat → FieldType := fun k => match k with
  | 0 => .int
  | 1 => .int
  | 2 => .int
  | 3 => .int
  | 4 => .int
  | _ => .int
abbrev wsX140 : List Cond := u_ws RX14 TX14 6
theorem nmX14 : ∀ a, a < 6 → ∀ b, b < 6 → a ≠ b → (TX14 a).2.1 ≠ (TX14 b).2.1 := by decide +kernel
theorem tyX14_ok : ∀ k, k < 6 → parseFieldDescriptor (TX14 k).2.2.1 = some (tyX14 k) := by decide +kernel
abbrev cX14_init : ByteArray := prog_4_method_1_code
def yX14_init : MethodName := ⟨RX14, "<init>", "(LDuskGates$Health;)V"⟩
def dkwX14_init_0 : List UInt8 := [42, 43, 183, 0, 3, 177]
abbrev dktX14_init_0 : List UInt8 := dkwX14_init_0 ++ []
theorem dksX14_init_0 : cX14_init.data.toList.drop 0 = dktX14_init_0 := by decide +kernel
theorem dX14_init_0 : decode cX14_init 0 = .ok (.aload_n 0, 1) := dk_42 (dk_at dksX14_init_0 0 rfl rfl)
theorem dX14_init_1 : decode cX14_init 1 = .ok (.aload_n 1, 1) := dk_43 (dk_at dksX14_init_0 1 rfl rfl)
theorem dX14_init_2 : decode cX14_init 2 = .ok (.invokespecial 3, 3) := dk_183 0 3 (dk_at dksX14_init_0 2 rfl rfl)
theorem dX14_init_5 : decode cX14_init 5 = .ok (.return_, 1) := dk_177 (dk_at dksX14_init_0 5 rfl rfl)
abbrev cX14_kind : ByteArray := prog_4_method_2_code
def yX14_kind : MethodName := ⟨RX14, "kind", "()I"⟩
theorem dX14_kind_0 : decode cX14_kind 0 = .ok (.iconst 3, 1) := by decide +kernel
theorem dX14_kind_1 : decode cX14_kind 1 = .ok (.ireturn, 1) := by decide +kernel
abbrev cX14_size : ByteArray := prog_4_method_3_code
def yX14_size : MethodName := ⟨RX14, "size", "(LDuskGates$Trail;)I"⟩
def dkwX14_size_0 : List UInt8 := [43, 16, 13, 182, 0, 9, 42, 43, 183, 0, 15, 116, 172]
abbrev dktX14_size_0 : List UInt8 := dkwX14_size_0 ++ []
theorem dksX14_size_0 : cX14_size.data.toList.drop 0 = dktX14_size_0 := by decide +kernel
theorem dX14_size_0 : decode cX14_size 0 = .ok (.aload_n 1, 1) := dk_43 (dk_at dksX14_size_0 0 rfl rfl)
theorem dX14_size_1 : decode cX14_size 1 = .ok (.bipush 13, 2) := dk_16 13 (dk_at dksX14_size_0 1 rfl rfl)
theorem dX14_size_3 : decode cX14_size 3 = .ok (.invokevirtual 9, 3) := dk_182 0 9 (dk_at dksX14_size_0 3 rfl rfl)
theorem dX14_size_6 : decode cX14_size 6 = .ok (.aload_n 0, 1) := dk_42 (dk_at dksX14_size_0 6 rfl rfl)
theorem dX14_size_7 : decode cX14_size 7 = .ok (.aload_n 1, 1) := dk_43 (dk_at dksX14_size_0 7 rfl rfl)
theorem dX14_size_8 : decode cX14_size 8 = .ok (.invokespecial 15, 3) := dk_183 0 15 (dk_at dksX14_size_0 8 rfl rfl)
theorem dX14_size_11 : decode cX14_size 11 = .ok (.ineg, 1) := dk_116 (dk_at dksX14_size_0 11 rfl rfl)
theorem dX14_size_12 : decode cX14_size 12 = .ok (.ireturn, 1) := dk_172 (dk_at dksX14_size_0 12 rfl rfl)
abbrev cX14_mark : ByteArray := prog_4_method_4_code
def yX14_mark : MethodName := ⟨RX14, "mark", "(LDuskGates$Trail;)I"⟩
def dkwX14_mark_0 : List UInt8 := [43, 16, 22, 182, 0, 9, 42, 43, 183, 0, 19, 42, 180, 0, 22, 96, 172]
abbrev dktX14_mark_0 : List UInt8 := dkwX14_mark_0 ++ []
theorem dksX14_mark_0 : cX14_mark.data.toList.drop 0 = dktX14_mark_0 := by decide +kernel
theorem dX14_mark_0 : decode cX14_mark 0 = .ok (.aload_n 1, 1) := dk_43 (dk_at dksX14_mark_0 0 rfl rfl)
theorem dX14_mark_1 : decode cX14_mark 1 = .ok (.bipush 22, 2) := dk_16 22 (dk_at dksX14_mark_0 1 rfl rfl)
theorem dX14_mark_3 : decode cX14_mark 3 = .ok (.invokevirtual 9, 3) := dk_182 0 9 (dk_at dksX14_mark_0 3 rfl rfl)
theorem dX14_mark_6 : decode cX14_mark 6 = .ok (.aload_n 0, 1) := dk_42 (dk_at dksX14_mark_0 6 rfl rfl)
theorem dX14_mark_7 : decode cX14_mark 7 = .ok (.aload_n 1, 1) := dk_43 (dk_at dksX14_mark_0 7 rfl rfl)
theorem dX14_mark_8 : decode cX14_mark 8 = .ok (.invokespecial 19, 3) := dk_183 0 19 (dk_at dksX14_mark_0 8 rfl rfl)
theorem dX14_mark_11 : decode cX14_mark 11 = .ok (.aload_n 0, 1) := dk_42 (dk_at dksX14_mark_0 11 rfl rfl)
theorem dX14_mark_12 : decode cX14_mark 12 = .ok (.getfield 22, 3) := dk_180 0 22 (dk_at dksX14_mark_0 12 rfl rfl)
theorem dX14_mark_15 : decode cX14_mark 15 = .ok (.iadd, 1) := dk_96 (dk_at dksX14_mark_0 15 rfl rfl)
theorem dX14_mark_16 : decode cX14_mark 16 = .ok (.ireturn, 1) := dk_172 (dk_at dksX14_mark_0 16 rfl rfl)
theorem q92 : (Jvm.Cond.initialized "DuskGates$Forged") ∈ lw_all := lw_g (lw_at lw_m1 36 rfl) rfl
theorem q768 : (Jvm.Cond.selects "DuskGates$Forged" ({ cls := "java/lang/Object", name := "getClass", desc := "()Ljava/lang/Class;" } : Jvm.MethodName) ({ cls := "java/lang/Object", name := "getClass", desc := "()Ljava/lang/Class;" } : Jvm.MethodName)) ∈ lw_all := lw_g (lw_at lw_m3 232 rfl) rfl
theorem q1093 : (Jvm.Cond.fieldLink "DuskGates$Forged" (22 : Nat) "DuskGates$Forged" "hand" "I") ∈ lw_all := lw_g (lw_at lw_m5 77 rfl) rfl
theorem q1094 : (Jvm.Cond.sameField "DuskGates$Forged" "DuskGates$Pass" "hand" "I") ∈ lw_all := lw_g (lw_at lw_m5 78 rfl) rfl
theorem q1188 : (Jvm.Cond.instantiable "DuskGates$Forged" (6 : Nat)) ∈ lw_all := lw_g (lw_at lw_m5 172 rfl) rfl
theorem q1190 : (Jvm.Cond.instanceMethod ({ cls := "DuskGates$Forged", name := "<init>", desc := "(LDuskGates$Health;)V" } : Jvm.MethodName)) ∈ lw_all := lw_g (lw_at lw_m5 174 rfl) rfl
theorem q1191 : (Jvm.Cond.code ({ cls := "DuskGates$Forged", name := "<init>", desc := "(LDuskGates$Health;)V" } : Jvm.MethodName) prog_4_method_1_code (2 : Nat) (Option.none : Option Jvm.ClassFile.FieldType)) ∈ lw_all := lw_g (lw_at lw_m5 175 rfl) rfl
theorem q1192 : (Jvm.Cond.methodLink "DuskGates$Forged" (3 : Nat) ({ cls := "DuskGates$Health", name := "<init>", desc := "(LDuskGates$Pass;)V" } : Jvm.MethodName)) ∈ lw_all := lw_g (lw_at lw_m5 176 rfl) rfl
theorem q1198 : (Jvm.Cond.laysFinal "DuskGates$Forged" "DuskGates$Pass" "person" "I") ∈ lw_all := lw_g (lw_at lw_m5 182 rfl) rfl
theorem q1199 : (Jvm.Cond.laysFinal "DuskGates$Forged" "DuskGates$Pass" "seal" "I") ∈ lw_all := lw_g (lw_at lw_m5 183 rfl) rfl
theorem q1200 : (Jvm.Cond.laysFinal "DuskGates$Forged" "DuskGates$Pass" "hand" "I") ∈ lw_all := lw_g (lw_at lw_m5 184 rfl) rfl
theorem q1201 : (Jvm.Cond.laysFinal "DuskGates$Forged" "DuskGates$Pass" "town" "I") ∈ lw_all := lw_g (lw_at lw_m5 185 rfl) rfl
theorem q1202 : (Jvm.Cond.laysFinal "DuskGates$Forged" "DuskGates$Pass" "day" "I") ∈ lw_all := lw_g (lw_at lw_m5 186 rfl) rfl
theorem q1203 : (Jvm.Cond.laysFinal "DuskGates$Forged" "DuskGates$Pass" "last" "I") ∈ lw_all := lw_g (lw_at lw_m5 187 rfl) rfl
theorem q1204 : (Jvm.Cond.superclass "DuskGates$Forged" "DuskGates$Health") ∈ lw_all := lw_g (lw_at lw_m5 188 rfl) rfl
theorem q1209 : (Jvm.Cond.selects "DuskGates$Forged" ({ cls := "DuskGates$Pass", name := "isForNight", desc := "()Z" } : Jvm.MethodName) ({ cls := "DuskGates$Pass", name := "isForNight", desc := "()Z" } : Jvm.MethodName)) ∈ lw_all := lw_g (lw_at lw_m5 193 rfl) rfl
theorem q1300 : (Jvm.Cond.selects "DuskGates$Forged" ({ cls := "DuskGates$Pass", name := "kind", desc := "()I" } : Jvm.MethodName) ({ cls := "DuskGates$Forged", name := "kind", desc := "()I" } : Jvm.MethodName)) ∈ lw_all := lw_g (lw_at lw_m6 44 rfl) rfl
theorem q1301 : (Jvm.Cond.instanceMethod ({ cls := "DuskGates$Forged", name := "kind", desc := "()I" } : Jvm.MethodName)) ∈ lw_all := lw_g (lw_at lw_m6 45 rfl) rfl
theorem q1302 : (Jvm.Cond.code ({ cls := "DuskGates$Forged", name := "kind", desc := "()I" } : Jvm.MethodName) prog_4_method_2_code (1 : Nat) (Option.some Jvm.ClassFile.FieldType.int)) ∈ lw_all := lw_g (lw_at lw_m6 46 rfl) rfl
theorem q1339 : (Jvm.Cond.selects "DuskGates$Forged" ({ cls := "DuskGates$Pass", name := "size", desc := "(LDuskGates$Trail;)I" } : Jvm.MethodName) ({ cls := "DuskGates$Forged", name := "size", desc := "(LDuskGates$Trail;)I" } : Jvm.MethodName)) ∈ lw_all := lw_g (lw_at lw_m6 83 rfl) rfl
theorem q1340 : (Jvm.Cond.instanceMethod ({ cls := "DuskGates$Forged", name := "size", desc := "(LDuskGates$Trail;)I" } : Jvm.MethodName)) ∈ lw_all := lw_g (lw_at lw_m6 84 rfl) rfl
theorem q1341 : (Jvm.Cond.code ({ cls := "DuskGates$Forged", name := "size", desc := "(LDuskGates$Trail;)I" } : Jvm.MethodName) prog_4_method_3_code (2 : Nat) (Option.some Jvm.ClassFile.FieldType.int)) ∈ lw_all := lw_g (lw_at lw_m6 85 rfl) rfl
theorem q1342 : (Jvm.Cond.methodLink "DuskGates$Forged" (9 : Nat) ({ cls := "DuskGates$Trail", name := "begins", desc := "(I)V" } : Jvm.MethodName)) ∈ lw_all := lw_g (lw_at lw_m6 86 rfl) rfl
theorem q1346 : (Jvm.Cond.methodLink "DuskGates$Forged" (15 : Nat) ({ cls := "DuskGates$Health", name := "size", desc := "(LDuskGates$Trail;)I" } : Jvm.MethodName)) ∈ lw_all := lw_g (lw_at lw_m6 90 rfl) rfl
theorem q1357 : (Jvm.Cond.selects "DuskGates$Forged" ({ cls := "DuskGates$Health", name := "mark", desc := "(LDuskGates$Trail;)I" } : Jvm.MethodName) ({ cls := "DuskGates$Forged", name := "mark", desc := "(LDuskGates$Trail;)I" } : Jvm.MethodName)) ∈ lw_all := lw_g (lw_at lw_m6 101 rfl) rfl
theorem q1358 : (Jvm.Cond.instanceMethod ({ cls := "DuskGates$Forged", name := "mark", desc := "(LDuskGates$Trail;)I" } : Jvm.MethodName)) ∈ lw_all := lw_g (lw_at lw_m6 102 rfl) rfl
theorem q1359 : (Jvm.Cond.code ({ cls := "DuskGates$Forged", name := "mark", desc := "(LDuskGates$Trail;)I" } : Jvm.MethodName) prog_4_method_4_code (2 : Nat) (Option.some Jvm.ClassFile.FieldType.int)) ∈ lw_all := lw_g (lw_at lw_m6 103 rfl) rfl
theorem q1360 : (Jvm.Cond.methodLink "DuskGates$Forged" (19 : Nat) ({ cls := "DuskGates$Health", name := "mark", desc := "(LDuskGates$Trail;)I" } : Jvm.MethodName)) ∈ lw_all := lw_g (lw_at lw_m6 104 rfl) rfl
theorem q1370 : (Jvm.Cond.castable "DuskGates$Forged" "DuskGates$Marked") ∈ lw_tbl := lw_at lw_m6 114 rfl
theorem q1371 : (Jvm.Cond.selects "DuskGates$Forged" ({ cls := "DuskGates$Marked", name := "seal", desc := "()I" } : Jvm.MethodName) ({ cls := "DuskGates$Pass", name := "seal", desc := "()I" } : Jvm.MethodName)) ∈ lw_all := lw_g (lw_at lw_m6 115 rfl) rfl
theorem q1372 : (Jvm.Cond.unhidden "DuskGates$Forged" "seal" "()I") ∈ lw_tbl := lw_at lw_m6 116 rfl
theorem q1399 : (Jvm.Cond.selects "DuskGates$Forged" ({ cls := "DuskGates$Marked", name := "mark", desc := "(LDuskGates$Trail;)I" } : Jvm.MethodName) ({ cls := "DuskGates$Forged", name := "mark", desc := "(LDuskGates$Trail;)I" } : Jvm.MethodName)) ∈ lw_all := lw_g (lw_at lw_m6 143 rfl) rfl
theorem q1974 : (Jvm.Cond.castable "DuskGates$Forged" "DuskGates$Pass") ∈ lw_tbl := lw_at lw_m8 238 rfl
theorem q1978 : (Jvm.Cond.castable "DuskGates$Forged" "DuskGates$Health") ∈ lw_tbl := lw_at lw_m9 2 rfl
theorem q1998 : (Jvm.Cond.castable "DuskGates$Forged" "java/lang/Object") ∈ lw_tbl := lw_at lw_m9 22 rfl
theorem in_X14 : ∀ w ∈ wsX140, w ∈ lw_all := lw_in wsX140 [1198, 1199, 1200, 1201, 1202, 1203] (by decide +kernel) (by decide +kernel)

/-! DuskGates$Marked -/
set_option maxRecDepth 100000
def RX15 : String := "DuskGates$Marked"
abbrev cX15_mark : ByteArray := prog_7_method_3_code
def yX15_mark : MethodName := ⟨RX15, "mark", "(LDuskGates$Trail;)I"⟩
def dkwX15_mark_0 : List UInt8 := [43, 16, 20, 182, 0, 1, 42, 185, 0, 7, 1, 0, 172]
abbrev dktX15_mark_0 : List UInt8 := dkwX15_mark_0 ++ []
theorem dksX15_mark_0 : cX15_mark.data.toList.drop 0 = dktX15_mark_0 := by decide +kernel
theorem dX15_mark_0 : decode cX15_mark 0 = .ok (.aload_n 1, 1) := dk_43 (dk_at dksX15_mark_0 0 rfl rfl)
theorem dX15_mark_1 : decode cX15_mark 1 = .ok (.bipush 20, 2) := dk_16 20 (dk_at dksX15_mark_0 1 rfl rfl)
theorem dX15_mark_3 : decode cX15_mark 3 = .ok (.invokevirtual 1, 3) := dk_182 0 1 (dk_at dksX15_mark_0 3 rfl rfl)
theorem dX15_mark_6 : decode cX15_mark 6 = .ok (.aload_n 0, 1) := dk_42 (dk_at dksX15_mark_0 6 rfl rfl)
theorem dX15_mark_7 : decode cX15_mark 7 = .ok (.invokeinterface 7 1, 5) := by decide +kernel
theorem dX15_mark_12 : decode cX15_mark 12 = .ok (.ireturn, 1) := dk_172 (dk_at dksX15_mark_0 12 rfl rfl)
theorem q1362 : (Jvm.Cond.declares ({ cls := "DuskGates$Marked", name := "mark", desc := "(LDuskGates$Trail;)I" } : Jvm.MethodName)) ∈ lw_tbl := lw_at lw_m6 106 rfl
theorem q1363 : (Jvm.Cond.instanceMethod ({ cls := "DuskGates$Marked", name := "mark", desc := "(LDuskGates$Trail;)I" } : Jvm.MethodName)) ∈ lw_all := lw_g (lw_at lw_m6 107 rfl) rfl
theorem q1364 : (Jvm.Cond.code ({ cls := "DuskGates$Marked", name := "mark", desc := "(LDuskGates$Trail;)I" } : Jvm.MethodName) prog_7_method_3_code (2 : Nat) (Option.some Jvm.ClassFile.FieldType.int)) ∈ lw_all := lw_g (lw_at lw_m6 108 rfl) rfl
theorem q1365 : (Jvm.Cond.methodLink "DuskGates$Marked" (1 : Nat) ({ cls := "DuskGates$Trail", name := "begins", desc := "(I)V" } : Jvm.MethodName)) ∈ lw_all := lw_g (lw_at lw_m6 109 rfl) rfl
theorem q1366 : (Jvm.Cond.interfaceEntry "DuskGates$Marked" (7 : Nat)) ∈ lw_tbl := lw_at lw_m6 110 rfl
theorem q1367 : (Jvm.Cond.methodLink "DuskGates$Marked" (7 : Nat) ({ cls := "DuskGates$Marked", name := "seal", desc := "()I" } : Jvm.MethodName)) ∈ lw_all := lw_g (lw_at lw_m6 111 rfl) rfl
theorem q1368 : (Jvm.Cond.interfaceMethod "DuskGates$Marked" "DuskGates$Marked" "seal" "()I") ∈ lw_tbl := lw_at lw_m6 112 rfl
theorem q1369 : (Jvm.Cond.declares ({ cls := "DuskGates$Marked", name := "seal", desc := "()I" } : Jvm.MethodName)) ∈ lw_tbl := lw_at lw_m6 113 rfl
theorem q1407 : (Jvm.Cond.publicMethod ({ cls := "DuskGates$Marked", name := "mark", desc := "(LDuskGates$Trail;)I" } : Jvm.MethodName)) ∈ lw_tbl := lw_at lw_m6 151 rfl
theorem q1972 : (Jvm.Cond.initialized "DuskGates$Marked") ∈ lw_all := lw_g (lw_at lw_m8 236 rfl) rfl
